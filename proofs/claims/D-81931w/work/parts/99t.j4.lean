/-! JOINT LEMMAS, part 4: apart, stand. Printed by j4.py. -/
section LJ4
variable {E : Nat → ClassId} {bk : lp_Bk} {th S lt : Int32} {T : Int64} {P R L B Kd C : Nat} {ra rb rl fa aa su cp cl cf ck cm le tr re bh so br wh wy : Nat → Nat} {ct rs : Nat → Int32} {ce : Nat → Int64}
variable {B' Nw U : Nat} {fr to ln aw su' ca we fa' sb tb wk nw wo k0 k1 k2 k3 k4 k5 : Nat → Nat} {RE : Nat → Nat → Nat} {BF : Nat → Option Nat} {BK : va_W}
theorem lj_th (h : lj E bk ((th, S, T, P, R, L, B, Kd, lt, C), (ra, rb, rl, fa), (aa, su), (cp, cl, cf, ck, cm, ct), (le, tr, re), (bh, so, br, rs, ce), (wh, wy)) ((P, R, T, S, L, B', Nw, U, C, Kd), (fr, to, ln, aw), (su', ca, we, fa', sb, tb), (wk, nw, wo), (k0, k1, k2, k3, k4, k5), RE, BF, BK)) : lj E bk ((nI 0, S, T, P, R, L, B, Kd, lt, C), (ra, rb, rl, fa), (aa, su), (cp, cl, cf, ck, cm, ct), (le, tr, re), (bh, so, br, rs, ce), (wh, wy)) ((P, R, T, S, L, B', Nw, U, C, Kd), (fr, to, ln, aw), (su', ca, we, fa', sb, tb), (wk, nw, wo), (k0, k1, k2, k3, k4, k5), RE, BF, BK) := h
theorem lj_apart (h : lj E bk ((th, S, T, P, R, L, B, Kd, lt, C), (ra, rb, rl, fa), (aa, su), (cp, cl, cf, ck, cm, ct), (le, tr, re), (bh, so, br, rs, ce), (wh, wy)) ((P, R, T, S, L, B', Nw, U, C, Kd), (fr, to, ln, aw), (su', ca, we, fa', sb, tb), (wk, nw, wo), (k0, k1, k2, k3, k4, k5), RE, BF, BK)) (a b : Int32) : lp_apA 1000000 P (fun a b => aw (6 * a + b)) a b = lp_apA 100000000 P (lp_ds 100000000 ra rb rl R 6) a b := by
  obtain ⟨⟨h1, h2, h3, h4, h5, h6, h7, h8⟩, hro, hca, hbm, hbc, hjm, hjc⟩ := h
  have hb : lb_Jx P R L B' Nw U C Kd fr to ln aw su' ca we fa' sb tb := hjc
  have e : lp_ds 100000000 fr to ln R 6 = lp_ds 100000000 ra rb rl R 6 := by
    funext a b
    exact lp_ds_congr hro 6 a b
  rw [← e]
  exact lp_apA_eq hb.1 (fun j hj => ⟨(hb.2.2.1 j hj).1, (hb.2.2.1 j hj).2.1, (hb.2.2.1 j hj).2.2.2.2⟩) hb.2.2.2.2.2.2.2.1 a b
theorem lj_stand (h : lj E bk ((th, S, T, P, R, L, B, Kd, lt, C), (ra, rb, rl, fa), (aa, su), (cp, cl, cf, ck, cm, ct), (le, tr, re), (bh, so, br, rs, ce), (wh, wy)) ((P, R, T, S, L, B', Nw, U, C, Kd), (fr, to, ln, aw), (su', ca, we, fa', sb, tb), (wk, nw, wo), (k0, k1, k2, k3, k4, k5), RE, BF, BK)) : (if L = 0 then (-2 : Int32) else nI Nw) = (if L = 0 then -2 else nI (lp_sn B cp cl C)) := by
  by_cases e : L = 0
  · rw [if_pos e, if_pos e]
  · rw [if_neg e, if_neg e, lj_now h (Nat.one_le_iff_ne_zero.mpr e)]
end LJ4
