/-! JOINT LEMMAS, part 3: the day's distances, the ladder chosen, call. Printed by j3.py. -/
section LJ3
variable {E : Nat → ClassId} {bk : lp_Bk} {th S lt : Int32} {T : Int64} {P R L B Kd C : Nat} {ra rb rl fa aa su cp cl cf ck cm le tr re bh so br wh wy : Nat → Nat} {ct rs : Nat → Int32} {ce : Nat → Int64}
variable {B' Nw U : Nat} {fr to ln aw su' ca we fa' sb tb wk nw wo k0 k1 k2 k3 k4 k5 : Nat → Nat} {RE : Nat → Nat → Nat} {BF : Nat → Option Nat} {BK : va_W}
theorem lj_d (h : lj E bk ((th, S, T, P, R, L, B, Kd, lt, C), (ra, rb, rl, fa), (aa, su), (cp, cl, cf, ck, cm, ct), (le, tr, re), (bh, so, br, rs, ce), (wh, wy)) ((P, R, T, S, L, B', Nw, U, C, Kd), (fr, to, ln, aw), (su', ca, we, fa', sb, tb), (wk, nw, wo), (k0, k1, k2, k3, k4, k5), RE, BF, BK)) (hL : 1 ≤ L) : B' = B ∧ ∀ a b, a < P → b < P → fa (6 * a + b) = aw (6 * a + b) := by
  obtain ⟨⟨h1, h2, h3, h4, h5, h6, h7, h8⟩, hro, hca, hbm, hbc, hjm, hjc⟩ := h
  have hb : lb_Jx P R L B' Nw U C Kd fr to ln aw su' ca we fa' sb tb := hjc
  have hm : lm_Jx P R L B C Kd lt ra rb rl fa aa su cp cl cf ck cm ct le tr := hjm
  refine ⟨h6 hL, fun a b ha hb9 => ?_⟩
  have hP := hb.1
  rw [(hm.2.2.2.2.2.2.2.2.2 hL).2.2.2.2.1 a b (by omega) (by omega), ← lp_ds_congr hro 6 a b, hb.2.2.2.2.2.2.2.1 a b ha hb9]
  rcases lp_dist hP (fun j hj => ⟨(hb.2.2.1 j hj).1, (hb.2.2.1 j hj).2.1, (hb.2.2.1 j hj).2.2.2.2⟩) ha hb9 with ⟨e1, e2⟩ | ⟨e1, e2⟩
  · have := (hb.2.2.2.2.2.2.2.2 hL).2.2.2.2.1 a b ha hb9
    rw [hb.2.2.2.2.2.2.2.1 a b ha hb9, e1] at this
    omega
  · exact e1.symm
theorem lj_cho (h : lj E bk ((th, S, T, P, R, L, B, Kd, lt, C), (ra, rb, rl, fa), (aa, su), (cp, cl, cf, ck, cm, ct), (le, tr, re), (bh, so, br, rs, ce), (wh, wy)) ((P, R, T, S, L, B', Nw, U, C, Kd), (fr, to, ln, aw), (su', ca, we, fa', sb, tb), (wk, nw, wo), (k0, k1, k2, k3, k4, k5), RE, BF, BK)) (hL : 1 ≤ L) {p : Nat} (hp : p < P) : lp_cho L aw B' ca we sb C Kd p = lp_cho L fa B cp cl ck C Kd p := by
  obtain ⟨e1, e2⟩ := lj_d h hL
  obtain ⟨⟨h1, h2, h3, h4, h5, h6, h7, h8⟩, hro, hca, hbm, hbc, hjm, hjc⟩ := h
  have hb : lb_Jx P R L B' Nw U C Kd fr to ln aw su' ca we fa' sb tb := hjc
  have hm : lm_Jx P R L B C Kd lt ra rb rl fa aa su cp cl cf ck cm ct le tr := hjm
  have hD := hb.2.2.2.2.2.2.2.2 hL
  rw [← lp_cho_congr (fun i hi => (hca i hi).1) (fun i hi => (hca i hi).2.1) (fun i hi => (hca i hi).2.2), ← e1]
  exact (lp_cho_d (fun a b ha hb9 => e2 a b ha hb9) hb.1 hL hb.2.2.2.1 hD.1 hD.2.1 hD.2.2.1 hp).symm
theorem lj_now (h : lj E bk ((th, S, T, P, R, L, B, Kd, lt, C), (ra, rb, rl, fa), (aa, su), (cp, cl, cf, ck, cm, ct), (le, tr, re), (bh, so, br, rs, ce), (wh, wy)) ((P, R, T, S, L, B', Nw, U, C, Kd), (fr, to, ln, aw), (su', ca, we, fa', sb, tb), (wk, nw, wo), (k0, k1, k2, k3, k4, k5), RE, BF, BK)) (hL : 1 ≤ L) : Nw = lp_sn B cp cl C := by
  obtain ⟨e1, e2⟩ := lj_d h hL
  obtain ⟨⟨h1, h2, h3, h4, h5, h6, h7, h8⟩, hro, hca, hbm, hbc, hjm, hjc⟩ := h
  have hb : lb_Jx P R L B' Nw U C Kd fr to ln aw su' ca we fa' sb tb := hjc
  have hm : lm_Jx P R L B C Kd lt ra rb rl fa aa su cp cl cf ck cm ct le tr := hjm
  rw [(hb.2.2.2.2.2.2.2.2 hL).2.2.2.2.2.2.1, e1]
  exact lp_sn_congr (fun i hi => (hca i hi).1) (fun i hi => (hca i hi).2.1) C (Nat.le_refl _)
theorem lj_call {p Nw2 U2 : Nat} {lt' : Int32} {aa2 su2 cf2 cm2 le2 su3 ca2 fa3 tb2 wk2 nw2 wo2 : Nat → Nat} {ct2 : Nat → Int32} (h : lj E bk ((th, S, T, P, R, L, B, Kd, lt, C), (ra, rb, rl, fa), (aa, su), (cp, cl, cf, ck, cm, ct), (le, tr, re), (bh, so, br, rs, ce), (wh, wy)) ((P, R, T, S, L, B', Nw, U, C, Kd), (fr, to, ln, aw), (su', ca, we, fa', sb, tb), (wk, nw, wo), (k0, k1, k2, k3, k4, k5), RE, BF, BK)) (hL : 1 ≤ L) (hp : p < P) (hc1 : ∀ i, i < C → ca2 i = ca i) (hc2 : ca2 C = p) (hm2 : lm_J ((nI 0, S, lp_trc Kd L (lp_hs L (lp_sn B cp cl C) p) T, P, R, L, B, Kd, lt', C + 1), (ra, rb, rl, fa), (aa2, su2), (va_up cp C p, va_up cl C (lp_cho L fa B cp cl ck C Kd p), cf2, va_up ck C Kd, cm2, ct2), (le2, tr, re), (bh, so, br, rs, ce), (wh, wy))) (hj2 : lb_J ((P, R, lp_trc Kd L (lp_hs L Nw p) T, S, L, B', Nw2, U2, C + 1, Kd), (fr, to, ln, aw), (su3, ca2, va_up we C (lp_cho L aw B' ca we sb C Kd p), fa3, va_up sb C Kd, tb2), (wk2, nw2, wo2), (k0, k1, k2, k3, k4, k5), RE, BF, BK)) : lj E bk ((nI 0, S, lp_trc Kd L (lp_hs L (lp_sn B cp cl C) p) T, P, R, L, B, Kd, lt', C + 1), (ra, rb, rl, fa), (aa2, su2), (va_up cp C p, va_up cl C (lp_cho L fa B cp cl ck C Kd p), cf2, va_up ck C Kd, cm2, ct2), (le2, tr, re), (bh, so, br, rs, ce), (wh, wy)) ((P, R, lp_trc Kd L (lp_hs L Nw p) T, S, L, B', Nw2, U2, C + 1, Kd), (fr, to, ln, aw), (su3, ca2, va_up we C (lp_cho L aw B' ca we sb C Kd p), fa3, va_up sb C Kd, tb2), (wk2, nw2, wo2), (k0, k1, k2, k3, k4, k5), RE, BF, BK) := by
  have e1 := lj_cho h hL hp
  have e2 := lj_now h hL
  obtain ⟨⟨h1, h2, h3, h4, h5, h6, h7, h8⟩, hro, hca, hbm, hbc, hjm, hjc⟩ := h
  have hb : lb_Jx P R L B' Nw U C Kd fr to ln aw su' ca we fa' sb tb := hjc
  have hm : lm_Jx P R L B C Kd lt ra rb rl fa aa su cp cl cf ck cm ct le tr := hjm
  refine ⟨⟨rfl, rfl, by rw [e2], rfl, rfl, h6, rfl, rfl⟩, hro, fun i hi => ?_, hbm, hbc, hm2, hj2⟩
  by_cases e : i = C
  · subst e
    simp only [va_up_self]
    exact ⟨hc2, e1, trivial⟩
  · simp only [va_up_ne _ _ e]
    have hi2 : i < C := Nat.lt_of_le_of_ne (Nat.le_of_lt_succ hi) e
    exact ⟨(hc1 i hi2).trans (hca i hi2).1, (hca i hi2).2.1, (hca i hi2).2.2⟩
end LJ3
