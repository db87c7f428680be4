/-! JOINT LEMMAS, part 8: sums, cost, told. Printed by j6.py. -/
section LJ8
variable {E : Nat → ClassId} {bk : lp_Bk} {th S lt : Int32} {T : Int64} {P R L B Kd C : Nat} {ra rb rl fa aa su cp cl cf ck cm le tr re bh so br wh wy : Nat → Nat} {ct rs : Nat → Int32} {ce : Nat → Int64}
variable {B' Nw U : Nat} {fr to ln aw su' ca we fa' sb tb wk nw wo k0 k1 k2 k3 k4 k5 : Nat → Nat} {RE : Nat → Nat → Nat} {BF : Nat → Option Nat} {BK : va_W}
theorem lj_su (h : lj E bk ((th, S, T, P, R, L, B, Kd, lt, C), (ra, rb, rl, fa), (aa, su), (cp, cl, cf, ck, cm, ct), (le, tr, re), (bh, so, br, rs, ce), (wh, wy)) ((P, R, T, S, L, B', Nw, U, C, Kd), (fr, to, ln, aw), (su', ca, we, fa', sb, tb), (wk, nw, wo), (k0, k1, k2, k3, k4, k5), RE, BF, BK)) (hL : 1 ≤ L) : ∀ k, k < L → su' k = su k := by
  obtain ⟨e1, e2⟩ := lj_d h hL
  obtain ⟨⟨h1, h2, h3, h4, h5, h6, h7, h8⟩, hro, hca, hbm, hbc, hjm, hjc⟩ := h
  have hb : lb_Jx P R L B' Nw U C Kd fr to ln aw su' ca we fa' sb tb := hjc
  have hm : lm_Jx P R L B C Kd lt ra rb rl fa aa su cp cl cf ck cm ct le tr := hjm
  have hD := hb.2.2.2.2.2.2.2.2 hL
  have hM := hm.2.2.2.2.2.2.2.2.2 hL
  intro k hk
  rw [hD.2.2.2.2.2.2.2.1 k hk, hM.2.2.2.2.2.2.2.1 k hk, ← lp_sm_d (fun a b ha hb9 => e2 a b ha hb9) hb.1 hb.2.2.2.1 hD.1 hD.2.1 hD.2.2.1 k C (Nat.le_refl _), e1]
  exact lp_sm_congr (fun i hi => (hca i hi).1) (fun i hi => (hca i hi).2.1) C (Nat.le_refl _)
theorem lj_cost (h : lj E bk ((th, S, T, P, R, L, B, Kd, lt, C), (ra, rb, rl, fa), (aa, su), (cp, cl, cf, ck, cm, ct), (le, tr, re), (bh, so, br, rs, ce), (wh, wy)) ((P, R, T, S, L, B', Nw, U, C, Kd), (fr, to, ln, aw), (su', ca, we, fa', sb, tb), (wk, nw, wo), (k0, k1, k2, k3, k4, k5), RE, BF, BK)) (x : Int32) : lp_csA L su' x = lp_csA L su x := by
  unfold lp_csA
  by_cases e : L = 0
  · rw [if_pos e, if_pos e]
  · have hs := lj_su h (Nat.one_le_iff_ne_zero.mpr e)
    have hL3 : L ≤ 3 := by
      obtain ⟨-, -, -, -, -, -, hjc⟩ := h
      exact hjc.2.2.2.1
    rw [if_neg e, if_neg e, lp_tot_congr L hs]
    by_cases e2 : lp_in x L
    · obtain ⟨k, hk, rfl⟩ := lp_in_N e2 (by omega)
      rw [if_pos e2, if_pos e2, nI_clamp (by omega), hs k hk]
    · rw [if_neg e2, if_neg e2]
theorem lj_cf (h : lj E bk ((th, S, T, P, R, L, B, Kd, lt, C), (ra, rb, rl, fa), (aa, su), (cp, cl, cf, ck, cm, ct), (le, tr, re), (bh, so, br, rs, ce), (wh, wy)) ((P, R, T, S, L, B', Nw, U, C, Kd), (fr, to, ln, aw), (su', ca, we, fa', sb, tb), (wk, nw, wo), (k0, k1, k2, k3, k4, k5), RE, BF, BK)) (hL : 1 ≤ L) : ∀ i, i < C → fa' i / 8 = cf i := by
  obtain ⟨e1, e2⟩ := lj_d h hL
  obtain ⟨⟨h1, h2, h3, h4, h5, h6, h7, h8⟩, hro, hca, hbm, hbc, hjm, hjc⟩ := h
  have hb : lb_Jx P R L B' Nw U C Kd fr to ln aw su' ca we fa' sb tb := hjc
  have hm : lm_Jx P R L B C Kd lt ra rb rl fa aa su cp cl cf ck cm ct le tr := hjm
  have hD := hb.2.2.2.2.2.2.2.2 hL
  have hM := hm.2.2.2.2.2.2.2.2.2 hL
  intro i hi
  have h9 := hD.2.2.2.2.2.2.2.2.2.1 i hi
  have hdg : lp_dg (lp_sn B' ca we i) (we i) < 8 := lp_dg_lt _ _
  rw [hM.2.2.2.2.2.2.2.2.2.1 i hi, show fa' i / 8 = lp_cf aw B' ca we i by omega, ← lp_cf_d (fun a b ha hb9 => e2 a b ha hb9) hb.1 hb.2.2.2.1 hD.1 hD.2.1 hD.2.2.1 hi, e1]
  exact lp_cf_congr (fun i hi => (hca i hi).1) (fun i hi => (hca i hi).2.1) hi
end LJ8
