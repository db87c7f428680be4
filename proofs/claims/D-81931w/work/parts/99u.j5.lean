/-! JOINT LEMMAS, part 5: ask, cruel's place, what is scratch. Printed by j5.py. -/
section LJ5
variable {E : Nat → ClassId} {bk : lp_Bk} {th S lt : Int32} {T : Int64} {P R L B Kd C : Nat} {ra rb rl fa aa su cp cl cf ck cm le tr re bh so br wh wy : Nat → Nat} {ct rs : Nat → Int32} {ce : Nat → Int64}
variable {B' Nw U : Nat} {fr to ln aw su' ca we fa' sb tb wk nw wo k0 k1 k2 k3 k4 k5 : Nat → Nat} {RE : Nat → Nat → Nat} {BF : Nat → Option Nat} {BK : va_W}
theorem lj_ask {p : Nat} {tr2 ca2 wk2 nw2 wo2 : Nat → Nat} (h : lj E bk ((th, S, T, P, R, L, B, Kd, lt, C), (ra, rb, rl, fa), (aa, su), (cp, cl, cf, ck, cm, ct), (le, tr, re), (bh, so, br, rs, ce), (wh, wy)) ((P, R, T, S, L, B', Nw, U, C, Kd), (fr, to, ln, aw), (su', ca, we, fa', sb, tb), (wk, nw, wo), (k0, k1, k2, k3, k4, k5), RE, BF, BK)) (hL : 1 ≤ L) (hc1 : ∀ i, i < C → ca2 i = ca i) (hm2 : lm_J ((nI 0, S, lp_trc Kd L (lp_hs L (lp_sn B cp cl C) p) T, P, R, L, B, Kd, lt, C), (ra, rb, rl, fa), (aa, su), (cp, cl, cf, ck, cm, ct), (le, tr2, re), (bh, so, br, rs, ce), (wh, wy))) (hj2 : lb_J ((P, R, lp_trc Kd L (lp_hs L Nw p) T, S, L, B', Nw, U, C, Kd), (fr, to, ln, aw), (su', ca2, we, fa', sb, tb), (wk2, nw2, wo2), (k0, k1, k2, k3, k4, k5), RE, BF, BK)) : lj E bk ((nI 0, S, lp_trc Kd L (lp_hs L (lp_sn B cp cl C) p) T, P, R, L, B, Kd, lt, C), (ra, rb, rl, fa), (aa, su), (cp, cl, cf, ck, cm, ct), (le, tr2, re), (bh, so, br, rs, ce), (wh, wy)) ((P, R, lp_trc Kd L (lp_hs L Nw p) T, S, L, B', Nw, U, C, Kd), (fr, to, ln, aw), (su', ca2, we, fa', sb, tb), (wk2, nw2, wo2), (k0, k1, k2, k3, k4, k5), RE, BF, BK) := by
  have e2 := lj_now h hL
  obtain ⟨⟨h1, h2, h3, h4, h5, h6, h7, h8⟩, hro, hca, hbm, hbc, hjm, hjc⟩ := h
  exact ⟨⟨rfl, rfl, by rw [e2], rfl, rfl, h6, rfl, rfl⟩, hro, fun i hi => ⟨(hc1 i hi).trans (hca i hi).1, (hca i hi).2⟩, hbm, hbc, hm2, hj2⟩
theorem lj_wk {wk2 nw2 wo2 : Nat → Nat} (h : lj E bk ((th, S, T, P, R, L, B, Kd, lt, C), (ra, rb, rl, fa), (aa, su), (cp, cl, cf, ck, cm, ct), (le, tr, re), (bh, so, br, rs, ce), (wh, wy)) ((P, R, T, S, L, B', Nw, U, C, Kd), (fr, to, ln, aw), (su', ca, we, fa', sb, tb), (wk, nw, wo), (k0, k1, k2, k3, k4, k5), RE, BF, BK)) : lj E bk ((nI 0, S, T, P, R, L, B, Kd, lt, C), (ra, rb, rl, fa), (aa, su), (cp, cl, cf, ck, cm, ct), (le, tr, re), (bh, so, br, rs, ce), (wh, wy)) ((P, R, T, S, L, B', Nw, U, C, Kd), (fr, to, ln, aw), (su', ca, we, fa', sb, tb), (wk2, nw2, wo2), (k0, k1, k2, k3, k4, k5), RE, BF, BK) := h
theorem lp_free_uniq {N p q : Nat} (h1 : lp_free P L N p) (h2 : lp_free P L N q) : p = q := by
  obtain ⟨a1, a2, a3⟩ := h1
  obtain ⟨b1, b2, b3⟩ := h2
  rcases Nat.lt_trichotomy p q with h | h | h
  · exact absurd (b3 p h) a2
  · exact h
  · exact absurd (a3 q h) b2
end LJ5
