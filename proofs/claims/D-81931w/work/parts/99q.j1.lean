/-! JOINT LEMMAS, part 1: place, end, rule. Printed by j1.py. -/
section LJ1
variable {E : Nat → ClassId} {bk : lp_Bk} {th S lt : Int32} {T : Int64} {P R L B Kd C : Nat} {ra rb rl fa aa su cp cl cf ck cm le tr re bh so br wh wy : Nat → Nat} {ct rs : Nat → Int32} {ce : Nat → Int64}
variable {B' Nw U : Nat} {fr to ln aw su' ca we fa' sb tb wk nw wo k0 k1 k2 k3 k4 k5 : Nat → Nat} {RE : Nat → Nat → Nat} {BF : Nat → Option Nat} {BK : va_W}
theorem lm_J_end (hJ : lm_Jx P R L B C Kd lt ra rb rl fa aa su cp cl cf ck cm ct le tr) : lm_Jx P R 0 B 0 Kd lt ra rb rl fa aa su cp cl cf ck cm ct le tr := by
  obtain ⟨hP, hR, hro, -, -, hKd, -, hle, htr, -⟩ := hJ
  exact ⟨hP, hR, hro, by omega, by omega, hKd, fun _ => rfl, hle, htr, fun h => by omega⟩
theorem lm_J_rule {k : Nat} (hJ : lm_Jx P R L B C Kd lt ra rb rl fa aa su cp cl cf ck cm ct le tr) (hk : k ≤ 3) : lm_Jx P R L B C k lt ra rb rl fa aa su cp cl cf ck cm ct le tr := by
  obtain ⟨hP, hR, hro, hL, hC, -, hLC, hle, htr, hD⟩ := hJ
  exact ⟨hP, hR, hro, hL, hC, hk, hLC, hle, htr, hD⟩
theorem lm_J_place (hJ : lm_Jx P R L B C Kd lt ra rb rl fa aa su cp cl cf ck cm ct le tr) (hL : L = 0) (hP6 : P < 6) : lm_Jx (P + 1) R L B C Kd lt ra rb rl fa aa su cp cl cf ck cm ct le tr := by
  obtain ⟨-, hR, hro, hL3, hC, hKd, hLC, hle, htr, -⟩ := hJ
  exact ⟨by omega, hR, fun k hk => ⟨by have := (hro k hk).1; omega, by have := (hro k hk).2.1; omega, (hro k hk).2.2⟩, hL3, hC, hKd, hLC, hle, htr, fun h => by omega⟩
theorem lj_end (h : lj E bk ((th, S, T, P, R, L, B, Kd, lt, C), (ra, rb, rl, fa), (aa, su), (cp, cl, cf, ck, cm, ct), (le, tr, re), (bh, so, br, rs, ce), (wh, wy)) ((P, R, T, S, L, B', Nw, U, C, Kd), (fr, to, ln, aw), (su', ca, we, fa', sb, tb), (wk, nw, wo), (k0, k1, k2, k3, k4, k5), RE, BF, BK)) : (L = 0 → lj E bk ((nI 0, S, T, P, R, L, B, Kd, lt, C), (ra, rb, rl, fa), (aa, su), (cp, cl, cf, ck, cm, ct), (le, tr, re), (bh, so, br, rs, ce), (wh, wy)) ((P, R, T, S, L, B', Nw, U, C, Kd), (fr, to, ln, aw), (su', ca, we, fa', sb, tb), (wk, nw, wo), (k0, k1, k2, k3, k4, k5), RE, BF, BK)) ∧ (1 ≤ L → lj E bk ((nI 0, S, T, P, R, 0, B, Kd, lt, 0), (ra, rb, rl, fa), (aa, su), (cp, cl, cf, ck, cm, ct), (le, tr, re), (bh, so, br, rs, ce), (wh, wy)) ((P, R, T, S, 0, B', Nw, U, 0, Kd), (fr, to, ln, aw), (su', ca, we, fa', sb, tb), (wk, nw, wo), (k0, k1, k2, k3, k4, k5), RE, BF, BK)) := by
  refine ⟨fun _ => h, fun _ => ?_⟩
  obtain ⟨⟨h1, h2, h3, h4, h5, h6, h7, h8⟩, hro, hca, hbm, hbc, hjm, hjc⟩ := h
  exact ⟨⟨rfl, rfl, rfl, rfl, rfl, fun z => by omega, rfl, rfl⟩, hro, fun i hi => absurd hi (Nat.not_lt_zero _), hbm, hbc, lm_J_end hjm, lb_J_end hjc⟩
theorem lj_rule {k : Nat} (h : lj E bk ((th, S, T, P, R, L, B, Kd, lt, C), (ra, rb, rl, fa), (aa, su), (cp, cl, cf, ck, cm, ct), (le, tr, re), (bh, so, br, rs, ce), (wh, wy)) ((P, R, T, S, L, B', Nw, U, C, Kd), (fr, to, ln, aw), (su', ca, we, fa', sb, tb), (wk, nw, wo), (k0, k1, k2, k3, k4, k5), RE, BF, BK)) (hk : k < 4) : lj E bk ((nI 0, S, T, P, R, L, B, k, lt, C), (ra, rb, rl, fa), (aa, su), (cp, cl, cf, ck, cm, ct), (le, tr, re), (bh, so, br, rs, ce), (wh, wy)) ((P, R, T, S, L, B', Nw, U, C, k), (fr, to, ln, aw), (su', ca, we, fa', sb, tb), (wk, nw, wo), (k0, k1, k2, k3, k4, k5), RE, BF, BK) := by
  obtain ⟨⟨h1, h2, h3, h4, h5, h6, h7, h8⟩, hro, hca, hbm, hbc, hjm, hjc⟩ := h
  exact ⟨⟨rfl, rfl, rfl, rfl, rfl, h6, rfl, rfl⟩, hro, hca, hbm, hbc, lm_J_rule (k := k) hjm (Nat.le_of_lt_succ hk), lb_J_rule (k := k) hjc hk⟩
theorem lj_place {aw' : Nat → Nat} (h : lj E bk ((th, S, T, P, R, L, B, Kd, lt, C), (ra, rb, rl, fa), (aa, su), (cp, cl, cf, ck, cm, ct), (le, tr, re), (bh, so, br, rs, ce), (wh, wy)) ((P, R, T, S, L, B', Nw, U, C, Kd), (fr, to, ln, aw), (su', ca, we, fa', sb, tb), (wk, nw, wo), (k0, k1, k2, k3, k4, k5), RE, BF, BK)) (hL : L = 0) (hP : P < 6) (haw : ∀ a b, a < P + 1 → b < P + 1 → aw' (6 * a + b) = (lp_ds 1000000 fr to ln R (P + 1)) a b) : lj E bk ((nI 0, S, T, P + 1, R, L, B, Kd, lt, C), (ra, rb, rl, fa), (aa, su), (cp, cl, cf, ck, cm, ct), (le, tr, re), (bh, so, br, rs, ce), (wh, wy)) ((P + 1, R, T, S, L, B', Nw, U, C, Kd), (fr, to, ln, aw'), (su', ca, we, fa', sb, tb), (wk, nw, wo), (k0, k1, k2, k3, k4, k5), RE, BF, BK) := by
  obtain ⟨⟨h1, h2, h3, h4, h5, h6, h7, h8⟩, hro, hca, hbm, hbc, hjm, hjc⟩ := h
  exact ⟨⟨rfl, rfl, rfl, rfl, rfl, h6, rfl, rfl⟩, hro, hca, hbm, hbc, lm_J_place hjm hL hP, lb_J_place hjc hL hP haw⟩
end LJ1
