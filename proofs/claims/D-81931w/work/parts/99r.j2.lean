/-! JOINT LEMMAS, part 2: road, begin, back, torn. Printed by j2.py. -/
section LJ2
variable {E : Nat → ClassId} {bk : lp_Bk} {th S lt : Int32} {T : Int64} {P R L B Kd C : Nat} {ra rb rl fa aa su cp cl cf ck cm le tr re bh so br wh wy : Nat → Nat} {ct rs : Nat → Int32} {ce : Nat → Int64}
variable {B' Nw U : Nat} {fr to ln aw su' ca we fa' sb tb wk nw wo k0 k1 k2 k3 k4 k5 : Nat → Nat} {RE : Nat → Nat → Nat} {BF : Nat → Option Nat} {BK : va_W}
theorem lj_road {a b d : Int64} {aw' : Nat → Nat} (h : lj E bk ((th, S, T, P, R, L, B, Kd, lt, C), (ra, rb, rl, fa), (aa, su), (cp, cl, cf, ck, cm, ct), (le, tr, re), (bh, so, br, rs, ce), (wh, wy)) ((P, R, T, S, L, B', Nw, U, C, Kd), (fr, to, ln, aw), (su', ca, we, fa', sb, tb), (wk, nw, wo), (k0, k1, k2, k3, k4, k5), RE, BF, BK)) (hg : lp_rdGo P R L a b d) (haw : ∀ x y, x < P → y < P → aw' (6 * x + y) = lp_ds 1000000 (va_up fr R a.toInt.toNat) (va_up to R b.toInt.toNat) (va_up ln R d.toInt.toNat) (R + 1) P x y) : lj E bk ((nI 0, S, T, P, R + 1, L, B, Kd, lt, C), (va_up ra R a.toInt.toNat, va_up rb R b.toInt.toNat, va_up rl R d.toInt.toNat, fa), (aa, su), (cp, cl, cf, ck, cm, ct), (le, tr, re), (bh, so, br, rs, ce), (wh, wy)) ((P, R + 1, T, S, L, B', Nw, U, C, Kd), (va_up fr R a.toInt.toNat, va_up to R b.toInt.toNat, va_up ln R d.toInt.toNat, aw'), (su', ca, we, fa', sb, tb), (wk, nw, wo), (k0, k1, k2, k3, k4, k5), RE, BF, BK) := by
  obtain ⟨⟨h1, h2, h3, h4, h5, h6, h7, h8⟩, hro, hca, hbm, hbc, hjm, hjc⟩ := h
  refine ⟨⟨rfl, rfl, rfl, rfl, rfl, h6, rfl, rfl⟩, fun k hk => ?_, hca, hbm, hbc, lm_J_road hjm hg, lb_J_road hjc hg haw⟩
  by_cases e : k = R
  · subst e
    simp only [va_up_self]
    exact ⟨trivial, trivial, trivial⟩
  · simp only [va_up_ne _ _ e]
    exact hro k (Nat.lt_of_le_of_ne (Nat.le_of_lt_succ hk) e)
theorem lj_torn (h : lj E bk ((th, S, T, P, R, L, B, Kd, lt, C), (ra, rb, rl, fa), (aa, su), (cp, cl, cf, ck, cm, ct), (le, tr, re), (bh, so, br, rs, ce), (wh, wy)) ((P, R, T, S, L, B', Nw, U, C, Kd), (fr, to, ln, aw), (su', ca, we, fa', sb, tb), (wk, nw, wo), (k0, k1, k2, k3, k4, k5), RE, BF, BK)) : lp_torn0 1000000 P aw ↔ lp_torn 100000000 P (lp_ds 100000000 ra rb rl R 6) := by
  obtain ⟨⟨h1, h2, h3, h4, h5, h6, h7, h8⟩, hro, hca, hbm, hbc, hjm, hjc⟩ := h
  have hj : lb_Jx P R L B' Nw U C Kd fr to ln aw su' ca we fa' sb tb := hjc
  have e : lp_ds 100000000 fr to ln R 6 = lp_ds 100000000 ra rb rl R 6 := by
    funext a b
    exact lp_ds_congr hro 6 a b
  rw [← e]
  exact lp_torn_iff hj.1 (fun j hj1 => ⟨(hj.2.2.1 j hj1).1, (hj.2.2.1 j hj1).2.1, (hj.2.2.1 j hj1).2.2.1, (hj.2.2.1 j hj1).2.2.2.2⟩) hj.2.2.2.2.2.2.2.1
theorem lj_begin {k x : Nat} {lt' : Int32} {fa2 aa2 su2 le2 su3 : Nat → Nat} (h : lj E bk ((th, S, T, P, R, L, B, Kd, lt, C), (ra, rb, rl, fa), (aa, su), (cp, cl, cf, ck, cm, ct), (le, tr, re), (bh, so, br, rs, ce), (wh, wy)) ((P, R, T, S, L, B', Nw, U, C, Kd), (fr, to, ln, aw), (su', ca, we, fa', sb, tb), (wk, nw, wo), (k0, k1, k2, k3, k4, k5), RE, BF, BK)) (hk1 : 1 ≤ k) (hk3 : k ≤ 3) (hsd : lp_sd P k x) (ht : ¬ lp_torn0 1000000 P aw) (hsu : ∀ i, i < 3 → su3 i = 0) (hm : lm_J ((nI 0, S, T, P, R, k, x, Kd, lt', 0), (ra, rb, rl, fa2), (aa2, su2), (cp, cl, cf, ck, cm, ct), (le2, tr, re), (bh, so, br, rs, ce), (wh, wy))) : lj E bk ((nI 0, S, T, P, R, k, x, Kd, lt', 0), (ra, rb, rl, fa2), (aa2, su2), (cp, cl, cf, ck, cm, ct), (le2, tr, re), (bh, so, br, rs, ce), (wh, wy)) ((P, R, T, S, k, x, x, 0, 0, Kd), (fr, to, ln, aw), (su3, ca, we, fa', sb, tb), (wk, nw, wo), (k0, k1, k2, k3, k4, k5), RE, BF, BK) := by
  obtain ⟨⟨h1, h2, h3, h4, h5, h6, h7, h8⟩, hro, hca, hbm, hbc, hjm, hjc⟩ := h
  exact ⟨⟨rfl, rfl, rfl, rfl, rfl, fun _ => rfl, rfl, rfl⟩, hro, fun i hi => absurd hi (Nat.not_lt_zero _), hbm, hbc, hm, lb_J_begin hjc hk1 hk3 hsd ht hsu⟩
theorem lj_back {c : Nat} {lt' : Int32} {aa2 su2 : Nat → Nat} (h : lj E bk ((th, S, T, P, R, L, B, Kd, lt, c + 1), (ra, rb, rl, fa), (aa, su), (cp, cl, cf, ck, cm, ct), (le, tr, re), (bh, so, br, rs, ce), (wh, wy)) ((P, R, T, S, L, B', Nw, U, c + 1, Kd), (fr, to, ln, aw), (su', ca, we, fa', sb, tb), (wk, nw, wo), (k0, k1, k2, k3, k4, k5), RE, BF, BK)) (hm : lm_J ((nI 0, S, T, P, R, L, B, Kd, lt', c), (ra, rb, rl, fa), (aa2, su2), (cp, cl, cf, ck, cm, ct), (le, tr, re), (bh, so, br, rs, ce), (wh, wy))) : lj E bk ((nI 0, S, T, P, R, L, B, Kd, lt', c), (ra, rb, rl, fa), (aa2, su2), (cp, cl, cf, ck, cm, ct), (le, tr, re), (bh, so, br, rs, ce), (wh, wy)) ((P, R, T, S, L, B', lp_mv Nw (we c) (fa' c % 8), tb c, c, Kd), (fr, to, ln, aw), (va_up su' (we c) (su' (we c) - fa' c / 8), ca, we, fa', sb, tb), (wk, nw, wo), (k0, k1, k2, k3, k4, k5), RE, BF, BK) := by
  obtain ⟨⟨h1, h2, h3, h4, h5, h6, h7, h8⟩, hro, hca, hbm, hbc, hjm, hjc⟩ := h
  exact ⟨⟨rfl, rfl, rfl, rfl, rfl, h6, rfl, rfl⟩, hro, fun i hi => hca i (Nat.lt_succ_of_lt hi), hbm, hbc, hm, lb_J_back hjc⟩
end LJ2
