/-! THE MODEL's INVARIANT behind one more call, and one less. -/
section LMS
variable {P R L B C Kd : Nat} {lt : Int32} {ra rb rl fa aa su cp cl cf ck cm : Nat → Nat} {ct : Nat → Int32} {le tr : Nat → Nat}
theorem lm_step {p l : Nat} {lt' : Int32} {le' g : Nat → Nat} (hJ : lm_Jx P R L B C Kd lt ra rb rl fa aa su cp cl cf ck cm ct le tr) (hL1 : 1 ≤ L) (hC : C < 12) (hp : p < P) (hl : l < L)
    (hlt1 : Kd = 2 ∧ ¬ lp_there L aa p → lt' = nI l) (hlt2 : ¬ (Kd = 2 ∧ ¬ lp_there L aa p) → lt' = lt) (hkeep : ∀ i, i < 512 * C + 512 → le' i = le i) (hbd : ∀ i, le' i ≤ 100000000) (hg : ∀ s, s < 512 → g s = lp_rw L fa B cp C s) (hmn : ∀ t, t < 512 → lp_mn 100000000 (lp_SQ L fa p g t) (le' (512 * C + 512 + t))) :
    lm_Jx P R L B (C + 1) Kd lt' ra rb rl fa (va_up aa l p) (va_up su l (su l + fa (6 * aa l + p))) (va_up cp C p) (va_up cl C l) (va_up cf C (fa (6 * aa l + p))) (va_up ck C Kd) (va_up cm C (aa l)) (va_up ct C lt) le' tr := by
  have hD := hJ.2.2.2.2.2.2.2.2.2 hL1
  obtain ⟨hP, hR, hro, hL3, hC12, hKd, hLC, hle, htr, -⟩ := hJ
  have hth := lm_there hD p
  obtain ⟨hB, h1, h2, h3, h4, h5, h6, h7, h8, h9, h10, h11, h12⟩ := hD
  have c1 : ∀ i, i < C → cp i = va_up cp C p i := fun i hi => (va_up_ne _ _ (by omega)).symm
  have c2 : ∀ i, i < C → cl i = va_up cl C l i := fun i hi => (va_up_ne _ _ (by omega)).symm
  have c3 : ∀ i, i < C → ck i = va_up ck C Kd i := fun i hi => (va_up_ne _ _ (by omega)).symm
  have n1 : ∀ i, i ≤ C → lp_sn B (va_up cp C p) (va_up cl C l) i = lp_sn B cp cl i := fun i hi => (lp_sn_congr c1 c2 i hi).symm
  have hS := lp_sn_sd hP hL3 hB h1 h2 C (Nat.le_refl C)
  have hS5 := lp_sd_lt hS hL3
  have n2 : lp_sn B (va_up cp C p) (va_up cl C l) (C + 1) = lp_mv (lp_sn B cp cl C) l p := by rw [lp_sn, n1 C (Nat.le_refl C), va_up_self, va_up_self]
  have e6 := h6 l hl
  have ecf : lp_cf fa B (va_up cp C p) (va_up cl C l) C = fa (6 * aa l + p) := by
    unfold lp_cf
    rw [n1 C (Nat.le_refl C), va_up_self, va_up_self, e6]
  refine ⟨hP, hR, hro, hL3, by omega, hKd, fun h => by omega, hbd, htr, fun _ => ⟨hB, ?_, ?_, ?_, h4, h5, ?_, ?_, ?_, ?_, ?_, ?_, ?_⟩⟩
  · intro i hi
    by_cases e : i = C
    · subst e; rw [va_up_self]; exact hp
    · rw [va_up_ne _ _ e]; exact h1 i (by omega)
  · intro i hi
    by_cases e : i = C
    · subst e; rw [va_up_self]; exact hl
    · rw [va_up_ne _ _ e]; exact h2 i (by omega)
  · intro i hi
    by_cases e : i = C
    · subst e; rw [va_up_self]; exact hKd
    · rw [va_up_ne _ _ e]; exact h3 i (by omega)
  · intro k hk
    rw [n2]
    by_cases e : k = l
    · subst e; rw [va_up_self, lp_dg_mv hS5 (by omega) (by omega)]
    · rw [va_up_ne _ _ e, lp_dg_mv_ne hS5 (by omega) (by omega) (by omega) e]; exact h6 k hk
  · intro k hk
    rw [lp_sm, va_up_self, ecf, ← lp_sm_congr c1 c2 C (Nat.le_refl C)]
    by_cases e : k = l
    · subst e; rw [va_up_self, if_pos rfl, h7 k hk]
    · rw [va_up_ne _ _ e, if_neg e]; exact h7 k hk
  · rw [lp_tm, va_up_self, va_up_self, va_up_self, n1 C (Nat.le_refl C), ← lp_tm_congr c1 c2 c3 C (Nat.le_refl C)]
    by_cases q : Kd = 2 ∧ ¬ lp_hs L (lp_sn B cp cl C) p
    · rw [if_pos q, hlt1 ⟨q.1, fun z => q.2 (hth.mp z)⟩, nI_add]
    · rw [if_neg q, hlt2 (fun z => q ⟨z.1, fun y => z.2 (hth.mpr y)⟩)]; exact h8
  · intro i hi
    by_cases e : i = C
    · subst e; rw [va_up_self, ecf]
    · rw [va_up_ne _ _ e, ← lp_cf_congr c1 c2 (by omega)]; exact h9 i (by omega)
  · intro i hi
    by_cases e : i = C
    · subst e; rw [va_up_self, va_up_self, n1 i (Nat.le_refl i)]; exact e6
    · rw [va_up_ne _ _ e, va_up_ne _ _ e, n1 i (by omega)]; exact h10 i (by omega)
  · intro i hi
    rw [← lp_tm_congr c1 c2 c3 i (by omega)]
    by_cases e : i = C
    · subst e; rw [va_up_self]; exact h8
    · rw [va_up_ne _ _ e]; exact h11 i (by omega)
  · intro j hj s hs
    by_cases e : j = C + 1
    · subst e
      rw [lp_rw, va_up_self, ← lp_rw_congr c1 C (Nat.le_refl C), show 512 * (C + 1) + s = 512 * C + 512 + s by omega]
      refine (lp_mn_min (hmn s hs)).trans (lp_min_congr (fun u => ⟨?_, ?_⟩))
      · rintro ⟨s', l', q1, q2, q3, q4, q5⟩
        exact ⟨s', l', q1, q2, by rw [← hg s' q1]; exact q3, q4, by rw [← hg s' q1]; exact q5⟩
      · rintro ⟨s', l', q1, q2, q3, q4, q5⟩
        exact ⟨s', l', q1, q2, by rw [hg s' q1]; exact q3, q4, by rw [hg s' q1]; exact q5⟩
    · rw [← lp_rw_congr c1 j (by omega), hkeep _ (by omega)]
      exact h12 j (by omega) s hs
theorem lm_unstep (hJ : lm_Jx P R L B (C + 1) Kd lt ra rb rl fa aa su cp cl cf ck cm ct le tr) (hL1 : 1 ≤ L) :
    lm_Jx P R L B C Kd (ct C) ra rb rl fa (va_up aa (cl C) (cm C)) (va_up su (cl C) (su (cl C) - cf C)) cp cl cf ck cm ct le tr ∧ cl C < L ∧ cf C ≤ su (cl C) := by
  have hD := hJ.2.2.2.2.2.2.2.2.2 hL1
  obtain ⟨hP, hR, hro, hL3, hC12, hKd, hLC, hle, htr, -⟩ := hJ
  obtain ⟨hB, h1, h2, h3, h4, h5, h6, h7, h8, h9, h10, h11, h12⟩ := hD
  have hl := h2 C (by omega)
  have hp := h1 C (by omega)
  have hS := lp_sn_sd hP hL3 hB (C := C) (fun i hi => h1 i (by omega)) (fun i hi => h2 i (by omega)) C (Nat.le_refl C)
  have hS5 := lp_sd_lt hS hL3
  have esm : su (cl C) = lp_sm fa B cp cl (cl C) C + lp_cf fa B cp cl C := by rw [h7 _ hl, lp_sm, if_pos rfl]
  refine ⟨⟨hP, hR, hro, hL3, by omega, hKd, fun h => by omega, hle, htr, fun _ => ⟨hB, fun i hi => h1 i (by omega), fun i hi => h2 i (by omega), fun i hi => h3 i (by omega), h4, h5, ?_, ?_, h11 C (by omega), fun i hi => h9 i (by omega), fun i hi => h10 i (by omega), fun i hi => h11 i (by omega), fun j hj s hs => h12 j (by omega) s hs⟩⟩, hl, by rw [esm, h9 C (by omega)]; omega⟩
  · intro k hk
    by_cases e : k = cl C
    · subst e; rw [va_up_self]; exact h10 C (by omega)
    · rw [va_up_ne _ _ e, h6 k hk, lp_sn, lp_dg_mv_ne hS5 (by omega) (by omega) (by omega) e]
  · intro k hk
    by_cases e : k = cl C
    · subst e; rw [va_up_self, esm, h9 C (by omega)]; omega
    · rw [va_up_ne _ _ e, h7 k hk, lp_sm, if_neg e]
end LMS
