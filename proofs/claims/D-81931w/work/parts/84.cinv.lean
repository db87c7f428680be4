/-! THE COMPONENT's INVARIANT. -/
def lb_Dx (P L B Nw U C : Nat) (aw su ca we fa sb tb : Nat → Nat) : Prop :=
  lp_sd P L B ∧ (∀ i, i < C → ca i < P) ∧ (∀ i, i < C → we i < L) ∧ (∀ i, i < C → sb i ≤ 3) ∧ (∀ a b, a < P → b < P → aw (6 * a + b) ≤ 6400) ∧ (∀ a, a < P → aw (6 * a + a) = 0) ∧
  Nw = lp_sn B ca we C ∧ (∀ k, k < L → su k = lp_sm aw B ca we k C) ∧ U = lp_tm L B ca we sb C % L ∧ (∀ i, i < C → fa i = 8 * lp_cf aw B ca we i + lp_dg (lp_sn B ca we i) (we i)) ∧ (∀ i, i < C → tb i = lp_tm L B ca we sb i % L)
def lb_Jx (P R L B Nw U C Kd : Nat) (fr to ln aw su ca we fa sb tb : Nat → Nat) : Prop :=
  P ≤ 6 ∧ R ≤ 15 ∧ (∀ k, k < R → fr k < P ∧ to k < P ∧ ¬ fr k = to k ∧ 1 ≤ ln k ∧ ln k ≤ 100) ∧ L ≤ 3 ∧ C ≤ 12 ∧ Kd ≤ 3 ∧ (L = 0 → C = 0) ∧ (∀ a b, a < P → b < P → aw (6 * a + b) = lp_ds 1000000 fr to ln R P a b) ∧ (1 ≤ L → lb_Dx P L B Nw U C aw su ca we fa sb tb)
abbrev lb_J (σ : lb_S) : Prop := lb_Jx σ.1.1 σ.1.2.1 σ.1.2.2.2.2.1 σ.1.2.2.2.2.2.1 σ.1.2.2.2.2.2.2.1 σ.1.2.2.2.2.2.2.2.1 σ.1.2.2.2.2.2.2.2.2.1 σ.1.2.2.2.2.2.2.2.2.2 σ.2.1.1 σ.2.1.2.1 σ.2.1.2.2.1 σ.2.1.2.2.2 σ.2.2.1.1 σ.2.2.1.2.1 σ.2.2.1.2.2.1 σ.2.2.1.2.2.2.1 σ.2.2.1.2.2.2.2.1 σ.2.2.1.2.2.2.2.2
section LBI
variable {P R L B Nw U C Kd : Nat} {fr to ln aw su ca we fa sb tb : Nat → Nat}
theorem lb_D_now (hP : P ≤ 6) (hL : L ≤ 3) (h : lb_Dx P L B Nw U C aw su ca we fa sb tb) : lp_sd P L Nw := by
  rw [h.2.2.2.2.2.2.1]
  exact lp_sn_sd hP hL h.1 h.2.1 h.2.2.1 C (Nat.le_refl C)
theorem lb_D_su (hP : P ≤ 6) (hL : L ≤ 3) (hC : C ≤ 12) (h : lb_Dx P L B Nw U C aw su ca we fa sb tb) : ∀ k, k < L → su k ≤ 76800 := fun k hk => by
  rw [h.2.2.2.2.2.2.2.1 k hk]
  have := lp_sm_le hP hL h.1 h.2.1 h.2.2.1 h.2.2.2.2.1 k C (Nat.le_refl C)
  omega
theorem lb_cho (hP : P ≤ 6) (hL1 : 1 ≤ L) (hL : L ≤ 3) (hC : C ≤ 12) (h : lb_Dx P L B Nw U C aw su ca we fa sb tb) {p : Nat} (hp : p < P) :
    lp_chl Kd L (lp_there L (fun k => lp_dg Nw k) p) (lp_ag (fun k => aw (6 * lp_dg Nw k + p) + 0) L) (lp_ag (fun k => aw (6 * lp_dg Nw k + p) + su k) L) U (lp_ag (fun k => aw (6 * lp_dg Nw k + p) + lp_wc P L aw B (va_up ca C p) (C + 1) (lp_mv Nw k p)) L) = lp_cho L aw B ca we sb C Kd p := by
  have hN := lb_D_now hP hL h
  obtain ⟨hB, h1, h2, h3, h4, h5, h6, h7, h8, h9, h10⟩ := h
  have e1 : lp_ag (fun k => aw (6 * lp_dg Nw k + p) + 0) L = lp_ag (fun k => aw (6 * lp_dg Nw k + p)) L := lp_ag_congr L (fun k _ => rfl)
  have e2 : lp_ag (fun k => aw (6 * lp_dg Nw k + p) + su k) L = lp_ag (fun k => lp_sm aw B ca we k C + aw (6 * lp_dg Nw k + p)) L := lp_ag_congr L (fun k hk => by
    show aw (6 * lp_dg Nw k + p) + su k = lp_sm aw B ca we k C + aw (6 * lp_dg Nw k + p)
    rw [h7 k hk]; omega)
  have e3 : lp_ag (fun k => aw (6 * lp_dg Nw k + p) + lp_wc P L aw B (va_up ca C p) (C + 1) (lp_mv Nw k p)) L = lp_ag (lp_ahf L aw p (lp_rw L aw B ca C) Nw (lp_dg Nw)) L := lp_ag_congr L (fun k hk => lp_ahead hP hL1 hL hB h4 hC h1 hp hN hk)
  rw [e1, e2, e3, h8]
  subst h6
  rfl
theorem lb_ut {l p : Nat} : lp_ut Kd L (lp_tm L B ca we sb C % L) l (lp_there L (fun k => lp_dg (lp_sn B ca we C) k) p) = (@ite _ (Kd = 2 ∧ ¬ lp_hs L (lp_sn B ca we C) p) (Classical.propDecidable _) (l + 1) (lp_tm L B ca we sb C)) % L := by
  unfold lp_ut
  rw [show lp_there L (fun k => lp_dg (lp_sn B ca we C) k) p = lp_hs L (lp_sn B ca we C) p from rfl]
  by_cases h : Kd = 2
  · rw [if_pos h]
    by_cases q : lp_hs L (lp_sn B ca we C) p
    · rw [lp_b_t q, if_pos rfl, if_neg (fun z => z.2 q)]
    · rw [lp_b_f q, if_neg (by decide), if_pos ⟨h, q⟩]
  · rw [if_neg h, if_neg (fun z => h z.1)]
theorem lb_step {p l : Nat} {ca' : Nat → Nat} (hP : P ≤ 6) (hL1 : 1 ≤ L) (hL : L ≤ 3) (hC : C < 12) (hKd : Kd ≤ 3) (h : lb_Dx P L B Nw U C aw su ca we fa sb tb) (hca : ∀ i, i ≠ C → ca' i = ca i) (hp : p < P) (hl : l < L) :
    lb_Dx P L B (lp_mv Nw l p) (lp_ut Kd L U l (lp_there L (fun k => lp_dg Nw k) p)) (C + 1) aw (va_up su l (su l + aw (6 * lp_dg Nw l + p))) (va_up ca' C p) (va_up we C l) (va_up fa C (8 * aw (6 * lp_dg Nw l + p) + lp_dg Nw l)) (va_up sb C Kd) (va_up tb C U) := by
  have hN := lb_D_now hP hL h
  have hN5 := lp_sd_lt hN hL
  obtain ⟨hB, h1, h2, h3, h4, h5, h6, h7, h8, h9, h10⟩ := h
  have c1 : ∀ i, i < C → ca i = va_up ca' C p i := fun i hi => by rw [va_up_ne _ _ (by omega)]; exact (hca i (by omega)).symm
  have c2 : ∀ i, i < C → we i = va_up we C l i := fun i hi => (va_up_ne _ _ (by omega)).symm
  have c3 : ∀ i, i < C → sb i = va_up sb C Kd i := fun i hi => (va_up_ne _ _ (by omega)).symm
  have n1 : ∀ i, i ≤ C → lp_sn B (va_up ca' C p) (va_up we C l) i = lp_sn B ca we i := fun i hi => (lp_sn_congr c1 c2 i hi).symm
  have n2 : lp_sn B (va_up ca' C p) (va_up we C l) (C + 1) = lp_mv Nw l p := by rw [lp_sn, n1 C (Nat.le_refl C), va_up_self, va_up_self, h6]
  have ecf : lp_cf aw B (va_up ca' C p) (va_up we C l) C = aw (6 * lp_dg Nw l + p) := by
    unfold lp_cf
    rw [n1 C (Nat.le_refl C), va_up_self, va_up_self, h6]
  refine ⟨hB, ?_, ?_, ?_, h4, h5, n2.symm, ?_, ?_, ?_, ?_⟩
  · intro i hi
    by_cases e : i = C
    · subst e; rw [va_up_self]; exact hp
    · rw [← c1 i (by omega)]; exact h1 i (by omega)
  · intro i hi
    by_cases e : i = C
    · subst e; rw [va_up_self]; exact hl
    · rw [va_up_ne _ _ e]; exact h2 i (by omega)
  · intro i hi
    by_cases e : i = C
    · subst e; rw [va_up_self]; exact hKd
    · rw [va_up_ne _ _ e]; exact h3 i (by omega)
  · intro k hk
    rw [lp_sm, va_up_self, ecf, ← lp_sm_congr c1 c2 C (Nat.le_refl C)]
    by_cases e : k = l
    · subst e; rw [va_up_self, if_pos rfl, h7 k hk]
    · rw [va_up_ne _ _ e, if_neg e]; exact h7 k hk
  · rw [h8, h6, lb_ut, lp_tm, va_up_self, va_up_self, va_up_self, n1 C (Nat.le_refl C), ← lp_tm_congr c1 c2 c3 C (Nat.le_refl C)]
  · intro i hi
    by_cases e : i = C
    · subst e; rw [va_up_self, ecf, n1 i (Nat.le_refl i), va_up_self, h6]
    · rw [va_up_ne _ _ e, ← lp_cf_congr c1 c2 (by omega), n1 i (by omega), va_up_ne _ _ e]; exact h9 i (by omega)
  · intro i hi
    rw [← lp_tm_congr c1 c2 c3 i (by omega)]
    by_cases e : i = C
    · subst e; rw [va_up_self]; exact h8
    · rw [va_up_ne _ _ e]; exact h10 i (by omega)
theorem lb_unstep (hP : P ≤ 6) (hL : L ≤ 3) (hC : C < 12) (h : lb_Dx P L B Nw U (C + 1) aw su ca we fa sb tb) :
    lb_Dx P L B (lp_mv Nw (we C) (fa C % 8)) (tb C) C aw (va_up su (we C) (su (we C) - fa C / 8)) ca we fa sb tb ∧ we C < L ∧ fa C / 8 ≤ su (we C) ∧ fa C < 1000000 := by
  obtain ⟨hB, h1, h2, h3, h4, h5, h6, h7, h8, h9, h10⟩ := h
  have hl := h2 C (by omega)
  have hp := h1 C (by omega)
  have hS := lp_sn_sd hP hL hB (C := C) (fun i hi => h1 i (by omega)) (fun i hi => h2 i (by omega)) C (Nat.le_refl C)
  have hS5 := lp_sd_lt hS hL
  have hdg := lp_dg_lt (lp_sn B ca we C) (we C)
  have e9 := h9 C (by omega)
  have hcf := lp_cf_le hP hL hB h1 h2 h4 (show C < C + 1 by omega)
  have m8 : fa C % 8 = lp_dg (lp_sn B ca we C) (we C) := by omega
  have d8 : fa C / 8 = lp_cf aw B ca we C := by omega
  have esm : su (we C) = lp_sm aw B ca we (we C) C + lp_cf aw B ca we C := by rw [h7 _ hl, lp_sm, if_pos rfl]
  refine ⟨⟨hB, fun i hi => h1 i (by omega), fun i hi => h2 i (by omega), fun i hi => h3 i (by omega), h4, h5, ?_, ?_, h10 C (by omega), fun i hi => h9 i (by omega), fun i hi => h10 i (by omega)⟩, hl, by omega, by omega⟩
  · rw [m8, h6, lp_sn, lp_mv_mv hS5 (by omega) (by omega), lp_mv_self hS5 (by omega)]
  · intro k hk
    by_cases e : k = we C
    · subst e; rw [va_up_self, esm, d8]; omega
    · rw [va_up_ne _ _ e, h7 k hk, lp_sm, if_neg e]
end LBI
