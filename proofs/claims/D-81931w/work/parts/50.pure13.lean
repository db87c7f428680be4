/-! PURE PART 13: the component's own forms. -/
theorem lp_isPlaceC (p : Int32) {P : Nat} (hP : P < 2 ^ 30) : (nI 0 ≤ p ∧ p ≤ nI P - nI 1) ↔ lp_in p P := by
  rw [Int32.le_iff_toInt_le, Int32.le_iff_toInt_le, pk_sub_toInt hP (by decide), nI_toInt (by decide)]
  unfold lp_in
  omega
theorem lp_intsC (x : Int32) {a b : Nat} (ha : a < 2 ^ 31) (hb : b < 2 ^ 31) : (nI a ≤ x ∧ x ≤ nI b) ↔ lp_inI x a b := by
  rw [Int32.le_iff_toInt_le, Int32.le_iff_toInt_le, nI_toInt ha, nI_toInt hb]
def lp_TQ (I : Nat) (d : Nat → Nat) (k z : Nat) : Prop := z < 2 ∧ (z = 1 ↔ ∃ b, b < k ∧ I ≤ d b)
theorem lp_TQ_0 {I : Nat} {d : Nat → Nat} : lp_TQ I d 0 0 := ⟨by decide, fun h => by omega, by rintro ⟨b, h, _⟩; omega⟩
theorem lp_TQ_1 {I : Nat} {d : Nat → Nat} {k z : Nat} (h : lp_TQ I d k z) (e : ¬ z = 0 ∨ I ≤ d k) : lp_TQ I d (k + 1) 1 := by
  refine ⟨by decide, fun _ => ?_, fun _ => rfl⟩
  rcases e with e | e
  · obtain ⟨b, q1, q2⟩ := h.2.mp (by have := h.1; omega)
    exact ⟨b, by omega, q2⟩
  · exact ⟨k, by omega, e⟩
theorem lp_TQ_2 {I : Nat} {d : Nat → Nat} {k z : Nat} (h : lp_TQ I d k z) (e : z = 0) (e2 : d k < I) : lp_TQ I d (k + 1) 0 := by
  refine ⟨by decide, fun q => by omega, ?_⟩
  rintro ⟨b, q1, q2⟩
  by_cases z1 : b = k
  · subst z1; omega
  · have := h.2.mpr ⟨b, by omega, q2⟩
    omega
def lp_torn0 (I P : Nat) (d : Nat → Nat) : Prop := ∃ b, b < P ∧ I ≤ d b
theorem lp_TQ_end {I P : Nat} {d : Nat → Nat} {z : Nat} (h : lp_TQ I d P z) : z = lp_b (lp_torn0 I P d) := lp_b_eq h.1 h.2
/-- what is against a road -/
noncomputable def lp_agA (P R L : Nat) (a b d : Int32) : Int32 := @ite _ (lp_rdOk P a.toInt64 b.toInt64 d.toInt64) (Classical.propDecidable _) (if 0 < L then -2 else if R = 15 then -3 else nI 0) (-1)
theorem lp_rdOk_i {P : Nat} {a b d : Int32} : lp_rdOk P a.toInt64 b.toInt64 d.toInt64 ↔ (lp_in a P ∧ lp_in b P ∧ ¬ a = b ∧ lp_inI d 1 100) := by
  unfold lp_rdOk lp_in lp_inL lp_inI
  rw [Int32.toInt_toInt64, Int32.toInt_toInt64, Int32.toInt_toInt64]
  have e : a.toInt64 = b.toInt64 ↔ a = b := by
    rw [← Int64.toInt_inj, Int32.toInt_toInt64, Int32.toInt_toInt64, Int32.toInt_inj]
  rw [e]
