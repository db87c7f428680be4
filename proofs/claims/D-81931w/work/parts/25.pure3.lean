/-! PURE PART 3: torn, ways, roads. -/
def lp_T (I p : Nat) (d : Nat → Nat → Nat) (a b z : Nat) : Prop := z < 2 ∧ (z = 1 ↔ ∃ a' b', a' < p ∧ b' < p ∧ (a' < a ∨ (a' = a ∧ b' < b)) ∧ I ≤ d a' b')
def lp_torn (I p : Nat) (d : Nat → Nat → Nat) : Prop := ∃ a b, a < p ∧ b < p ∧ I ≤ d a b
section LP3
variable {I p a b z w : Nat} {d : Nat → Nat → Nat}
theorem lp_T_0 : lp_T I p d 0 0 0 := by
  refine ⟨by decide, ?_, ?_⟩
  · intro h; omega
  · rintro ⟨a', b', _, _, h, _⟩; omega
theorem lp_T_step (h : lp_T I p d a b z) (ha : a < p) (hb : b < p) (hw : w < 2) (e : w = 1 ↔ I ≤ d a b) : lp_T I p d a (b + 1) (max z w) := by
  obtain ⟨hz, hi⟩ := h
  refine ⟨by omega, ?_, ?_⟩
  · intro h1
    by_cases h2 : z = 1
    · obtain ⟨a', b', q1, q2, q3, q4⟩ := hi.mp h2
      exact ⟨a', b', q1, q2, by omega, q4⟩
    · exact ⟨a, b, ha, hb, by omega, e.mp (by omega)⟩
  · rintro ⟨a', b', q1, q2, q3, q4⟩
    by_cases s : a' = a ∧ b' = b
    · have := e.mpr (by rw [← s.1, ← s.2]; exact q4)
      omega
    · have := hi.mpr ⟨a', b', q1, q2, by omega, q4⟩
      omega
theorem lp_T_row (h : lp_T I p d a p z) : lp_T I p d (a + 1) 0 z := by
  obtain ⟨hz, hi⟩ := h
  refine ⟨hz, hi.trans ⟨?_, ?_⟩⟩
  · rintro ⟨a', b', q1, q2, q3, q4⟩
    exact ⟨a', b', q1, q2, by omega, q4⟩
  · rintro ⟨a', b', q1, q2, q3, q4⟩
    exact ⟨a', b', q1, q2, by omega, q4⟩
theorem lp_T_end (h : lp_T I p d p 0 z) : z = lp_b (lp_torn I p d) := by
  obtain ⟨hz, hi⟩ := h
  refine lp_b_eq hz (hi.trans ⟨?_, ?_⟩)
  · rintro ⟨a', b', q1, q2, q3, q4⟩
    exact ⟨a', b', q1, q2, q4⟩
  · rintro ⟨a', b', q1, q2, q4⟩
    exact ⟨a', b', q1, q2, by omega, q4⟩
end LP3
/-- a long in a range -/
abbrev lp_inL (v : Int64) (a b : Nat) : Prop := (a : Int) ≤ v.toInt ∧ v.toInt ≤ (b : Int)
theorem lp_inL_N {v : Int64} {a b : Nat} (h : lp_inL v a b) (hb : b < 2 ^ 31) : ∃ k : Nat, a ≤ k ∧ k ≤ b ∧ v = lN k := by
  obtain ⟨h1, h2⟩ := h
  refine ⟨v.toInt.toNat, by omega, by omega, ?_⟩
  apply Int64.toInt_inj.mp
  rw [lN_toInt (by omega)]
  omega
theorem lp_longs (v : Int64) {a b : Nat} (ha : a < 2 ^ 31) (hb : b < 2 ^ 31) : (lN a ≤ v ∧ v ≤ lN b) ↔ lp_inL v a b := by
  rw [Int64.le_iff_toInt_le, Int64.le_iff_toInt_le, lN_toInt ha, lN_toInt hb]
theorem lp_longP (v : Int64) {P : Nat} (hP : P ≤ 6) : (lN 0 ≤ v ∧ v ≤ (nI P - nI 1).toInt64) ↔ (0 ≤ v.toInt ∧ v.toInt < (P : Int)) := by
  rw [Int64.le_iff_toInt_le, Int64.le_iff_toInt_le, Int32.toInt_toInt64, pk_sub_toInt (by omega) (by omega), lN_toInt (by decide)]
  omega
theorem lp_long_N {v : Int64} {P : Nat} (h : 0 ≤ v.toInt ∧ v.toInt < (P : Int)) (hP : P < 2 ^ 31) : ∃ k : Nat, k < P ∧ v = lN k := by
  refine ⟨v.toInt.toNat, by omega, ?_⟩
  apply Int64.toInt_inj.mp
  rw [lN_toInt (by omega)]
  omega
/-- may a road be built: places a and b, length d, as longs -/
def lp_rdOk (P : Nat) (a b d : Int64) : Prop := (0 ≤ a.toInt ∧ a.toInt < (P : Int)) ∧ (0 ≤ b.toInt ∧ b.toInt < (P : Int)) ∧ ¬ a = b ∧ lp_inL d 1 100
theorem lp_rdOk_N {P : Nat} {a b d : Int64} (h : lp_rdOk P a b d) (hP : P ≤ 6) : ∃ ka kb kd : Nat, a = lN ka ∧ b = lN kb ∧ d = lN kd ∧ ka < P ∧ kb < P ∧ ¬ ka = kb ∧ 1 ≤ kd ∧ kd ≤ 100 := by
  obtain ⟨h1, h2, h3, h4⟩ := h
  obtain ⟨ka, a1, a2⟩ := lp_long_N h1 (by omega)
  obtain ⟨kb, b1, b2⟩ := lp_long_N h2 (by omega)
  obtain ⟨kd, d1, d2, d3⟩ := lp_inL_N h4 (by decide)
  exact ⟨ka, kb, kd, a2, b2, d3, a1, b1, fun e => h3 (by rw [a2, b2, e]), d1, d2⟩
/-- what 'place' and 'a road' answer -/
noncomputable def lp_rdA (P R L : Nat) (a b d : Int64) : Int32 := @ite _ (lp_rdOk P a b d) (Classical.propDecidable _) (if 0 < L then -2 else if R = 15 then -3 else nI (R + 1)) (-1)
def lp_rdGo (P R L : Nat) (a b d : Int64) : Prop := lp_rdOk P a b d ∧ L = 0 ∧ R < 15
def lp_plA (P L : Nat) : Int32 := if 0 < L then -2 else if P = 6 then -3 else nI P
def lp_plP (P L : Nat) : Nat := if 0 < L then P else if P = 6 then P else P + 1
/-- how far apart, by distances d with I for 'no way' -/
def lp_apA (I P : Nat) (d : Nat → Nat → Nat) (a b : Int32) : Int32 := if lp_in a P ∧ lp_in b P then (if I ≤ d a.toNatClampNeg b.toNatClampNeg then -9 else nI (d a.toNatClampNeg b.toNatClampNeg)) else -1
theorem lp_lN_nat {n : Nat} (h : n < 2 ^ 31) : (lN n).toInt.toNat = n := by rw [lN_toInt h]; omega
