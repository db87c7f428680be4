/-! PURE PART 9: roads out of a book, calls out of a row. -/
/-- roads out of rows r.. (j of them): how many came, status, and the roads -/
noncomputable def lp_rds (P L : Nat) (rows : Nat → lp_Row) : Nat → Nat → Nat → (Nat → Nat) → (Nat → Nat) → (Nat → Nat) → Nat × Int32 × Nat × (Nat → Nat) × (Nat → Nat) × (Nat → Nat)
  | 0, r, R, ra, rb, rl => (r, nI 0, R, ra, rb, rl)
  | j + 1, r, R, ra, rb, rl => match rows r with
    | none => (r, -11, R, ra, rb, rl)
    | some (m, c) => if m < 3 then (r, -12, R, ra, rb, rl) else @ite _ (lp_rdGo P R L (c 0) (c 1) (c 2)) (Classical.propDecidable _) (lp_rds P L rows j (r + 1) (R + 1) (va_up ra R (c 0).toInt.toNat) (va_up rb R (c 1).toInt.toNat) (va_up rl R (c 2).toInt.toNat)) (r, lp_rdA P R L (c 0) (c 1) (c 2), R, ra, rb, rl)
theorem lp_rds_none {P L : Nat} {rows : Nat → lp_Row} {j r R : Nat} {ra rb rl : Nat → Nat} (h : rows r = none) : lp_rds P L rows (j + 1) r R ra rb rl = (r, -11, R, ra, rb, rl) := by
  rw [lp_rds, h]
theorem lp_rds_short {P L : Nat} {rows : Nat → lp_Row} {j r R m : Nat} {ra rb rl : Nat → Nat} {c : Nat → Int64} (h : rows r = some (m, c)) (hm : m < 3) : lp_rds P L rows (j + 1) r R ra rb rl = (r, -12, R, ra, rb, rl) := by
  rw [lp_rds, h]
  exact if_pos hm
theorem lp_rds_no {P L : Nat} {rows : Nat → lp_Row} {j r R m : Nat} {ra rb rl : Nat → Nat} {c : Nat → Int64} (h : rows r = some (m, c)) (hm : ¬ m < 3) (hg : ¬ lp_rdGo P R L (c 0) (c 1) (c 2)) : lp_rds P L rows (j + 1) r R ra rb rl = (r, lp_rdA P R L (c 0) (c 1) (c 2), R, ra, rb, rl) := by
  rw [lp_rds, h]
  exact (if_neg hm).trans (if_neg hg)
theorem lp_rds_go {P L : Nat} {rows : Nat → lp_Row} {j r R m : Nat} {ra rb rl : Nat → Nat} {c : Nat → Int64} (h : rows r = some (m, c)) (hm : ¬ m < 3) (hg : lp_rdGo P R L (c 0) (c 1) (c 2)) : lp_rds P L rows (j + 1) r R ra rb rl = lp_rds P L rows j (r + 1) (R + 1) (va_up ra R (c 0).toInt.toNat) (va_up rb R (c 1).toInt.toNat) (va_up rl R (c 2).toInt.toNat) := by
  rw [lp_rds, h]
  exact (if_neg hm).trans (if_pos hg)
theorem lp_rdA_neg {P R L : Nat} {a b d : Int64} (hR : R ≤ 15) (h : ¬ lp_rdGo P R L a b d) : ¬ 0 ≤ lp_rdA P R L a b d := by
  unfold lp_rdA
  by_cases h1 : lp_rdOk P a b d
  · rw [if_pos h1]
    by_cases h2 : 0 < L
    · rw [if_pos h2]; decide
    · rw [if_neg h2]
      by_cases h3 : R = 15
      · rw [if_pos h3]; decide
      · exact absurd ⟨h1, by omega, by omega⟩ h
  · rw [if_neg h1]; decide
theorem lp_rdA_pos {P R L : Nat} {a b d : Int64} (h : lp_rdGo P R L a b d) : lp_rdA P R L a b d = nI (R + 1) := by
  unfold lp_rdA
  rw [if_pos h.1, if_neg (by have := h.2.1; omega), if_neg (by have := h.2.2; omega)]
/-- calls out of a row: how many came, status, the calls and the trace -/
noncomputable def lp_cls (P L : Nat) (d : Nat → Nat) (B Kd : Nat) (c : Nat → Int64) : Nat → Nat → Nat → (Nat → Nat) → (Nat → Nat) → (Nat → Nat) → Int64 → Nat × Int32 × Nat × (Nat → Nat) × (Nat → Nat) × (Nat → Nat) × Int64
  | 0, i, C, cp, cl, ck, T => (i, nI 0, C, cp, cl, ck, T)
  | j + 1, i, C, cp, cl, ck, T => if 0 ≤ (c i).toInt ∧ (c i).toInt < (P : Int) then (if L = 0 then (i, -2, C, cp, cl, ck, T) else if C = 12 then (i, -3, C, cp, cl, ck, T) else lp_cls P L d B Kd c j (i + 1) (C + 1) (va_up cp C (c i).toInt.toNat) (va_up cl C (lp_cho L d B cp cl ck C Kd (c i).toInt.toNat)) (va_up ck C Kd) (lp_trc Kd L (lp_hs L (lp_sn B cp cl C) (c i).toInt.toNat) T)) else (i, -1, C, cp, cl, ck, T)
section LMR
variable {P R L B C Kd : Nat} {lt : Int32} {ra rb rl fa aa su cp cl cf ck cm : Nat → Nat} {ct : Nat → Int32} {le tr : Nat → Nat}
theorem lm_J_road {a b d : Int64} (hJ : lm_Jx P R L B C Kd lt ra rb rl fa aa su cp cl cf ck cm ct le tr) (hg : lp_rdGo P R L a b d) : lm_Jx P (R + 1) L B C Kd lt (va_up ra R a.toInt.toNat) (va_up rb R b.toInt.toNat) (va_up rl R d.toInt.toNat) fa aa su cp cl cf ck cm ct le tr := by
  obtain ⟨hP, -, hro, hL3, hC12, hKd, hLC, hle, htr, -⟩ := hJ
  obtain ⟨⟨h1, h2, h3, h4⟩, hL, hR⟩ := hg
  refine ⟨hP, by omega, fun k hk => ?_, hL3, hC12, hKd, hLC, hle, htr, fun h => by omega⟩
  by_cases e : k = R
  · subst e
    rw [va_up_self, va_up_self, va_up_self]
    have h5 : ¬ a.toInt = b.toInt := fun z => h3 (Int64.toInt_inj.mp z)
    unfold lp_inL at h4
    exact ⟨by omega, by omega, by omega, by omega, by omega⟩
  · rw [va_up_ne _ _ e, va_up_ne _ _ e, va_up_ne _ _ e]; exact hro k (by omega)
end LMR
