/-! PURE PART 1: places and distances. No program in sight. -/
abbrev lp_in (p : Int32) (P : Nat) : Prop := 0 ≤ p.toInt ∧ p.toInt < (P : Int)
theorem lp_in_N {p : Int32} {P : Nat} (h : lp_in p P) (hP : P < 2 ^ 31) : ∃ k : Nat, k < P ∧ p = nI k := vp_in_of (x := p) (n := P) (vp_in_iff.mpr h) hP
theorem lp_in_nI {k P : Nat} (hk : k < 2 ^ 31) : lp_in (nI k) P ↔ k < P := by
  unfold lp_in
  rw [nI_toInt hk]
  omega
theorem lp_isPlace (p : Int32) {P : Nat} (hP : P ≤ 6) : (lN 0 ≤ p.toInt64 ∧ p.toInt64 ≤ (nI P - nI 1).toInt64) ↔ lp_in p P := by
  rw [Int64.le_iff_toInt_le, Int64.le_iff_toInt_le, Int32.toInt_toInt64, Int32.toInt_toInt64, pk_sub_toInt (by omega) (by omega), lN_toInt (by decide)]
  unfold lp_in
  omega
theorem la_kn_0 : Int64.ofNat ((0 : Fin 2) : Nat) = lN 0 := rfl
theorem la_kn_1 : Int64.ofNat ((1 : Fin 2) : Nat) = lN 1 := rfl
theorem la_kL_10 : (10 : Int64) = lN 10 := by decide +kernel
theorem la_kL_100 : (100 : Int64) = lN 100 := by decide +kernel
theorem la_kL_1000 : (1000 : Int64) = lN 1000 := by decide +kernel
theorem la_kL_2 : (2 : Int64) = lN 2 := by decide +kernel
theorem la_kL_3 : (3 : Int64) = lN 3 := by decide +kernel
theorem la_kL_4294967295 : (4294967295 : Int64) = lN 4294967295 := by decide +kernel
def lp_d0 (I a b : Nat) : Nat := if a = b then 0 else I
def lp_dr (I : Nat) (fr to ln : Nat → Nat) : Nat → Nat → Nat → Nat
  | 0, a, b => lp_d0 I a b
  | k + 1, a, b => if (a = fr k ∧ b = to k) ∨ (a = to k ∧ b = fr k) then min (ln k) (lp_dr I fr to ln k (fr k) (to k)) else lp_dr I fr to ln k a b
def lp_ds (I : Nat) (fr to ln : Nat → Nat) (R : Nat) : Nat → Nat → Nat → Nat
  | 0, a, b => lp_dr I fr to ln R a b
  | m + 1, a, b => min (lp_ds I fr to ln R m a b) (lp_ds I fr to ln R m a m + lp_ds I fr to ln R m m b)
section LP1
variable {I : Nat} {fr to ln : Nat → Nat} {R p : Nat}
theorem lp_dr_le : ∀ k a b, lp_dr I fr to ln k a b ≤ I := by
  intro k
  induction k with
  | zero =>
    intro a b
    unfold lp_dr lp_d0
    split <;> omega
  | succ k ih =>
    intro a b
    unfold lp_dr
    split
    · have := ih (fr k) (to k)
      omega
    · exact ih a b
theorem lp_ds_le : ∀ m a b, lp_ds I fr to ln R m a b ≤ I := by
  intro m
  induction m with
  | zero => exact lp_dr_le R
  | succ m ih =>
    intro a b
    have := ih a b
    unfold lp_ds
    omega
theorem lp_dr_sym : ∀ k a b, lp_dr I fr to ln k a b = lp_dr I fr to ln k b a := by
  intro k
  induction k with
  | zero =>
    intro a b
    unfold lp_dr lp_d0
    by_cases h : a = b
    · subst h; rfl
    · rw [if_neg h, if_neg (fun z => h z.symm)]
  | succ k ih =>
    intro a b
    unfold lp_dr
    by_cases h : (a = fr k ∧ b = to k) ∨ (a = to k ∧ b = fr k)
    · rw [if_pos h, if_pos (by omega)]
    · rw [if_neg h, if_neg (by omega)]
      exact ih a b
theorem lp_ds_sym : ∀ m a b, lp_ds I fr to ln R m a b = lp_ds I fr to ln R m b a := by
  intro m
  induction m with
  | zero => exact lp_dr_sym R
  | succ m ih =>
    intro a b
    unfold lp_ds
    rw [ih a b, ih a m, ih m b, Nat.add_comm]
theorem lp_dr_diag : ∀ k, (∀ j, j < k → ¬ fr j = to j) → ∀ a, lp_dr I fr to ln k a a = 0 := by
  intro k
  induction k with
  | zero =>
    intro _ a
    unfold lp_dr lp_d0
    rw [if_pos rfl]
  | succ k ih =>
    intro h a
    unfold lp_dr
    have h1 := h k (by omega)
    rw [if_neg (by rintro (⟨x, y⟩ | ⟨x, y⟩) <;> exact h1 (by omega))]
    exact ih (fun j hj => h j (by omega)) a
theorem lp_ds_diag (h : ∀ j, j < R → ¬ fr j = to j) : ∀ m a, lp_ds I fr to ln R m a a = 0 := by
  intro m
  induction m with
  | zero => exact lp_dr_diag R h
  | succ m ih =>
    intro a
    unfold lp_ds
    rw [ih a]
    omega
theorem lp_ds_col (h : ∀ j, j < R → ¬ fr j = to j) (m a : Nat) : lp_ds I fr to ln R (m + 1) a m = lp_ds I fr to ln R m a m := by
  rw [lp_ds, lp_ds_diag h]
  omega
theorem lp_ds_row (h : ∀ j, j < R → ¬ fr j = to j) (m b : Nat) : lp_ds I fr to ln R (m + 1) m b = lp_ds I fr to ln R m m b := by
  rw [lp_ds, lp_ds_diag h]
  omega
theorem lp_cell (f : Nat → Nat) {a b a' b' x : Nat} (hb : b < 6) (hb' : b' < 6) : va_up f (6 * a + b) x (6 * a' + b') = if a' = a ∧ b' = b then x else f (6 * a' + b') := by
  by_cases h : a' = a ∧ b' = b
  · rw [if_pos h, h.1, h.2, va_up_self]
  · rw [if_neg h, va_up_ne _ _ (by omega)]
/-- the three rounds of loops, by what stands in the array -/
def lp_J1 (I p a b : Nat) (f : Nat → Nat) : Prop := ∀ a' b', a' < p → b' < p → (a' < a ∨ (a' = a ∧ b' < b)) → f (6 * a' + b') = lp_d0 I a' b'
def lp_J2 (I : Nat) (fr to ln : Nat → Nat) (p k : Nat) (f : Nat → Nat) : Prop := ∀ a' b', a' < p → b' < p → f (6 * a' + b') = lp_dr I fr to ln k a' b'
def lp_J3 (I : Nat) (fr to ln : Nat → Nat) (R p m a b : Nat) (f : Nat → Nat) : Prop := ∀ a' b', a' < p → b' < p → f (6 * a' + b') = if a' < a ∨ (a' = a ∧ b' < b) then lp_ds I fr to ln R (m + 1) a' b' else lp_ds I fr to ln R m a' b'
theorem lp_J1_0 {f : Nat → Nat} : lp_J1 I p 0 0 f := fun a' b' _ _ h => by omega
theorem lp_J1_step {a b : Nat} {f : Nat → Nat} {x : Nat} (hp : p ≤ 6) (h : lp_J1 I p a b f) (hb : b < p) (hx : x = lp_d0 I a b) : lp_J1 I p a (b + 1) (va_up f (6 * a + b) x) := by
  intro a' b' h1 h2 h3
  rw [lp_cell f (by omega) (by omega)]
  by_cases e : a' = a ∧ b' = b
  · rw [if_pos e, hx, e.1, e.2]
  · rw [if_neg e]
    exact h a' b' h1 h2 (by omega)
theorem lp_J1_row {a : Nat} {f : Nat → Nat} (h : lp_J1 I p a p f) : lp_J1 I p (a + 1) 0 f := fun a' b' h1 h2 h3 => h a' b' h1 h2 (by omega)
theorem lp_J1_end {f : Nat → Nat} (h : lp_J1 I p p 0 f) : lp_J2 I fr to ln p 0 f := fun a' b' h1 h2 => h a' b' h1 h2 (Or.inl h1)
theorem lp_J2_set {k d : Nat} {f : Nat → Nat} (hp : p ≤ 6) (h : lp_J2 I fr to ln p k f) (h1 : fr k < p) (h2 : to k < p) (hd : d = min (ln k) (f (6 * fr k + to k))) : lp_J2 I fr to ln p (k + 1) (va_up (va_up f (6 * fr k + to k) d) (6 * to k + fr k) d) := by
  intro a' b' g1 g2
  rw [lp_cell _ (by omega) (by omega), lp_cell f (by omega) (by omega), lp_dr, hd, h _ _ h1 h2]
  by_cases e1 : a' = to k ∧ b' = fr k
  · rw [if_pos e1, if_pos (Or.inr e1)]
  · rw [if_neg e1]
    by_cases e2 : a' = fr k ∧ b' = to k
    · rw [if_pos e2, if_pos (Or.inl e2)]
    · rw [if_neg e2, if_neg (by rintro (z | z); exact e2 z; exact e1 z)]
      exact h a' b' g1 g2
theorem lp_J2_keep {k : Nat} {f : Nat → Nat} (h : lp_J2 I fr to ln p k f) (h1 : fr k < p) (h2 : to k < p) (hd : f (6 * fr k + to k) ≤ ln k) : lp_J2 I fr to ln p (k + 1) f := by
  intro a' b' g1 g2
  rw [lp_dr, ← h _ _ h1 h2]
  have e0 : min (ln k) (f (6 * fr k + to k)) = f (6 * fr k + to k) := by omega
  rw [e0]
  by_cases e1 : (a' = fr k ∧ b' = to k) ∨ (a' = to k ∧ b' = fr k)
  · rw [if_pos e1]
    rcases e1 with e | e
    · rw [e.1, e.2]
    · rw [e.1, e.2, h _ _ h2 h1, h _ _ h1 h2, lp_dr_sym]
  · rw [if_neg e1]
    exact h a' b' g1 g2
theorem lp_J2_end {f : Nat → Nat} (h : lp_J2 I fr to ln p R f) : lp_J3 I fr to ln R p 0 0 0 f := fun a' b' h1 h2 => by
  rw [if_neg (by omega)]
  exact h a' b' h1 h2
theorem lp_J3_at {m a b a' b' : Nat} {f : Nat → Nat} (hne : ∀ j, j < R → ¬ fr j = to j) (h : lp_J3 I fr to ln R p m a b f) (h1 : a' < p) (h2 : b' < p) (hm : a' = m ∨ b' = m) : f (6 * a' + b') = lp_ds I fr to ln R m a' b' := by
  rw [h a' b' h1 h2]
  split
  · rcases hm with e | e
    · subst e; exact lp_ds_row hne _ _
    · subst e; exact lp_ds_col hne _ _
  · rfl
theorem lp_J3_step {m a b : Nat} {f : Nat → Nat} {x : Nat} (hp : p ≤ 6) (hne : ∀ j, j < R → ¬ fr j = to j) (h : lp_J3 I fr to ln R p m a b f) (ha : a < p) (hb : b < p) (hm : m < p) (hx : x = min (f (6 * a + b)) (f (6 * a + m) + f (6 * m + b))) : lp_J3 I fr to ln R p m a (b + 1) (va_up f (6 * a + b) x) := by
  intro a' b' g1 g2
  rw [lp_cell f (by omega) (by omega)]
  by_cases e : a' = a ∧ b' = b
  · rw [if_pos e, if_pos (by omega), hx, e.1, e.2, h a b ha hb, if_neg (by omega), lp_J3_at hne h ha hm (Or.inr rfl), lp_J3_at hne h hm hb (Or.inl rfl), lp_ds]
  · rw [if_neg e, h a' b' g1 g2]
    by_cases q : a' < a ∨ a' = a ∧ b' < b
    · rw [if_pos q, if_pos (by omega)]
    · rw [if_neg q, if_neg (by omega)]
theorem lp_J3_row {m a : Nat} {f : Nat → Nat} (h : lp_J3 I fr to ln R p m a p f) : lp_J3 I fr to ln R p m (a + 1) 0 f := fun a' b' h1 h2 => by
  rw [h a' b' h1 h2]
  by_cases q : a' < a ∨ a' = a ∧ b' < p
  · rw [if_pos q, if_pos (by omega)]
  · rw [if_neg q, if_neg (by omega)]
theorem lp_J3_stage {m : Nat} {f : Nat → Nat} (h : lp_J3 I fr to ln R p m p 0 f) : lp_J3 I fr to ln R p (m + 1) 0 0 f := fun a' b' h1 h2 => by
  rw [h a' b' h1 h2, if_pos (by omega), if_neg (by omega)]
theorem lp_J3_end {m : Nat} {f : Nat → Nat} (h : lp_J3 I fr to ln R p m 0 0 f) : ∀ a' b', a' < p → b' < p → f (6 * a' + b') = lp_ds I fr to ln R m a' b' := fun a' b' h1 h2 => by
  rw [h a' b' h1 h2, if_neg (by omega)]
theorem lp_J3_le {m a b a' b' : Nat} {f : Nat → Nat} (h : lp_J3 I fr to ln R p m a b f) (h1 : a' < p) (h2 : b' < p) : f (6 * a' + b') ≤ I := by
  rw [h a' b' h1 h2]
  split
  · exact lp_ds_le _ _ _
  · exact lp_ds_le _ _ _
end LP1
