/-! PURE PART 11: plans: what the calls from i on cost still, by stands. -/
noncomputable def lp_ro (I P L : Nat) (d cp : Nat → Nat) : Nat → Nat → Nat → Nat
  | 0, _, _ => 0
  | j + 1, i, x => @ite _ (lp_sd P L x) (Classical.propDecidable _) (lp_min I (fun u => ∃ l, l < L ∧ u = d (6 * lp_dg x l + cp i) + lp_ro I P L d cp j (i + 1) (lp_mv x l (cp i)))) I
/-- what ladder l's going costs then -/
noncomputable def lp_rv (I P L : Nat) (d cp : Nat → Nat) (j i x l : Nat) : Nat := d (6 * lp_dg x l + cp i) + lp_ro I P L d cp j (i + 1) (lp_mv x l (cp i))
theorem lp_ro_le {I P L : Nat} {d cp : Nat → Nat} (j i x : Nat) : lp_ro I P L d cp j i x ≤ I := by
  cases j with
  | zero => exact Nat.zero_le _
  | succ j =>
    unfold lp_ro
    split
    · exact lp_min_le _ _
    · exact Nat.le_refl _
theorem lp_ro_out {I P L : Nat} {d cp : Nat → Nat} {j i x : Nat} (h : ¬ lp_sd P L x) : lp_ro I P L d cp (j + 1) i x = I := by
  unfold lp_ro
  exact if_neg h
def lp_roQ (I P L : Nat) (d cp : Nat → Nat) (j i x l u : Nat) : Prop := ∃ l', l' < l ∧ u = lp_rv I P L d cp j i x l'
theorem lp_ro_in {I P L : Nat} {d cp : Nat → Nat} {j i x v : Nat} (h : lp_sd P L x) (hv : lp_mn I (lp_roQ I P L d cp j i x L) v) : v = lp_ro I P L d cp (j + 1) i x := by
  unfold lp_ro
  rw [if_pos h]
  exact lp_mn_min hv
theorem lp_roQ_0 {I P L : Nat} {d cp : Nat → Nat} {j i x : Nat} : lp_mn I (lp_roQ I P L d cp j i x 0) I := lp_mn_0 (by rintro u ⟨l', h, _⟩; omega)
theorem lp_roQ_step {I P L : Nat} {d cp : Nat → Nat} {j i x l v w : Nat} (h : lp_mn I (lp_roQ I P L d cp j i x l) v) (hw : w = min v (lp_rv I P L d cp j i x l)) : lp_mn I (lp_roQ I P L d cp j i x (l + 1)) w := by
  subst hw
  refine lp_mn_add h (fun u => ⟨?_, ?_⟩)
  · rintro ⟨l', q1, q2⟩
    by_cases e : l' = l
    · exact Or.inr (by rw [q2, e])
    · exact Or.inl ⟨l', by omega, q2⟩
  · rintro (⟨l', q1, q2⟩ | e)
    · exact ⟨l', by omega, q2⟩
    · exact ⟨l, by omega, e⟩
theorem lp_ro_small {I P L : Nat} {d cp : Nat → Nat} (hP : P ≤ 6) (hL1 : 1 ≤ L) (hL : L ≤ 3) (hd : ∀ a b, a < P → b < P → d (6 * a + b) ≤ 6400) {C : Nat} (h1 : ∀ i, i < C → cp i < P) : ∀ j i x, i + j ≤ C → lp_sd P L x → lp_ro I P L d cp j i x ≤ 6400 * j := by
  intro j
  induction j with
  | zero => intro i x _ _; exact Nat.zero_le _
  | succ j ih =>
    intro i x hi hx
    have hp := h1 i (by omega)
    have a := ih (i + 1) (lp_mv x 0 (cp i)) (by omega) (lp_sd_mv hx hL (by omega) hp hP)
    have b := hd _ _ (hx.2 0 (by omega)) hp
    unfold lp_ro
    rw [if_pos hx]
    have e := (lp_min_mn I (fun u => ∃ l, l < L ∧ u = d (6 * lp_dg x l + cp i) + lp_ro I P L d cp j (i + 1) (lp_mv x l (cp i)))).2.1 _ ⟨0, by omega, rfl⟩
    omega
theorem lp_ro_at {I P L : Nat} {d cp : Nat → Nat} (hP : P ≤ 6) (hL1 : 1 ≤ L) (hL : L ≤ 3) (hd : ∀ a b, a < P → b < P → d (6 * a + b) ≤ 6400) {C : Nat} (h1 : ∀ i, i < C → cp i < P) {j i x : Nat} (hi : i + (j + 1) ≤ C) (hI : 6400 * (j + 1) < I) (hx : lp_sd P L x) : ∃ l, l < L ∧ lp_rv I P L d cp j i x l = lp_ro I P L d cp (j + 1) i x := by
  have s := lp_ro_small (I := I) hP hL1 hL hd h1 (j + 1) i x hi hx
  unfold lp_ro at s ⊢
  rw [if_pos hx] at s ⊢
  rcases (lp_min_mn I (fun u => ∃ l, l < L ∧ u = d (6 * lp_dg x l + cp i) + lp_ro I P L d cp j (i + 1) (lp_mv x l (cp i)))).2.2 with e | ⟨l, hl, e⟩
  · omega
  · exact ⟨l, hl, e.symm⟩
theorem lp_ro_I {I I' P L : Nat} {d cp : Nat → Nat} (hP : P ≤ 6) (hL1 : 1 ≤ L) (hL : L ≤ 3) (hd : ∀ a b, a < P → b < P → d (6 * a + b) ≤ 6400) {C : Nat} (h1 : ∀ i, i < C → cp i < P) : ∀ j i x, i + j ≤ C → 6400 * j < I → 6400 * j < I' → lp_sd P L x → lp_ro I P L d cp j i x = lp_ro I' P L d cp j i x := by
  intro j
  induction j with
  | zero => intro i x _ _ _ _; rfl
  | succ j ih =>
    intro i x hi hI hI' hx
    have hp := h1 i (by omega)
    have ex : ∀ l, l < L → lp_ro I P L d cp j (i + 1) (lp_mv x l (cp i)) = lp_ro I' P L d cp j (i + 1) (lp_mv x l (cp i)) := fun l hl => ih (i + 1) _ (by omega) (by omega) (by omega) (lp_sd_mv hx hL hl hp hP)
    have a := lp_ro_small (I := I) hP hL1 hL hd h1 j (i + 1) (lp_mv x 0 (cp i)) (by omega) (lp_sd_mv hx hL (by omega) hp hP)
    have b := hd _ _ (hx.2 0 (by omega)) hp
    unfold lp_ro
    rw [if_pos hx, if_pos hx]
    have m1 := lp_min_mn I (fun u => ∃ l, l < L ∧ u = d (6 * lp_dg x l + cp i) + lp_ro I P L d cp j (i + 1) (lp_mv x l (cp i)))
    have m2 := lp_min_mn I' (fun u => ∃ l, l < L ∧ u = d (6 * lp_dg x l + cp i) + lp_ro I' P L d cp j (i + 1) (lp_mv x l (cp i)))
    refine lp_mn_I m1 (lp_mn_congr m2 (fun u => ⟨?_, ?_⟩)) _ ⟨0, by omega, rfl⟩ (by omega) (by omega)
    · rintro ⟨l, hl, e⟩
      exact ⟨l, hl, by rw [ex l hl]; exact e⟩
    · rintro ⟨l, hl, e⟩
      exact ⟨l, hl, by rw [← ex l hl]; exact e⟩
theorem lp_ro_congr {I P L : Nat} {d cp cp' : Nat → Nat} {C : Nat} (h : ∀ i, i < C → cp i = cp' i) : ∀ j i, i + j ≤ C → lp_ro I P L d cp j i = lp_ro I P L d cp' j i := by
  intro j
  induction j with
  | zero => intro i _; funext x; rfl
  | succ j ih =>
    intro i hi
    funext x
    rw [lp_ro, lp_ro, ih (i + 1) (by omega), h i (by omega)]
theorem lp_ro_d {I P L : Nat} {d d' cp : Nat → Nat} (hP : P ≤ 6) (hL : L ≤ 3) (hd : ∀ a b, a < P → b < P → d (6 * a + b) = d' (6 * a + b)) {C : Nat} (h1 : ∀ i, i < C → cp i < P) : ∀ j i, i + j ≤ C → lp_ro I P L d cp j i = lp_ro I P L d' cp j i := by
  intro j
  induction j with
  | zero => intro i _; funext x; rfl
  | succ j ih =>
    intro i hi
    funext x
    rw [lp_ro, lp_ro, ih (i + 1) (by omega)]
    by_cases hx : lp_sd P L x
    · rw [if_pos hx, if_pos hx]
      refine lp_min_congr (fun u => ⟨?_, ?_⟩)
      · rintro ⟨l, hl, e⟩
        exact ⟨l, hl, by rw [← hd _ _ (hx.2 l hl) (h1 i (by omega))]; exact e⟩
      · rintro ⟨l, hl, e⟩
        exact ⟨l, hl, by rw [hd _ _ (hx.2 l hl) (h1 i (by omega))]; exact e⟩
    · rw [if_neg hx, if_neg hx]
/-- the ladder that the plan of n calls takes at call k from stand x -/
noncomputable def lp_fl (I P L : Nat) (d cp : Nat → Nat) (n k x : Nat) : Nat := lp_min 3 (fun l => l < L ∧ lp_rv I P L d cp (n - (k + 1)) k x l = lp_ro I P L d cp (n - k) k x)
noncomputable def lp_pp (I P L : Nat) (d cp : Nat → Nat) (B n : Nat) : Nat → Nat
  | 0 => B
  | k + 1 => lp_mv (lp_pp I P L d cp B n k) (lp_fl I P L d cp n k (lp_pp I P L d cp B n k)) (cp k)
theorem lp_fl_is {I P L : Nat} {d cp : Nat → Nat} (hP : P ≤ 6) (hL1 : 1 ≤ L) (hL : L ≤ 3) (hd : ∀ a b, a < P → b < P → d (6 * a + b) ≤ 6400) {C : Nat} (h1 : ∀ i, i < C → cp i < P) {n k x : Nat} (hk : k < n) (hn : n ≤ C) (hn2 : n ≤ 100) (hI : 1000000 ≤ I) (hx : lp_sd P L x) : lp_fl I P L d cp n k x < L ∧ lp_rv I P L d cp (n - (k + 1)) k x (lp_fl I P L d cp n k x) = lp_ro I P L d cp (n - k) k x ∧ ∀ l, l < lp_fl I P L d cp n k x → ¬ lp_rv I P L d cp (n - (k + 1)) k x l = lp_ro I P L d cp (n - k) k x := by
  have e : n - k = n - (k + 1) + 1 := by omega
  obtain ⟨l0, a1, a2⟩ := lp_ro_at (I := I) (j := n - (k + 1)) (i := k) hP hL1 hL hd h1 (by omega) (by omega) hx
  rw [← e] at a2
  have m := lp_min_mn 3 (fun l => l < L ∧ lp_rv I P L d cp (n - (k + 1)) k x l = lp_ro I P L d cp (n - k) k x)
  have m1 := m.2.1 l0 ⟨a1, a2⟩
  have key : lp_fl I P L d cp n k x < L ∧ lp_rv I P L d cp (n - (k + 1)) k x (lp_fl I P L d cp n k x) = lp_ro I P L d cp (n - k) k x := by
    rcases m.2.2 with z | z
    · have : lp_fl I P L d cp n k x = 3 := z
      have m2 : lp_fl I P L d cp n k x ≤ l0 := m1
      omega
    · exact z
  refine ⟨key.1, key.2, fun l hl z => ?_⟩
  have := m.2.1 l ⟨by omega, z⟩
  have h9 : lp_fl I P L d cp n k x ≤ l := this
  omega
theorem lp_pp_sd {I P L B : Nat} {d cp : Nat → Nat} (hP : P ≤ 6) (hL1 : 1 ≤ L) (hL : L ≤ 3) (hd : ∀ a b, a < P → b < P → d (6 * a + b) ≤ 6400) {C : Nat} (h1 : ∀ i, i < C → cp i < P) {n : Nat} (hn : n ≤ C) (hn2 : n ≤ 100) (hI : 1000000 ≤ I) (hB : lp_sd P L B) : ∀ k, k ≤ n → lp_sd P L (lp_pp I P L d cp B n k) := by
  intro k
  induction k with
  | zero => intro _; exact hB
  | succ k ih =>
    intro hk
    have hx := ih (by omega)
    exact lp_sd_mv hx hL (lp_fl_is hP hL1 hL hd h1 (by omega) hn hn2 hI hx).1 (h1 k (by omega)) hP
noncomputable def lp_plnA (I P L C B : Nat) (d cp : Nat → Nat) (n i : Int32) : Int32 := if L = 0 then -2 else if lp_inI n 1 C ∧ lp_in i n.toNatClampNeg then nI (lp_fl I P L d cp n.toNatClampNeg i.toNatClampNeg (lp_pp I P L d cp B n.toNatClampNeg i.toNatClampNeg)) else -1
