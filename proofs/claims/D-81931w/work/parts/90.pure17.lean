/-! PURE PART 17: the distances of the component against the model's. -/
section LPD
variable {I J R P : Nat} {fr to ln fr' to' ln' : Nat → Nat}
theorem lp_dr_congr : ∀ k, (∀ j, j < k → fr j = fr' j ∧ to j = to' j ∧ ln j = ln' j) → ∀ a b, lp_dr I fr to ln k a b = lp_dr I fr' to' ln' k a b := by
  intro k
  induction k with
  | zero => intro _ a b; rfl
  | succ k ih =>
    intro h a b
    obtain ⟨e1, e2, e3⟩ := h k (by omega)
    rw [lp_dr, lp_dr, e1, e2, e3, ih (fun j hj => h j (by omega)), ih (fun j hj => h j (by omega))]
theorem lp_ds_congr (h : ∀ j, j < R → fr j = fr' j ∧ to j = to' j ∧ ln j = ln' j) : ∀ m a b, lp_ds I fr to ln R m a b = lp_ds I fr' to' ln' R m a b := by
  intro m
  induction m with
  | zero => intro a b; exact lp_dr_congr R h a b
  | succ m ih => intro a b; rw [lp_ds, lp_ds, ih, ih, ih]
/-- a place without roads -/
theorem lp_dr_iso {v : Nat} : ∀ k, (∀ j, j < k → ¬ fr j = v ∧ ¬ to j = v) → ∀ a, ¬ a = v → lp_dr I fr to ln k a v = I := by
  intro k
  induction k with
  | zero => intro _ a ha; show (if a = v then 0 else I) = I; rw [if_neg ha]
  | succ k ih =>
    intro h a ha
    have hk := h k (by omega)
    rw [lp_dr, if_neg (fun z => by rcases z with z | z; (· exact hk.2 z.2.symm); exact hk.1 z.2.symm)]
    exact ih (fun j hj => h j (by omega)) a ha
theorem lp_ds_iso {v : Nat} (h : ∀ j, j < R → ¬ fr j = v ∧ ¬ to j = v) : ∀ m a, ¬ a = v → lp_ds I fr to ln R m a v = I := by
  intro m
  induction m with
  | zero => intro a ha; exact lp_dr_iso R h a ha
  | succ m ih =>
    intro a ha
    rw [lp_ds, ih a ha]
    by_cases e : m = v
    · subst e
      rw [ih a ha]
      omega
    · rw [ih m e]
      omega
theorem lp_ds_more (h : ∀ j, j < R → fr j < P ∧ to j < P) : ∀ n a b, a < P → b < P → lp_ds I fr to ln R (P + n) a b = lp_ds I fr to ln R P a b := by
  intro n
  induction n with
  | zero => intro a b _ _; rfl
  | succ n ih =>
    intro a b ha hb
    rw [← Nat.add_assoc, lp_ds, ih a b ha hb]
    have e := lp_ds_iso (I := I) (ln := ln) (fr := fr) (to := to) (v := P + n) (fun j hj => ⟨by have := h j hj; omega, by have := h j hj; omega⟩) (P + n) a (by omega)
    have e2 := lp_ds_le (I := I) (fr := fr) (to := to) (ln := ln) (R := R) P a b
    rw [e]
    omega
/-- two words for 'no way': the same distances else -/
def lp_two (I J m x y : Nat) : Prop := (x = I ∧ y = J) ∨ (x = y ∧ x ≤ 100 * 2 ^ m)
theorem lp_dr_two (hI : 100 < I) (hJ : 100 < J) : ∀ k, (∀ j, j < k → ln j ≤ 100) → ∀ a b, lp_two I J 0 (lp_dr I fr to ln k a b) (lp_dr J fr to ln k a b) := by
  intro k
  induction k with
  | zero =>
    intro _ a b
    show lp_two I J 0 (if a = b then 0 else I) (if a = b then 0 else J)
    by_cases e : a = b
    · rw [if_pos e, if_pos e]; exact Or.inr ⟨rfl, by omega⟩
    · rw [if_neg e, if_neg e]; exact Or.inl ⟨rfl, rfl⟩
  | succ k ih =>
    intro h a b
    have h0 := ih (fun j hj => h j (by omega))
    have hk := h k (by omega)
    rw [lp_dr, lp_dr]
    split
    · rcases h0 (fr k) (to k) with ⟨e1, e2⟩ | ⟨e1, e2⟩
      · rw [e1, e2]; exact Or.inr ⟨by omega, by omega⟩
      · rw [e1] at e2 ⊢; exact Or.inr ⟨rfl, by omega⟩
    · exact h0 a b
theorem lp_ds_two (hI : 6400 < I) (hJ : 6400 < J) (h : ∀ j, j < R → ln j ≤ 100) : ∀ m, m ≤ 6 → ∀ a b, lp_two I J m (lp_ds I fr to ln R m a b) (lp_ds J fr to ln R m a b) := by
  intro m
  induction m with
  | zero => intro _ a b; exact lp_dr_two (by omega) (by omega) R h a b
  | succ m ih =>
    intro hm a b
    have h1 := ih (by omega) a b
    have h2 := ih (by omega) a m
    have h3 := ih (by omega) m b
    have l1 := lp_ds_le (I := I) (fr := fr) (to := to) (ln := ln) (R := R) m a b
    have l2 := lp_ds_le (I := J) (fr := fr) (to := to) (ln := ln) (R := R) m a b
    have hp : 100 * 2 ^ m ≤ 3200 := Nat.le_trans (Nat.mul_le_mul_left 100 (Nat.pow_le_pow_right (by decide) (show m ≤ 5 by omega))) (by decide)
    have hq : 2 ^ (m + 1) = 2 * 2 ^ m := by rw [Nat.pow_succ]; omega
    rw [lp_ds, lp_ds]
    unfold lp_two at *
    rw [hq]
    generalize lp_ds I fr to ln R m a b = x1 at *
    generalize lp_ds J fr to ln R m a b = y1 at *
    generalize lp_ds I fr to ln R m a m = x2 at *
    generalize lp_ds J fr to ln R m a m = y2 at *
    generalize lp_ds I fr to ln R m m b = x3 at *
    generalize lp_ds J fr to ln R m m b = y3 at *
    generalize 2 ^ m = q at *
    rcases h1 with ⟨a1, b1⟩ | ⟨a1, b1⟩ <;> rcases h2 with ⟨a2, b2⟩ | ⟨a2, b2⟩ <;> rcases h3 with ⟨a3, b3⟩ | ⟨a3, b3⟩ <;> omega
/-- what the two tables say of two places -/
theorem lp_dist (hP : P ≤ 6) (h : ∀ j, j < R → fr j < P ∧ to j < P ∧ ln j ≤ 100) {a b : Nat} (ha : a < P) (hb : b < P) : (lp_ds 1000000 fr to ln R P a b = 1000000 ∧ lp_ds 100000000 fr to ln R 6 a b = 100000000) ∨ (lp_ds 1000000 fr to ln R P a b = lp_ds 100000000 fr to ln R 6 a b ∧ lp_ds 1000000 fr to ln R P a b ≤ 6400) := by
  have e : lp_ds 100000000 fr to ln R 6 a b = lp_ds 100000000 fr to ln R P a b := by
    have := lp_ds_more (I := 100000000) (ln := ln) (fr := fr) (to := to) (R := R) (P := P) (fun j hj => ⟨(h j hj).1, (h j hj).2.1⟩) (6 - P) a b ha hb
    rw [show P + (6 - P) = 6 by omega] at this
    exact this
  rw [e]
  have hp : 100 * 2 ^ P ≤ 6400 := Nat.le_trans (Nat.mul_le_mul_left 100 (Nat.pow_le_pow_right (by decide) hP)) (by decide)
  rcases lp_ds_two (I := 1000000) (J := 100000000) (fr := fr) (to := to) (ln := ln) (R := R) (by decide) (by decide) (fun j hj => (h j hj).2.2) P hP a b with h1 | h1
  · exact Or.inl h1
  · exact Or.inr ⟨h1.1, by omega⟩
/-- over a place that was a stage -/
theorem lp_ds_tri (hne : ∀ j, j < R → ¬ fr j = to j) : ∀ m c, c < m → ∀ a b, lp_ds I fr to ln R m a b ≤ lp_ds I fr to ln R m a c + lp_ds I fr to ln R m c b := by
  intro m
  induction m with
  | zero => intro c hc; omega
  | succ m ih =>
    intro c hc a b
    by_cases e : c = m
    · subst e
      rw [lp_ds_col hne, lp_ds_row hne, lp_ds]
      omega
    · have hc' : c < m := by omega
      have t1 := ih c hc' a b
      have t2 := ih c hc' m b
      have t3 := ih c hc' a m
      rw [lp_ds, lp_ds, lp_ds]
      omega
theorem lp_torn_iff (hP : P ≤ 6) (h : ∀ j, j < R → fr j < P ∧ to j < P ∧ ¬ fr j = to j ∧ ln j ≤ 100) {d : Nat → Nat} (hd : ∀ a b, a < P → b < P → d (6 * a + b) = lp_ds 1000000 fr to ln R P a b) : lp_torn0 1000000 P d ↔ lp_torn 100000000 P (lp_ds 100000000 fr to ln R 6) := by
  have h' : ∀ j, j < R → fr j < P ∧ to j < P ∧ ln j ≤ 100 := fun j hj => ⟨(h j hj).1, (h j hj).2.1, (h j hj).2.2.2⟩
  constructor
  · rintro ⟨b, hb, hI⟩
    have e := hd 0 b (by omega) hb
    rw [Nat.mul_zero, Nat.zero_add] at e
    refine ⟨0, b, by omega, hb, ?_⟩
    rcases lp_dist hP h' (show 0 < P by omega) hb with ⟨-, e2⟩ | ⟨-, e2⟩
    · omega
    · omega
  · rintro ⟨a, b, ha, hb, hI⟩
    refine Classical.byContradiction fun hn => ?_
    have h0 : ∀ c, c < P → lp_ds 1000000 fr to ln R P 0 c ≤ 6400 := by
      intro c hc
      rcases lp_dist hP h' (show 0 < P by omega) hc with ⟨e1, -⟩ | ⟨-, e2⟩
      · exfalso
        apply hn
        have e := hd 0 c (by omega) hc
        rw [Nat.mul_zero, Nat.zero_add] at e
        exact ⟨c, hc, by omega⟩
      · exact e2
    have t := lp_ds_tri (I := 1000000) (ln := ln) (fun j hj => (h j hj).2.2.1) P 0 (by omega) a b
    have s := lp_ds_sym (I := 1000000) (fr := fr) (to := to) (ln := ln) (R := R) P a 0
    have h1 := h0 a ha
    have h2 := h0 b hb
    rcases lp_dist hP h' ha hb with ⟨e1, e2⟩ | ⟨e1, e2⟩
    · omega
    · omega
theorem lp_torn_day (hP : P ≤ 6) (h : ∀ j, j < R → fr j < P ∧ to j < P ∧ ¬ fr j = to j ∧ ln j ≤ 100) {d : Nat → Nat} (hd : ∀ a b, a < P → b < P → d (6 * a + b) = lp_ds 1000000 fr to ln R P a b) (ht : ¬ lp_torn0 1000000 P d) : (∀ a b, a < P → b < P → d (6 * a + b) ≤ 6400) ∧ (∀ a, a < P → d (6 * a + a) = 0) ∧ ∀ a b, a < P → b < P → d (6 * a + b) = lp_ds 100000000 fr to ln R 6 a b := by
  have h' : ∀ j, j < R → fr j < P ∧ to j < P ∧ ln j ≤ 100 := fun j hj => ⟨(h j hj).1, (h j hj).2.1, (h j hj).2.2.2⟩
  have hn : ∀ a b, a < P → b < P → ¬ lp_ds 100000000 fr to ln R 6 a b = 100000000 := fun a b ha hb e => ht ((lp_torn_iff hP h hd).mpr ⟨a, b, ha, hb, by omega⟩)
  refine ⟨fun a b ha hb => ?_, fun a ha => ?_, fun a b ha hb => ?_⟩
  · rw [hd a b ha hb]
    rcases lp_dist hP h' ha hb with ⟨-, e⟩ | ⟨-, e⟩
    · exact absurd e (hn a b ha hb)
    · exact e
  · rw [hd a a ha ha]
    exact lp_ds_diag (fun j hj => (h j hj).2.2.1) P a
  · rw [hd a b ha hb]
    rcases lp_dist hP h' ha hb with ⟨-, e⟩ | ⟨e, -⟩
    · exact absurd e (hn a b ha hb)
    · exact e
theorem lp_apA_eq (hP : P ≤ 6) (h : ∀ j, j < R → fr j < P ∧ to j < P ∧ ln j ≤ 100) {d : Nat → Nat → Nat} (hd : ∀ a b, a < P → b < P → d a b = lp_ds 1000000 fr to ln R P a b) (a b : Int32) : lp_apA 1000000 P d a b = lp_apA 100000000 P (lp_ds 100000000 fr to ln R 6) a b := by
  unfold lp_apA
  by_cases hab : lp_in a P ∧ lp_in b P
  · obtain ⟨x, hx, rfl⟩ := lp_in_N hab.1 (by omega)
    obtain ⟨y, hy, rfl⟩ := lp_in_N hab.2 (by omega)
    rw [if_pos hab, if_pos hab, nI_clamp (by omega), nI_clamp (by omega), hd x y hx hy]
    rcases lp_dist hP h hx hy with ⟨e1, e2⟩ | ⟨e1, e2⟩
    · rw [if_pos (by omega), if_pos (by omega)]
    · rw [if_neg (by omega), if_neg (by omega), e1]
  · rw [if_neg hab, if_neg hab]
theorem lp_wfo_eq (hP : P ≤ 6) (h : ∀ j, j < R → fr j < P ∧ to j < P ∧ ln j ≤ 100) {d : Nat → Nat → Nat} (hd : ∀ a b, a < P → b < P → d a b = lp_ds 1000000 fr to ln R P a b) {x y : Nat} (hx : x < P) (hy : y < P) (hf : ¬ lp_ds 100000000 fr to ln R 6 x y = 100000000) : ∀ k, k ≤ R → lp_wfo d fr to ln x y k = lp_wfo (lp_ds 100000000 fr to ln R 6) fr to ln x y k := by
  have key : ∀ Y n, Y < P → n ≤ 100 → (n + d Y y = d x y ↔ n + lp_ds 100000000 fr to ln R 6 Y y = lp_ds 100000000 fr to ln R 6 x y) := by
    intro Y n hY hn
    rw [hd Y y hY hy, hd x y hx hy]
    rcases lp_dist hP h hx hy with ⟨-, e⟩ | ⟨e1, e2⟩
    · exact absurd e hf
    · rcases lp_dist hP h hY hy with ⟨f1, f2⟩ | ⟨f1, f2⟩
      · constructor <;> intro z <;> omega
      · rw [e1, f1]
  have sd : ∀ X Y n w, Y < P → n ≤ 100 → lp_wsd d x y X Y n w = lp_wsd (lp_ds 100000000 fr to ln R 6) x y X Y n w := by
    intro X Y n w hY hn
    unfold lp_wsd
    by_cases e : X = x ∧ n + d Y y = d x y
    · rw [if_pos e, if_pos ⟨e.1, (key Y n hY hn).mp e.2⟩]
    · rw [if_neg e, if_neg (fun z => e ⟨z.1, (key Y n hY hn).mpr z.2⟩)]
  intro k
  induction k with
  | zero => intro _; rfl
  | succ k ih =>
    intro hk
    obtain ⟨h1, h2, h3⟩ := h k (by omega)
    rw [lp_wfo, lp_wfo, ih (by omega), sd _ _ _ _ h2 h3, sd _ _ _ _ h1 h3]
theorem lp_waA_eq (hP : P ≤ 6) (h : ∀ j, j < R → fr j < P ∧ to j < P ∧ ln j ≤ 100) {d : Nat → Nat → Nat} (hd : ∀ a b, a < P → b < P → d a b = lp_ds 1000000 fr to ln R P a b) (a b : Int32) : lp_waA 1000000 P R d fr to ln a b = lp_waA 100000000 P R (lp_ds 100000000 fr to ln R 6) fr to ln a b := by
  unfold lp_waA
  by_cases hab : lp_in a P ∧ lp_in b P
  · rw [if_pos hab, if_pos hab]
    by_cases e : a = b
    · rw [if_pos e, if_pos e]
    · obtain ⟨x, hx, rfl⟩ := lp_in_N hab.1 (by omega)
      obtain ⟨y, hy, rfl⟩ := lp_in_N hab.2 (by omega)
      rw [if_neg e, if_neg e, nI_clamp (by omega), nI_clamp (by omega), hd x y hx hy]
      rcases lp_dist hP h hx hy with ⟨e1, e2⟩ | ⟨e1, e2⟩
      · rw [if_pos (by omega), if_pos (by omega)]
      · rw [if_neg (by omega), if_neg (by omega), lp_wfo_eq hP h hd hx hy (by omega) R (Nat.le_refl R)]
  · rw [if_neg hab, if_neg hab]
end LPD
