/-! JOINT LEMMAS, part 7: congruence of roads out of books. -/
section LJ7
variable {P L : Nat} {rows : Nat → lp_Row}
theorem lp_rds_congr : ∀ j r R (ra rb rl ra' rb' rl' : Nat → Nat), (∀ q, q < R → ra q = ra' q ∧ rb q = rb' q ∧ rl q = rl' q) →
    (lp_rds P L rows j r R ra rb rl).1 = (lp_rds P L rows j r R ra' rb' rl').1 ∧ (lp_rds P L rows j r R ra rb rl).2.1 = (lp_rds P L rows j r R ra' rb' rl').2.1 ∧ (lp_rds P L rows j r R ra rb rl).2.2.1 = (lp_rds P L rows j r R ra' rb' rl').2.2.1 ∧
    ∀ q, q < (lp_rds P L rows j r R ra rb rl).2.2.1 → (lp_rds P L rows j r R ra rb rl).2.2.2.1 q = (lp_rds P L rows j r R ra' rb' rl').2.2.2.1 q ∧ (lp_rds P L rows j r R ra rb rl).2.2.2.2.1 q = (lp_rds P L rows j r R ra' rb' rl').2.2.2.2.1 q ∧ (lp_rds P L rows j r R ra rb rl).2.2.2.2.2 q = (lp_rds P L rows j r R ra' rb' rl').2.2.2.2.2 q
  | 0, r, R, ra, rb, rl, ra', rb', rl', h => by
    rw [lp_rds, lp_rds]
    exact ⟨rfl, rfl, rfl, h⟩
  | j + 1, r, R, ra, rb, rl, ra', rb', rl', h => by
    rcases hr : rows r with _ | ⟨m, c⟩
    · rw [lp_rds_none hr, lp_rds_none hr]
      exact ⟨rfl, rfl, rfl, h⟩
    · by_cases hm : m < 3
      · rw [lp_rds_short hr hm, lp_rds_short hr hm]
        exact ⟨rfl, rfl, rfl, h⟩
      · by_cases hg : lp_rdGo P R L (c 0) (c 1) (c 2)
        · rw [lp_rds_go hr hm hg, lp_rds_go hr hm hg]
          refine lp_rds_congr j (r + 1) (R + 1) _ _ _ _ _ _ (fun q hq => ?_)
          by_cases e : q = R
          · subst e
            simp only [va_up_self]
            exact ⟨trivial, trivial, trivial⟩
          · simp only [va_up_ne _ _ e]
            exact h q (by omega)
        · rw [lp_rds_no hr hm hg, lp_rds_no hr hm hg]
          exact ⟨rfl, rfl, rfl, h⟩
end LJ7
