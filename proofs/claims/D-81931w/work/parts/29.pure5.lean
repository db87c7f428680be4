/-! PURE PART 5: which ladder goes. -/
/-- the first least of f among k -/
def lp_ag (f : Nat → Nat) : Nat → Nat
  | 0 => 0
  | k + 1 => if f k < f (lp_ag f k) then k else lp_ag f k
theorem lp_ag_1 (f : Nat → Nat) : lp_ag f 1 = 0 := by
  unfold lp_ag
  split <;> rfl
theorem lp_ag_lt {f : Nat → Nat} : ∀ {k : Nat}, 0 < k → lp_ag f k < k := by
  intro k
  induction k with
  | zero => intro h; omega
  | succ k ih =>
    intro _
    unfold lp_ag
    split
    · omega
    · by_cases h : k = 0
      · subst h; unfold lp_ag; omega
      · have := ih (by omega); omega
theorem lp_ag_step {f : Nat → Nat} {k l : Nat} (h : l = lp_ag f k) : (if f k < f l then k else l) = lp_ag f (k + 1) := by
  subst h
  rw [lp_ag]
theorem lp_ag_congr {f g : Nat → Nat} : ∀ k, (∀ i, i < k → f i = g i) → lp_ag f k = lp_ag g k := by
  intro k
  induction k with
  | zero => intro _; rfl
  | succ k ih =>
    intro h
    have e := ih (fun i hi => h i (by omega))
    unfold lp_ag
    rw [e, h k (by omega)]
    by_cases hk : k = 0
    · subst hk
      have e0 : f 0 = g 0 := h 0 (by omega)
      simp [lp_ag, e0]
    · rw [h (lp_ag g k) (by have := lp_ag_lt (f := g) (k := k) (by omega); omega)]
def lp_there (L : Nat) (w : Nat → Nat) (p : Nat) : Prop := ∃ k, k < L ∧ w k = p
def lp_HQ (w : Nat → Nat) (p k z : Nat) : Prop := z < 2 ∧ (z = 1 ↔ ∃ k', k' < k ∧ w k' = p)
theorem lp_HQ_0 {w : Nat → Nat} {p : Nat} : lp_HQ w p 0 0 := ⟨by decide, fun h => by omega, by rintro ⟨k', h, _⟩; omega⟩
theorem lp_HQ_step {w : Nat → Nat} {p k z y x : Nat} (h : lp_HQ w p k z) (hy : y < 2) (e : y = 1 ↔ w k = p) (hx : x = max z y) : lp_HQ w p (k + 1) x := by
  obtain ⟨h1, h2⟩ := h
  subst hx
  refine ⟨by omega, ?_, ?_⟩
  · intro q
    by_cases z1 : z = 1
    · obtain ⟨k', a, b⟩ := h2.mp z1
      exact ⟨k', by omega, b⟩
    · exact ⟨k, by omega, e.mp (by omega)⟩
  · rintro ⟨k', a, b⟩
    by_cases c : k' = k
    · subst c
      have := e.mpr b
      omega
    · have := h2.mpr ⟨k', by omega, b⟩
      omega
theorem lp_HQ_end {L : Nat} {w : Nat → Nat} {p z : Nat} (h : lp_HQ w p L z) : z = lp_b (lp_there L w p) := lp_b_eq h.1 h.2
/-- trace behind a choice, and the choice, by rule Kd -/
noncomputable def lp_trc (Kd L : Nat) (th : Prop) (T : Int64) : Int64 :=
  if Kd = 0 then T + lN 1 else if Kd = 1 then @ite _ th (Classical.propDecidable th) (T + lN 10 + lN 1) (T + lN 10)
  else if Kd = 2 then @ite _ th (Classical.propDecidable th) (T + lN 100 + lN 1) (T + lN 100)
  else @ite _ th (Classical.propDecidable th) (T + lN 1000 + lN 1) (if L = 1 then T + lN 1000 + lN 10 else T + lN 1000)
noncomputable def lp_chl (Kd L : Nat) (th : Prop) (near even turn ahead : Nat) : Nat :=
  if Kd = 0 then near else if Kd = 1 then @ite _ th (Classical.propDecidable th) near even
  else if Kd = 2 then @ite _ th (Classical.propDecidable th) near turn
  else @ite _ th (Classical.propDecidable th) near (if L = 1 then even else ahead)
/-- a row behind one more call -/
noncomputable def lp_sv (L : Nat) (d : Nat → Nat) (p : Nat) (g : Nat → Nat) : Nat → Nat := fun t => lp_min 100000000 (lp_SQ L d p g t)
/-- the work of stand x over the row g -/
noncomputable def lp_wm (L : Nat) (d g : Nat → Nat) (x : Nat) : Nat := lp_min 100000000 (lp_WQ L d g x 512)
theorem lp_min_congr {I : Nat} {Q Q' : Nat → Prop} (e : ∀ u, Q u ↔ Q' u) : lp_min I Q = lp_min I Q' := lp_mn_min (lp_mn_congr (lp_min_mn I Q) e)
theorem lp_wm_congr {L : Nat} {d g g' : Nat → Nat} {x : Nat} (h : ∀ t, t < 512 → g t = g' t) : lp_wm L d g x = lp_wm L d g' x := by
  refine lp_min_congr (fun u => ⟨?_, ?_⟩)
  · rintro ⟨s, a, b, e⟩
    exact ⟨s, a, by rw [← h s a]; exact b, by rw [← h s a]; exact e⟩
  · rintro ⟨s, a, b, e⟩
    exact ⟨s, a, by rw [h s a]; exact b, by rw [h s a]; exact e⟩
theorem lp_sv_stand {L P p : Nat} {d g : Nat → Nat} {t : Nat} (hL : L ≤ 3) (hP : P ≤ 6) (hp : p < P) (hst : ∀ s, s < 512 → g s < 100000000 → lp_sd P L s) (h : lp_sv L d p g t < 100000000) : lp_sd P L t := by
  rcases (lp_min_mn 100000000 (lp_SQ L d p g t)).2.2 with e | ⟨s, l, a1, a2, a3, a4, a5⟩
  · unfold lp_sv at h
    omega
  · rw [← a4]
    exact lp_sd_mv (hst s a1 a3) hL a2 hp hP
theorem lp_sv_le {L p : Nat} {d g : Nat → Nat} (t : Nat) : lp_sv L d p g t ≤ 100000000 := lp_min_le _ _
/-- the first least of v, by the least so far -/
theorem lp_first {v : Nat → Nat} {k l best : Nat} (h : (k = 0 ∧ l = 0 ∧ best = 100000000) ∨ (0 < k ∧ l = lp_ag v k ∧ best = v l)) (h0 : v 0 < 100000000) : (if v k < best then k else l) = lp_ag v (k + 1) ∧ (if v k < best then v k else best) = v (lp_ag v (k + 1)) := by
  rcases h with ⟨rfl, rfl, rfl⟩ | ⟨hk, hl, hb⟩
  · rw [if_pos h0, if_pos h0, lp_ag_1]
    exact ⟨rfl, rfl⟩
  · subst hb
    rw [lp_ag_step hl]
    refine ⟨rfl, ?_⟩
    rw [lp_ag, ← hl]
    split <;> rfl
/-- what the rule 'ahead' weighs: the work behind the call, and the way -/
noncomputable def lp_ahf (L : Nat) (d : Nat → Nat) (p : Nat) (g : Nat → Nat) (x : Nat) (w : Nat → Nat) : Nat → Nat := fun k => lp_wm L d (lp_sv L d p g) (lp_mv x k p) + d (6 * w k + p)
