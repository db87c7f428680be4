/-! THE MODEL's INVARIANT, and what the ops answer. -/
theorem lp_dr_fin {I : Nat} {fr to ln : Nat → Nat} : ∀ k, (∀ j, j < k → ln j ≤ 100) → ∀ a b, lp_dr I fr to ln k a b = I ∨ lp_dr I fr to ln k a b ≤ 100 := by
  intro k
  induction k with
  | zero =>
    intro _ a b
    unfold lp_dr lp_d0
    split
    · right; omega
    · left; rfl
  | succ k ih =>
    intro h a b
    unfold lp_dr
    split
    · right
      have := h k (by omega)
      omega
    · exact ih (fun j hj => h j (by omega)) a b
theorem lp_ds_fin {I R : Nat} {fr to ln : Nat → Nat} (h : ∀ j, j < R → ln j ≤ 100) : ∀ m a b, lp_ds I fr to ln R m a b = I ∨ lp_ds I fr to ln R m a b ≤ 100 * 2 ^ m := by
  intro m
  induction m with
  | zero => intro a b; exact lp_dr_fin R h a b
  | succ m ih =>
    intro a b
    have h1 := ih a b
    have h2 := ih a m
    have h3 := ih m b
    have e : 100 * 2 ^ (m + 1) = 100 * 2 ^ m + 100 * 2 ^ m := by rw [Nat.pow_succ]; omega
    rw [e]
    unfold lp_ds
    generalize lp_ds I fr to ln R m a b = x at *
    generalize lp_ds I fr to ln R m a m = y at *
    generalize lp_ds I fr to ln R m m b = z at *
    generalize 100 * 2 ^ m = w at *
    omega
theorem lp_ds_day {I R P m : Nat} {fr to ln : Nat → Nat} (h : ∀ j, j < R → ln j ≤ 100) (hm : m ≤ 6) (ht : ¬ lp_torn I P (lp_ds I fr to ln R m)) {a b : Nat} (ha : a < P) (hb : b < P) : lp_ds I fr to ln R m a b ≤ 6400 := by
  rcases lp_ds_fin (I := I) (fr := fr) (to := to) h m a b with e | e
  · exact absurd ⟨a, b, ha, hb, Nat.le_of_eq e.symm⟩ ht
  · have h2 : 2 ^ m ≤ 64 := Nat.pow_le_pow_right (by decide) hm
    omega
/-- a day in the model's arrays -/
def lm_Dx (P R L B C : Nat) (lt : Int32) (ra rb rl fa aa su cp cl cf ck cm : Nat → Nat) (ct : Nat → Int32) (le : Nat → Nat) : Prop :=
  lp_sd P L B ∧ (∀ i, i < C → cp i < P) ∧ (∀ i, i < C → cl i < L) ∧ (∀ i, i < C → ck i ≤ 3) ∧ (∀ a b, a < 6 → b < 6 → fa (6 * a + b) = lp_ds 100000000 ra rb rl R 6 a b) ∧ ¬ lp_torn 100000000 P (lp_ds 100000000 ra rb rl R 6) ∧
  (∀ k, k < L → aa k = lp_dg (lp_sn B cp cl C) k) ∧ (∀ k, k < L → su k = lp_sm fa B cp cl k C) ∧ lt + nI 1 = nI (lp_tm L B cp cl ck C) ∧ (∀ i, i < C → cf i = lp_cf fa B cp cl i) ∧ (∀ i, i < C → cm i = lp_dg (lp_sn B cp cl i) (cl i)) ∧ (∀ i, i < C → ct i + nI 1 = nI (lp_tm L B cp cl ck i)) ∧
  (∀ j, j ≤ C → ∀ s, s < 512 → le (512 * j + s) = lp_rw L fa B cp j s)
def lm_Jx (P R L B C Kd : Nat) (lt : Int32) (ra rb rl fa aa su cp cl cf ck cm : Nat → Nat) (ct : Nat → Int32) (le tr : Nat → Nat) : Prop :=
  P ≤ 6 ∧ R ≤ 15 ∧ (∀ k, k < R → ra k < P ∧ rb k < P ∧ ¬ ra k = rb k ∧ 1 ≤ rl k ∧ rl k ≤ 100) ∧ L ≤ 3 ∧ C ≤ 12 ∧ Kd ≤ 3 ∧ (L = 0 → C = 0) ∧ (∀ i, le i ≤ 100000000) ∧ (∀ i, tr i ≤ 100000000) ∧ (1 ≤ L → lm_Dx P R L B C lt ra rb rl fa aa su cp cl cf ck cm ct le)
section LMI
variable {P R L B C Kd : Nat} {lt : Int32} {ra rb rl fa aa su cp cl cf ck cm : Nat → Nat} {ct : Nat → Int32} {le tr : Nat → Nat}
theorem lm_roads (h : lm_Jx P R L B C Kd lt ra rb rl fa aa su cp cl cf ck cm ct le tr) : ∀ k, k < R → ra k < 6 ∧ rb k < 6 ∧ ¬ ra k = rb k ∧ rl k ≤ 100 := fun k hk => by
  have a := h.2.2.1 k hk
  have b := h.1
  exact ⟨by omega, by omega, a.2.2.1, by omega⟩
theorem lm_fa36 (h : lm_Dx P R L B C lt ra rb rl fa aa su cp cl cf ck cm ct le) : ∀ i, i < 36 → fa i ≤ 100000000 := fun i hi => by
  have e := h.2.2.2.2.1 (i / 6) (i % 6) (by omega) (by omega)
  have l := lp_ds_le (I := 100000000) (fr := ra) (to := rb) (ln := rl) (R := R) 6 (i / 6) (i % 6)
  rw [← e, show 6 * (i / 6) + i % 6 = i by omega] at l
  exact l
theorem lm_fa6 (hJ : lm_Jx P R L B C Kd lt ra rb rl fa aa su cp cl cf ck cm ct le tr) (h : lm_Dx P R L B C lt ra rb rl fa aa su cp cl cf ck cm ct le) : ∀ a b, a < P → b < P → fa (6 * a + b) ≤ 6400 := fun a b ha hb => by
  have hp := hJ.1
  rw [h.2.2.2.2.1 a b (by omega) (by omega)]
  exact lp_ds_day (fun j hj => (hJ.2.2.1 j hj).2.2.2.2) (by decide) h.2.2.2.2.2.1 ha hb
theorem lm_aaP (hJ : lm_Jx P R L B C Kd lt ra rb rl fa aa su cp cl cf ck cm ct le tr) (h : lm_Dx P R L B C lt ra rb rl fa aa su cp cl cf ck cm ct le) : lp_sd P L (lp_sn B cp cl C) := lp_sn_sd hJ.1 hJ.2.2.2.1 h.1 h.2.1 h.2.2.1 C (Nat.le_refl C)
theorem lm_there (h : lm_Dx P R L B C lt ra rb rl fa aa su cp cl cf ck cm ct le) (p : Nat) : lp_there L aa p ↔ lp_hs L (lp_sn B cp cl C) p := by
  constructor
  · rintro ⟨k, a, b⟩
    exact ⟨k, a, (h.2.2.2.2.2.2.1 k a).symm.trans b⟩
  · rintro ⟨k, a, b⟩
    exact ⟨k, a, (h.2.2.2.2.2.2.1 k a).trans b⟩
theorem lm_cho (h : lm_Dx P R L B C lt ra rb rl fa aa su cp cl cf ck cm ct le) (p : Nat) {g : Nat → Nat} (hg : ∀ s, s < 512 → g s = lp_rw L fa B cp C s) : lp_chl Kd L (lp_there L aa p) (lp_ag (fun k => fa (6 * aa k + p)) L) (lp_ag (fun k => su k + fa (6 * aa k + p)) L) (lp_tm L B cp cl ck C % L) (lp_ag (lp_ahf L fa p g (lp_sn B cp cl C) aa) L) = lp_cho L fa B cp cl ck C Kd p := by
  have ha := h.2.2.2.2.2.2.1
  have hs := h.2.2.2.2.2.2.2.1
  unfold lp_cho
  have e0 : lp_there L aa p = lp_hs L (lp_sn B cp cl C) p := propext (lm_there h p)
  have e1 := lp_ag_congr (f := fun k => fa (6 * aa k + p)) (g := fun k => fa (6 * lp_dg (lp_sn B cp cl C) k + p)) L (fun k hk => by rw [ha k hk])
  have e2 := lp_ag_congr (f := fun k => su k + fa (6 * aa k + p)) (g := fun k => lp_sm fa B cp cl k C + fa (6 * lp_dg (lp_sn B cp cl C) k + p)) L (fun k hk => by rw [ha k hk, hs k hk])
  have e4 : lp_sv L fa p g = lp_sv L fa p (lp_rw L fa B cp C) := by
    funext t
    refine lp_min_congr (fun u => ⟨?_, ?_⟩)
    · rintro ⟨s, l, q1, q2, q3, q4, q5⟩
      exact ⟨s, l, q1, q2, by rw [← hg s q1]; exact q3, q4, by rw [← hg s q1]; exact q5⟩
    · rintro ⟨s, l, q1, q2, q3, q4, q5⟩
      exact ⟨s, l, q1, q2, by rw [hg s q1]; exact q3, q4, by rw [hg s q1]; exact q5⟩
  have e3 := lp_ag_congr (f := lp_ahf L fa p g (lp_sn B cp cl C) aa) (g := lp_ahf L fa p (lp_rw L fa B cp C) (lp_sn B cp cl C) (lp_dg (lp_sn B cp cl C))) L (fun k hk => by unfold lp_ahf; rw [ha k hk, e4])
  rw [e0, e1, e2, e3]
/-- what 'chosen' asks of the rule that looks ahead -/
theorem lm_hah (hJ : lm_Jx P R L B C Kd lt ra rb rl fa aa su cp cl cf ck cm ct le tr) (hL : 1 ≤ L) (h : lm_Dx P R L B C lt ra rb rl fa aa su cp cl cf ck cm ct le) {p : Nat} (hp : p < P) {g : Nat → Nat} (hg : ∀ s, s < 512 → g s = lp_rw L fa B cp C s) : lp_ahf L fa p g (lp_sn B cp cl C) aa 0 < 100000000 := by
  have a := lp_ah_small (d := fa) (cp := cp) (C := C) hJ.1 hL hJ.2.2.2.1 h.1 h.2.1 hp hJ.2.2.2.2.1 (lm_fa6 hJ h) (lm_aaP hJ h) (k := 0) (by omega)
  have e4 : lp_sv L fa p g = lp_sv L fa p (lp_rw L fa B cp C) := by
    funext t
    refine lp_min_congr (fun u => ⟨?_, ?_⟩)
    · rintro ⟨s, l, q1, q2, q3, q4, q5⟩
      exact ⟨s, l, q1, q2, by rw [← hg s q1]; exact q3, q4, by rw [← hg s q1]; exact q5⟩
    · rintro ⟨s, l, q1, q2, q3, q4, q5⟩
      exact ⟨s, l, q1, q2, by rw [hg s q1]; exact q3, q4, by rw [hg s q1]; exact q5⟩
  unfold lp_ahf at a ⊢
  rw [e4, h.2.2.2.2.2.2.1 0 (by omega)]
  omega
end LMI
abbrev lm_J (τ : lm_S) : Prop := lm_Jx τ.1.2.2.2.1 τ.1.2.2.2.2.1 τ.1.2.2.2.2.2.1 τ.1.2.2.2.2.2.2.1 τ.1.2.2.2.2.2.2.2.2.2 τ.1.2.2.2.2.2.2.2.1 τ.1.2.2.2.2.2.2.2.2.1 τ.2.1.1 τ.2.1.2.1 τ.2.1.2.2.1 τ.2.1.2.2.2 τ.2.2.1.1 τ.2.2.1.2 τ.2.2.2.1.1 τ.2.2.2.1.2.1 τ.2.2.2.1.2.2.1 τ.2.2.2.1.2.2.2.1 τ.2.2.2.1.2.2.2.2.1 τ.2.2.2.1.2.2.2.2.2 τ.2.2.2.2.1.1 τ.2.2.2.2.1.2.1
