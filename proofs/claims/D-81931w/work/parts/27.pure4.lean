/-! PURE PART 4: moving from stand to stand; least costs row by row (the model's way). -/
/-- how far from ladder a's place in s to ladder b's place in t -/
def lp_D (d : Nat → Nat) (s a t b : Nat) : Nat := d (6 * lp_dg s a + lp_dg t b)
def lp_mq (L : Nat) (d : Nat → Nat) (s t a b : Nat) : Nat := lp_D d s 0 t a + lp_D d s 1 t b + (if L = 3 then lp_D d s 2 t (3 - a - b) else 0)
/-- what moving s to t may cost, ladder by ladder each to another one -/
def lp_MQ (L : Nat) (d : Nat → Nat) (s t u : Nat) : Prop := if L = 1 then u = lp_D d s 0 t 0 else ∃ a b, a < L ∧ b < L ∧ ¬ a = b ∧ u = lp_mq L d s t a b
def lp_I8 : Nat := 100000000
section LP4
variable {L P p fr0 : Nat} {d g f : Nat → Nat}
def lp_MJ (L : Nat) (d : Nat → Nat) (s t a b v : Nat) : Prop := lp_mn 100000000 (fun u => ∃ a' b', (a' < a ∨ (a' = a ∧ b' < b)) ∧ a' < L ∧ b' < L ∧ ¬ a' = b' ∧ u = lp_mq L d s t a' b') v
theorem lp_MJ_0 {s t : Nat} : lp_MJ L d s t 0 0 100000000 := lp_mn_0 (by rintro u ⟨a', b', h, _⟩; omega)
theorem lp_MJ_step {s t a b v : Nat} (h : lp_MJ L d s t a b v) (ha : a < L) (hb : b < L) (hn : ¬ a = b) : lp_MJ L d s t a (b + 1) (min v (lp_mq L d s t a b)) := by
  refine lp_mn_add h (fun u => ⟨?_, ?_⟩)
  · rintro ⟨a', b', q1, q2, q3, q4, q5⟩
    by_cases e : a' = a ∧ b' = b
    · exact Or.inr (by rw [q5, e.1, e.2])
    · exact Or.inl ⟨a', b', by omega, q2, q3, q4, q5⟩
  · rintro (⟨a', b', q1, q2, q3, q4, q5⟩ | e)
    · exact ⟨a', b', by omega, q2, q3, q4, q5⟩
    · exact ⟨a, b, by omega, ha, hb, hn, e⟩
theorem lp_MJ_skip {s t a v : Nat} (h : lp_MJ L d s t a a v) : lp_MJ L d s t a (a + 1) v := by
  refine lp_mn_congr h (fun u => ⟨?_, ?_⟩)
  · rintro ⟨a', b', q1, q2, q3, q4, q5⟩
    exact ⟨a', b', by omega, q2, q3, q4, q5⟩
  · rintro ⟨a', b', q1, q2, q3, q4, q5⟩
    exact ⟨a', b', by omega, q2, q3, q4, q5⟩
theorem lp_MJ_row {s t a v : Nat} (h : lp_MJ L d s t a L v) : lp_MJ L d s t (a + 1) 0 v := by
  refine lp_mn_congr h (fun u => ⟨?_, ?_⟩)
  · rintro ⟨a', b', q1, q2, q3, q4, q5⟩
    exact ⟨a', b', by omega, q2, q3, q4, q5⟩
  · rintro ⟨a', b', q1, q2, q3, q4, q5⟩
    exact ⟨a', b', by omega, q2, q3, q4, q5⟩
theorem lp_MJ_end {s t v : Nat} (hL : ¬ L = 1) (h : lp_MJ L d s t L 0 v) : v = lp_min 100000000 (lp_MQ L d s t) := by
  refine lp_mn_min (lp_mn_congr h (fun u => ?_))
  unfold lp_MQ
  rw [if_neg hL]
  constructor
  · rintro ⟨a', b', q1, q2, q3, q4, q5⟩
    exact ⟨a', b', q2, q3, q4, q5⟩
  · rintro ⟨a', b', q2, q3, q4, q5⟩
    exact ⟨a', b', by omega, q2, q3, q4, q5⟩
theorem lp_MQ_1 {s t : Nat} (hL : L = 1) (h : lp_D d s 0 t 0 ≤ 100000000) : lp_D d s 0 t 0 = lp_min 100000000 (lp_MQ L d s t) := by
  refine lp_mn_min ⟨h, fun u hu => ?_, Or.inr ?_⟩
  · unfold lp_MQ at hu
    rw [if_pos hL] at hu
    omega
  · unfold lp_MQ
    rw [if_pos hL]
theorem lp_min_le (I : Nat) (Q : Nat → Prop) : lp_min I Q ≤ I := (lp_min_mn I Q).1
/-- one more call: what stand t may cost behind it -/
def lp_SVQ (L : Nat) (d : Nat → Nat) (p : Nat) (g : Nat → Nat) (s l t u : Nat) : Prop := ∃ s' l', (s' < s ∨ (s' = s ∧ l' < l)) ∧ l' < L ∧ g s' < 100000000 ∧ lp_mv s' l' p = t ∧ u = g s' + d (6 * lp_dg s' l' + p)
def lp_SQ (L : Nat) (d : Nat → Nat) (p : Nat) (g : Nat → Nat) (t u : Nat) : Prop := ∃ s' l', s' < 512 ∧ l' < L ∧ g s' < 100000000 ∧ lp_mv s' l' p = t ∧ u = g s' + d (6 * lp_dg s' l' + p)
def lp_SV (L : Nat) (d : Nat → Nat) (p : Nat) (g : Nat → Nat) (fr0 s l : Nat) (f : Nat → Nat) : Prop := ∀ t, t < 512 → lp_mn 100000000 (lp_SVQ L d p g s l t) (f (fr0 + 512 + t))
theorem lp_SV_0 (h : ∀ t, t < 512 → f (fr0 + 512 + t) = 100000000) : lp_SV L d p g fr0 0 0 f := fun t ht => by
  rw [h t ht]
  exact lp_mn_0 (by rintro u ⟨s', l', q, _⟩; omega)
theorem lp_SV_step {s l x : Nat} (h : lp_SV L d p g fr0 s l f) (hl : l < L) (hg : g s < 100000000) (hx : x = min (f (fr0 + 512 + lp_mv s l p)) (g s + d (6 * lp_dg s l + p))) : lp_SV L d p g fr0 s (l + 1) (va_up f (fr0 + 512 + lp_mv s l p) x) := by
  intro t ht
  by_cases e : lp_mv s l p = t
  · subst e
    rw [va_up_self, hx]
    refine lp_mn_add (h _ ht) (fun u => ⟨?_, ?_⟩)
    · rintro ⟨s', l', q1, q2, q3, q4, q5⟩
      by_cases e : s' = s ∧ l' = l
      · exact Or.inr (by rw [q5, e.1, e.2])
      · exact Or.inl ⟨s', l', by omega, q2, q3, q4, q5⟩
    · rintro (⟨s', l', q1, q2, q3, q4, q5⟩ | e)
      · exact ⟨s', l', by omega, q2, q3, q4, q5⟩
      · exact ⟨s, l, by omega, hl, hg, rfl, e⟩
  · rw [va_up_ne _ _ (by omega)]
    refine lp_mn_congr (h t ht) (fun u => ⟨?_, ?_⟩)
    · rintro ⟨s', l', q1, q2, q3, q4, q5⟩
      exact ⟨s', l', by omega, q2, q3, q4, q5⟩
    · rintro ⟨s', l', q1, q2, q3, q4, q5⟩
      refine ⟨s', l', ?_, q2, q3, q4, q5⟩
      by_cases e2 : s' = s ∧ l' = l
      · rw [e2.1, e2.2] at q4
        exact absurd q4 e
      · omega
theorem lp_SV_row {s : Nat} (h : lp_SV L d p g fr0 s L f) : lp_SV L d p g fr0 (s + 1) 0 f := fun t ht => lp_mn_congr (h t ht) (fun u => by
  constructor
  · rintro ⟨s', l', q1, q2, q3, q4, q5⟩
    exact ⟨s', l', by omega, q2, q3, q4, q5⟩
  · rintro ⟨s', l', q1, q2, q3, q4, q5⟩
    exact ⟨s', l', by omega, q2, q3, q4, q5⟩)
theorem lp_SV_skip {s : Nat} (h : lp_SV L d p g fr0 s 0 f) (hg : 100000000 ≤ g s) : lp_SV L d p g fr0 (s + 1) 0 f := fun t ht => lp_mn_congr (h t ht) (fun u => by
  constructor
  · rintro ⟨s', l', q1, q2, q3, q4, q5⟩
    exact ⟨s', l', by omega, q2, q3, q4, q5⟩
  · rintro ⟨s', l', q1, q2, q3, q4, q5⟩
    refine ⟨s', l', ?_, q2, q3, q4, q5⟩
    by_cases e2 : s' = s
    · rw [e2] at q3; omega
    · omega)
theorem lp_SV_end (h : lp_SV L d p g fr0 512 0 f) : ∀ t, t < 512 → lp_mn 100000000 (lp_SQ L d p g t) (f (fr0 + 512 + t)) := fun t ht => lp_mn_congr (h t ht) (fun u => by
  constructor
  · rintro ⟨s', l', q1, q2, q3, q4, q5⟩
    exact ⟨s', l', by omega, q2, q3, q4, q5⟩
  · rintro ⟨s', l', q1, q2, q3, q4, q5⟩
    exact ⟨s', l', by omega, q2, q3, q4, q5⟩)
/-- the least of a row of 512 -/
def lp_LQ (g : Nat → Nat) (s u : Nat) : Prop := ∃ s', s' < s ∧ u = g s'
theorem lp_LQ_0 : lp_mn 100000000 (lp_LQ g 0) 100000000 := lp_mn_0 (by rintro u ⟨s', h, _⟩; omega)
theorem lp_LQ_step {s v x : Nat} (h : lp_mn 100000000 (lp_LQ g s) v) (hx : x = min v (g s)) : lp_mn 100000000 (lp_LQ g (s + 1)) x := by
  subst hx
  refine lp_mn_add h (fun u => ⟨?_, ?_⟩)
  · rintro ⟨s', q1, q2⟩
    by_cases e : s' = s
    · exact Or.inr (by rw [q2, e])
    · exact Or.inl ⟨s', by omega, q2⟩
  · rintro (⟨s', q1, q2⟩ | e)
    · exact ⟨s', by omega, q2⟩
    · exact ⟨s, by omega, e⟩
/-- the least of a row with moving to x -/
noncomputable def lp_WQ (L : Nat) (d g : Nat → Nat) (x s u : Nat) : Prop := ∃ s', s' < s ∧ g s' < 100000000 ∧ u = g s' + lp_min 100000000 (lp_MQ L d s' x)
theorem lp_WQ_0 {x : Nat} : lp_mn 100000000 (lp_WQ L d g x 0) 100000000 := lp_mn_0 (by rintro u ⟨s', h, _⟩; omega)
theorem lp_WQ_step {x s v w : Nat} (h : lp_mn 100000000 (lp_WQ L d g x s) v) (hg : g s < 100000000) (hw : w = min v (g s + lp_min 100000000 (lp_MQ L d s x))) : lp_mn 100000000 (lp_WQ L d g x (s + 1)) w := by
  subst hw
  refine lp_mn_add h (fun u => ⟨?_, ?_⟩)
  · rintro ⟨s', q1, q2, q3⟩
    by_cases e : s' = s
    · exact Or.inr (by rw [q3, e])
    · exact Or.inl ⟨s', by omega, q2, q3⟩
  · rintro (⟨s', q1, q2, q3⟩ | e)
    · exact ⟨s', by omega, q2, q3⟩
    · exact ⟨s, by omega, hg, e⟩
theorem lp_WQ_skip {x s v : Nat} (h : lp_mn 100000000 (lp_WQ L d g x s) v) (hg : v ≤ g s) : lp_mn 100000000 (lp_WQ L d g x (s + 1)) v := by
  refine lp_mn_skip h (fun u => ?_) (fun u => ?_)
  · rintro ⟨s', q1, q2, q3⟩
    exact ⟨s', by omega, q2, q3⟩
  · rintro ⟨s', q1, q2, q3⟩ hn
    by_cases e : s' = s
    · subst e; omega
    · exact absurd ⟨s', by omega, q2, q3⟩ hn
end LP4
/-- a stand as an int is one of n ladders at places under P -/
def lp_st (P n : Nat) (x : Int32) : Prop := ∃ k, x = nI k ∧ k < 2 ^ 31 ∧ lp_sd P n k
theorem lp_st_neg {P n : Nat} {x : Int32} (h : x < 0) : ¬ lp_st P n x := by
  rintro ⟨k, e, hk, -⟩
  rw [e] at h
  exact nI_pos hk h
theorem lp_st_N {P n k : Nat} (hk : k < 2 ^ 31) : lp_st P n (nI k) ↔ lp_sd P n k := by
  constructor
  · rintro ⟨j, e, hj, h⟩
    rw [(nI_eq hk hj).mp e]
    exact h
  · intro h
    exact ⟨k, rfl, hk, h⟩
