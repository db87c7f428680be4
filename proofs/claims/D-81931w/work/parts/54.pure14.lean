/-! PURE PART 14: moving and work in the component's way. -/
theorem lp_or_bit {tk l : Nat} (ht : tk < 8) (hl : l < 3) (h : tk / 2 ^ l % 2 = 0) : nI tk ||| nI (1 * 2 ^ l) = nI (tk + 2 ^ l) ∧ tk + 2 ^ l < 8 := by
  have h9 : ∀ (l : Fin 3) (t : Fin 8), t.val / 2 ^ l.val % 2 = 0 → nI t.val ||| nI (1 * 2 ^ l.val) = nI (t.val + 2 ^ l.val) ∧ t.val + 2 ^ l.val < 8 := by decide +kernel
  exact h9 ⟨l, hl⟩ ⟨tk, ht⟩ h
/-- the least cost of moving, ladder q and those behind it, each to one not taken yet (f of them) -/
noncomputable def lp_mo (I L : Nat) (d : Nat → Nat) (s t : Nat) : Nat → Nat → Nat → Nat
  | 0, _, _ => 0
  | f + 1, tk, q => lp_min I (fun u => ∃ l, l < L ∧ tk / 2 ^ l % 2 = 0 ∧ u = lp_D d s q t l + lp_mo I L d s t f (tk + 2 ^ l) (q + 1))
def lp_moQ (I L : Nat) (d : Nat → Nat) (s t f tk q l u : Nat) : Prop := ∃ l', l' < l ∧ tk / 2 ^ l' % 2 = 0 ∧ u = lp_D d s q t l' + lp_mo I L d s t f (tk + 2 ^ l') (q + 1)
section LPM
variable {I L : Nat} {d : Nat → Nat} {s t f tk q : Nat}
theorem lp_mo_le : lp_mo I L d s t f tk q ≤ I := by
  cases f with
  | zero => exact Nat.zero_le _
  | succ f => exact lp_min_le _ _
theorem lp_moQ_0 : lp_mn I (lp_moQ I L d s t f tk q 0) I := lp_mn_0 (by rintro u ⟨l', h, _⟩; omega)
theorem lp_moQ_step {l v w : Nat} (h : lp_mn I (lp_moQ I L d s t f tk q l) v) (hb : tk / 2 ^ l % 2 = 0) (hw : w = min v (lp_D d s q t l + lp_mo I L d s t f (tk + 2 ^ l) (q + 1))) : lp_mn I (lp_moQ I L d s t f tk q (l + 1)) w := by
  subst hw
  refine lp_mn_add h (fun u => ⟨?_, ?_⟩)
  · rintro ⟨l', q1, q2, q3⟩
    by_cases e : l' = l
    · exact Or.inr (by rw [q3, e])
    · exact Or.inl ⟨l', by omega, q2, q3⟩
  · rintro (⟨l', q1, q2, q3⟩ | e)
    · exact ⟨l', by omega, q2, q3⟩
    · exact ⟨l, by omega, hb, e⟩
theorem lp_moQ_skip {l v : Nat} (h : lp_mn I (lp_moQ I L d s t f tk q l) v) (hb : ¬ tk / 2 ^ l % 2 = 0) : lp_mn I (lp_moQ I L d s t f tk q (l + 1)) v := by
  refine lp_mn_congr h (fun u => ⟨?_, ?_⟩)
  · rintro ⟨l', q1, q2, q3⟩
    exact ⟨l', by omega, q2, q3⟩
  · rintro ⟨l', q1, q2, q3⟩
    refine ⟨l', ?_, q2, q3⟩
    by_cases e : l' = l
    · rw [e] at q2; exact absurd q2 hb
    · omega
theorem lp_moQ_end {v : Nat} (h : lp_mn I (lp_moQ I L d s t f tk q L) v) : v = lp_mo I L d s t (f + 1) tk q := lp_mn_min h
end LPM
/-- the component's work of stand x behind i calls -/
noncomputable def lp_wc (P L : Nat) (d : Nat → Nat) (B : Nat) (cp : Nat → Nat) : Nat → Nat → Nat
  | 0, x => @ite _ (lp_sd P L x) (Classical.propDecidable _) (lp_mo 1000000 L d B x L 0 0) 1000000
  | i + 1, x => @ite _ (lp_sd P L x) (Classical.propDecidable _) (lp_min 1000000 (fun u => ∃ l, l < L ∧ u = lp_wc P L d B cp i (lp_mv x l (cp i)) + d (6 * cp i + lp_dg x l))) 1000000
def lp_wcQ (P L : Nat) (d : Nat → Nat) (B : Nat) (cp : Nat → Nat) (i x l u : Nat) : Prop := ∃ l', l' < l ∧ u = lp_wc P L d B cp i (lp_mv x l' (cp i)) + d (6 * cp i + lp_dg x l')
section LPW
variable {P L B : Nat} {d cp : Nat → Nat} {i x : Nat}
theorem lp_wc_le : lp_wc P L d B cp i x ≤ 1000000 := by
  cases i with
  | zero =>
    unfold lp_wc
    split
    · exact lp_mo_le
    · exact Nat.le_refl _
  | succ i =>
    unfold lp_wc
    split
    · exact lp_min_le _ _
    · exact Nat.le_refl _
theorem lp_wcQ_0 : lp_mn 1000000 (lp_wcQ P L d B cp i x 0) 1000000 := lp_mn_0 (by rintro u ⟨l', h, _⟩; omega)
theorem lp_wcQ_step {l v w : Nat} (h : lp_mn 1000000 (lp_wcQ P L d B cp i x l) v) (hw : w = min v (lp_wc P L d B cp i (lp_mv x l (cp i)) + d (6 * cp i + lp_dg x l))) : lp_mn 1000000 (lp_wcQ P L d B cp i x (l + 1)) w := by
  subst hw
  refine lp_mn_add h (fun u => ⟨?_, ?_⟩)
  · rintro ⟨l', q1, q2⟩
    by_cases e : l' = l
    · exact Or.inr (by rw [q2, e])
    · exact Or.inl ⟨l', by omega, q2⟩
  · rintro (⟨l', q1, q2⟩ | e)
    · exact ⟨l', by omega, q2⟩
    · exact ⟨l, by omega, e⟩
theorem lp_wc_in {v : Nat} (hx : lp_sd P L x) (h : lp_mn 1000000 (lp_wcQ P L d B cp i x L) v) : v = lp_wc P L d B cp (i + 1) x := by
  unfold lp_wc
  rw [if_pos hx]
  exact lp_mn_min h
theorem lp_wc_out (hx : ¬ lp_sd P L x) : lp_wc P L d B cp i x = 1000000 := by
  cases i with
  | zero => unfold lp_wc; exact if_neg hx
  | succ i => unfold lp_wc; exact if_neg hx
theorem lp_wc_0 (hx : lp_sd P L x) : lp_wc P L d B cp 0 x = lp_mo 1000000 L d B x L 0 0 := by
  unfold lp_wc
  exact if_pos hx
end LPW
theorem lp_cpy0 {f g : Nat → Nat} {n j : Nat} (h : j < n) : va_cpy f g 0 0 n j = f j := by
  unfold va_cpy
  rw [if_pos ⟨Nat.zero_le _, by omega⟩]
  congr 1
  omega
