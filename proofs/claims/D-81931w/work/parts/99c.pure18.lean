/-! PURE PART 18: the books of the component. -/
def lp_row (bk : lp_Bk) (k r : Nat) : lp_Row := match bk k with
  | none => none
  | some b => if r < b.2.1 then b.2.2 r else none
def lb_BRl (E : Nat → ClassId) (bk : lp_Bk) (BF : Nat → Option Nat) (BK : va_W) (ℓ : Nat → lb_L) : Prop :=
  (∀ k, k < 3 → (bk k = none → BF k = none) ∧ ∀ s n rows, bk k = some (s, n, rows) → BF k = some (ℓ k).1.2 ∧ lb_B1 E BK s n rows (ℓ k)) ∧
  (∀ k k', k < 3 → k' < 3 → k ≠ k' → bk k ≠ none → bk k' ≠ none → (ℓ k).2.1.1 ≠ (ℓ k').2.1.1) ∧
  (∀ k k' r r', k < 3 → k' < 3 → ¬ (k = k' ∧ r = r') → lp_row bk k r ≠ none → lp_row bk k' r' ≠ none → ((ℓ k).2.2 r).1 ≠ ((ℓ k').2.2 r').1)
def lb_BR (E : Nat → ClassId) (bk : lp_Bk) (BF : Nat → Option Nat) (BK : va_W) : Prop := ∃ ℓ, lb_BRl E bk BF BK ℓ
def lb_sh (ℓ : lb_L) : lb_L := ((ℓ.1.1 + 40, ℓ.1.2), (ℓ.2.1.1 + 40, ℓ.2.1.2), fun r => ((ℓ.2.2 r).1 + 40, (ℓ.2.2 r).2))
theorem lb_B1_W {E : Nat → ClassId} {ad : Nat → Nat} {q : lb_q} {t0 : lb_t0} {t1 : lb_t1} {t2 : lb_t2} {t3 : lb_t3} {RE : Nat → Nat → Nat} {BF : Nat → Option Nat} {BK : va_W} {s n : Nat} {rows : Nat → lp_Row} {ℓ : lb_L} (h : lb_B1 E BK s n rows ℓ) : lb_B1 E (lb_W E ad (q, t0, t1, t2, t3, RE, BF, BK)) s n rows (lb_sh ℓ) := ⟨h.1, h.2.1, h.2.2.1, h.2.2.2.1, h.2.2.2.2⟩
theorem lp_row_of {bk : lp_Bk} {k s n r : Nat} {rows : Nat → lp_Row} (h : bk k = some (s, n, rows)) (hr : r < n) : lp_row bk k r = rows r := by
  unfold lp_row
  rw [h]
  exact if_pos hr
theorem lp_row_some {bk : lp_Bk} {k r : Nat} (h : lp_row bk k r ≠ none) : ∃ s n rows m c, bk k = some (s, n, rows) ∧ r < n ∧ rows r = some (m, c) := by
  unfold lp_row at h
  rcases hb : bk k with _ | ⟨s, n, rows⟩
  · rw [hb] at h; exact absurd rfl h
  · rw [hb] at h
    dsimp only at h
    by_cases hr : r < n
    · rw [if_pos hr] at h
      rcases h1 : rows r with _ | ⟨m, c⟩
      · exact absurd h1 h
      · exact ⟨s, n, rows, m, c, rfl, hr, h1⟩
    · rw [if_neg hr] at h; exact absurd rfl h
theorem lb_dat_ne {E : Nat → ClassId} {s m N : Nat} {c : Nat → Int64} {cA : ClassId} {g : Nat → Option Nat} : lb_dat E s m c ≠ .inl (cA, N, .inr (.inr (.inr (.inr g)))) := by
  unfold lb_dat
  intro h
  split at h
  · cases h
  · split at h
    · cases h
    · split at h
      · cases h
      · cases h
theorem lb_dat_inl {E : Nat → ClassId} {s m : Nat} {c : Nat → Int64} : ∃ x, lb_dat E s m c = .inl x := by
  unfold lb_dat
  split
  · exact ⟨_, rfl⟩
  · split
    · exact ⟨_, rfl⟩
    · split
      · exact ⟨_, rfl⟩
      · exact ⟨_, rfl⟩
theorem lb_B1_frame {E : Nat → ClassId} {BK BK' : va_W} {s n : Nat} {rows : Nat → lp_Row} {ℓ : lb_L} (h : lb_B1 E BK s n rows ℓ) (h1 : ∀ v, BK[ℓ.1.1]? = some v → BK'[ℓ.1.1]? = some v) (h2 : ∀ v, BK[ℓ.2.1.1]? = some v → BK'[ℓ.2.1.1]? = some v) (h3 : ∀ r m c, r < n → rows r = some (m, c) → ∀ v, BK[(ℓ.2.2 r).1]? = some v → BK'[(ℓ.2.2 r).1]? = some v) : lb_B1 E BK' s n rows ℓ :=
  ⟨h.1, h.2.1, h1 _ h.2.2.1, h2 _ h.2.2.2.1, fun r m c hr hm => ⟨(h.2.2.2.2 r m c hr hm).1, (h.2.2.2.2 r m c hr hm).2.1, h3 r m c hr hm _ (h.2.2.2.2 r m c hr hm).2.2⟩⟩
theorem lb_gap {BK xs : va_W} {q : Nat} {v : Nat × va_E} (h : BK[q]? = some v) : (BK ++ xs)[q]? = some v := by rw [List.getElem?_append_left (List.getElem?_eq_some_iff.mp h).1]; exact h
theorem lb_glt {BK : va_W} {q : Nat} {v : Nat × va_E} (h : BK[q]? = some v) : q < BK.length := (List.getElem?_eq_some_iff.mp h).1
section LP18
variable {E : Nat → ClassId} {bk : lp_Bk} {BF : Nat → Option Nat} {BK : va_W} {ℓ : Nat → lb_L}
theorem lb_BRl_pos (h : lb_BRl E bk BF BK ℓ) {k s n : Nat} {rows : Nat → lp_Row} (hk : k < 3) (hb : bk k = some (s, n, rows)) : (ℓ k).1.1 < BK.length ∧ (ℓ k).2.1.1 < BK.length ∧ ∀ r m c, r < n → rows r = some (m, c) → ((ℓ k).2.2 r).1 < BK.length := by
  obtain ⟨-, h1⟩ := ((h.1 k hk).2 s n rows hb)
  exact ⟨lb_glt h1.2.2.1, lb_glt h1.2.2.2.1, fun r m c hr hm => lb_glt (h1.2.2.2.2 r m c hr hm).2.2⟩
/-- a new book -/
theorem lb_BR_book (h : lb_BRl E bk BF BK ℓ) {k s M p b : Nat} (hk : k < 3) (hs : s ≤ 3) (hM : M ≤ 4) : lb_BR E (va_up bk k (some (s, M, fun _ => none))) (va_up BF k (some p)) (BK ++ [(p, .inr (6 + s, [.ref b])), (b, .inl (E (lb_rc s), M, .inr (.inr (.inr (.inr (fun _ => none))))))]) := by
  refine ⟨va_up ℓ k ((BK.length, p), (BK.length + 1, b), fun _ => (0, 0)), fun k1 hk1 => ?_, fun k1 k2 h1 h2 hne n1 n2 => ?_, fun k1 k2 r1 r2 h1 h2 hne n1 n2 => ?_⟩
  · by_cases e : k1 = k
    · subst e
      rw [va_up_self, va_up_self, va_up_self]
      refine ⟨fun z => (by cases z), fun s' n' rows' z => ?_⟩
      cases z
      refine ⟨rfl, hs, hM, ?_, ?_, fun r m c hr hm => (by cases hm)⟩
      · show (BK ++ _)[BK.length]? = _
        rw [List.getElem?_append_right (Nat.le_refl _), Nat.sub_self]
        rfl
      · show (BK ++ _)[BK.length + 1]? = _
        rw [List.getElem?_append_right (by omega), show BK.length + 1 - BK.length = 1 by omega]
        rfl
    · rw [va_up_ne _ _ e, va_up_ne _ _ e, va_up_ne _ _ e]
      refine ⟨(h.1 k1 hk1).1, fun s' n' rows' z => ?_⟩
      obtain ⟨a1, a2⟩ := (h.1 k1 hk1).2 s' n' rows' z
      exact ⟨a1, lb_B1_frame a2 (fun v hv => lb_gap hv) (fun v hv => lb_gap hv) (fun r m c _ _ v hv => lb_gap hv)⟩
  · have hpos : ∀ k', k' < 3 → k' ≠ k → va_up bk k (some (s, M, fun _ => none)) k' ≠ none → (ℓ k').2.1.1 < BK.length := by
      intro k' hk' e n'
      rw [va_up_ne _ _ e] at n'
      rcases hb : bk k' with _ | ⟨s', n', rows'⟩
      · exact absurd hb n'
      · exact (lb_BRl_pos h hk' hb).2.1
    by_cases e1 : k1 = k
    · subst e1
      have e2 : k2 ≠ k1 := fun z => hne z.symm
      rw [va_up_self, va_up_ne _ _ e2]
      have := hpos k2 h2 e2 n2
      show BK.length + 1 ≠ _
      omega
    · by_cases e2 : k2 = k
      · subst e2
        rw [va_up_self, va_up_ne _ _ e1]
        have := hpos k1 h1 e1 n1
        show _ ≠ BK.length + 1
        omega
      · rw [va_up_ne _ _ e1, va_up_ne _ _ e2]
        rw [va_up_ne _ _ e1] at n1
        rw [va_up_ne _ _ e2] at n2
        exact h.2.1 k1 k2 h1 h2 hne n1 n2
  · have hno : ∀ k' r', lp_row (va_up bk k (some (s, M, fun _ => none))) k' r' ≠ none → k' ≠ k ∧ lp_row bk k' r' ≠ none := by
      intro k' r' n'
      by_cases e : k' = k
      · subst e
        unfold lp_row at n'
        rw [va_up_self] at n'
        exfalso
        apply n'
        dsimp only
        split <;> rfl
      · refine ⟨e, ?_⟩
        unfold lp_row at n' ⊢
        rw [va_up_ne _ _ e] at n'
        exact n'
    obtain ⟨e1, m1⟩ := hno _ _ n1
    obtain ⟨e2, m2⟩ := hno _ _ n2
    rw [va_up_ne _ _ e1, va_up_ne _ _ e2]
    exact h.2.2 k1 k2 r1 r2 h1 h2 hne m1 m2
theorem lp_row_up {k s n r m : Nat} {c : Nat → Int64} {rows : Nat → lp_Row} (hb : bk k = some (s, n, rows)) (hr : r < n) (k' r' : Nat) : lp_row (va_up bk k (some (s, n, va_up rows r (some (m, c))))) k' r' = if k' = k ∧ r' = r then some (m, c) else lp_row bk k' r' := by
  by_cases e : k' = k
  · subst e
    unfold lp_row
    rw [va_up_self, hb]
    dsimp only
    by_cases e2 : r' = r
    · subst e2
      rw [if_pos hr, va_up_self, if_pos ⟨rfl, rfl⟩]
    · have e3 : ¬ (k' = k' ∧ r' = r) := fun z => e2 z.2
      rw [va_up_ne _ _ e2, if_neg e3]
  · rw [if_neg (fun z => e z.1)]
    unfold lp_row
    rw [va_up_ne _ _ e]
theorem lp_bk_up {k s n r m : Nat} {c : Nat → Int64} {rows : Nat → lp_Row} (hb : bk k = some (s, n, rows)) {k' : Nat} (h : va_up bk k (some (s, n, va_up rows r (some (m, c)))) k' ≠ none) : bk k' ≠ none := by
  by_cases e : k' = k
  · subst e; rw [hb]; exact fun z => by cases z
  · rw [va_up_ne _ _ e] at h; exact h
/-- a row made anew -/
theorem lb_BR_row (h : lb_BRl E bk BF BK ℓ) {k s n r m c : Nat} {rows : Nat → lp_Row} (hk : k < 3) (hb : bk k = some (s, n, rows)) (hr : r < n) (hm : m ≤ 8) : lb_BR E (va_up bk k (some (s, n, va_up rows r (some (m, fun _ => lN 0))))) BF ((BK ++ [((c, lb_dat E s m (fun _ => 0)) : Nat × va_E)]).set (ℓ k).2.1.1 ((ℓ k).2.1.2, .inl (E (lb_rc s), n, .inr (.inr (.inr (.inr (va_up (lb_gg (ℓ k) rows) r (some c)))))))) := by
  obtain ⟨p1, p2, p3⟩ := lb_BRl_pos h hk hb
  obtain ⟨b0, b1⟩ := (h.1 k hk).2 s n rows hb
  have keep : ∀ (q : Nat) (v : Nat × va_E), q ≠ (ℓ k).2.1.1 → BK[q]? = some v → ((BK ++ [((c, lb_dat E s m (fun _ => 0)) : Nat × va_E)]).set (ℓ k).2.1.1 ((ℓ k).2.1.2, .inl (E (lb_rc s), n, .inr (.inr (.inr (.inr (va_up (lb_gg (ℓ k) rows) r (some c))))))))[q]? = some v := by
    intro q v hq hv
    rw [List.getElem?_set_ne (Ne.symm hq)]
    exact lb_gap hv
  have neO : ∀ (q : Nat) (v : Nat) (x : Nat × List Value), BK[q]? = some (v, .inr x) → q ≠ (ℓ k).2.1.1 := by
    intro q v x hv e
    rw [e, b1.2.2.2.1] at hv
    cases hv
  have neD : ∀ (q : Nat) (v s' m' : Nat) (c' : Nat → Int64), BK[q]? = some (v, lb_dat E s' m' c') → q ≠ (ℓ k).2.1.1 := by
    intro q v s' m' c' hv e
    rw [e, b1.2.2.2.1] at hv
    have := congrArg Prod.snd (Option.some.inj hv)
    exact lb_dat_ne this.symm
  have hlen : ((BK ++ [((c, lb_dat E s m (fun _ => 0)) : Nat × va_E)]).set (ℓ k).2.1.1 ((ℓ k).2.1.2, .inl (E (lb_rc s), n, .inr (.inr (.inr (.inr (va_up (lb_gg (ℓ k) rows) r (some c))))))))[BK.length]? = some (c, lb_dat E s m (fun _ => 0)) := by
    rw [List.getElem?_set_ne (by omega), List.getElem?_append_right (Nat.le_refl _), Nat.sub_self]
    rfl
  refine ⟨va_up ℓ k ((ℓ k).1, (ℓ k).2.1, va_up (ℓ k).2.2 r (BK.length, c)), fun k1 hk1 => ?_, fun k1 k2 h1 h2 hne n1 n2 => ?_, fun k1 k2 r1 r2 h1 h2 hne n1 n2 => ?_⟩
  · by_cases e : k1 = k
    · subst e
      rw [va_up_self, va_up_self]
      refine ⟨fun z => (by cases z), fun s' n' rows' z => ?_⟩
      cases z
      refine ⟨b0, b1.1, b1.2.1, keep _ _ (neO _ _ _ b1.2.2.1) b1.2.2.1, ?_, fun r' m' c' hr' hm' => ?_⟩
      · show (List.set _ _ _)[(ℓ k1).2.1.1]? = _
        rw [List.getElem?_set_self (by rw [List.length_append]; omega)]
        have e8 : va_up (lb_gg (ℓ k1) rows) r (some c) = lb_gg ((ℓ k1).1, (ℓ k1).2.1, va_up (ℓ k1).2.2 r (BK.length, c)) (va_up rows r (some (m, fun _ => lN 0))) := by
          funext j
          unfold lb_gg
          by_cases e2 : j = r
          · subst e2
            simp only [va_up_self]
            rfl
          · simp only [va_up_ne _ _ e2]
        rw [e8]
      · by_cases e2 : r' = r
        · subst e2
          rw [va_up_self] at hm'
          cases hm'
          refine ⟨hm, fun _ _ => rfl, ?_⟩
          show (List.set _ _ _)[(va_up (ℓ k1).2.2 r' (BK.length, c) r').1]? = some ((va_up (ℓ k1).2.2 r' (BK.length, c) r').2, _)
          rw [va_up_self]
          exact hlen
        · rw [va_up_ne _ _ e2] at hm'
          obtain ⟨c1, c2, c3⟩ := b1.2.2.2.2 r' m' c' hr' hm'
          refine ⟨c1, c2, ?_⟩
          show (List.set _ _ _)[(va_up (ℓ k1).2.2 r (BK.length, c) r').1]? = some ((va_up (ℓ k1).2.2 r (BK.length, c) r').2, _)
          rw [va_up_ne _ _ e2]
          exact keep _ _ (neD _ _ _ _ _ c3) c3
    · rw [va_up_ne _ _ e, va_up_ne _ _ e]
      refine ⟨(h.1 k1 hk1).1, fun s' n' rows' z => ?_⟩
      obtain ⟨a1, a2⟩ := (h.1 k1 hk1).2 s' n' rows' z
      refine ⟨a1, lb_B1_frame a2 (fun v hv => keep _ _ ?_ hv) (fun v hv => keep _ _ ?_ hv) (fun r' m' c' hr' hm' v hv => keep _ _ ?_ hv)⟩
      · exact neO _ _ _ a2.2.2.1
      · exact h.2.1 k1 k hk1 hk e (by rw [z]; exact fun z => by cases z) (by rw [hb]; exact fun z => by cases z)
      · exact neD _ _ _ _ _ (a2.2.2.2.2 r' m' c' hr' hm').2.2
  · have m1 := lp_bk_up hb n1
    have m2 := lp_bk_up hb n2
    have ha : ∀ k', (va_up ℓ k ((ℓ k).1, (ℓ k).2.1, va_up (ℓ k).2.2 r (BK.length, c)) k').2.1 = (ℓ k').2.1 := by
      intro k'
      by_cases e : k' = k
      · subst e; rw [va_up_self]
      · rw [va_up_ne _ _ e]
    rw [ha, ha]
    exact h.2.1 k1 k2 h1 h2 hne m1 m2
  · rw [lp_row_up hb hr] at n1 n2
    have hpos : ∀ k' r', k' < 3 → lp_row bk k' r' ≠ none → ((ℓ k').2.2 r').1 < BK.length := by
      intro k' r' hk' n'
      obtain ⟨s', n'', rows', m', c', g1, g2, g3⟩ := lp_row_some n'
      exact (lb_BRl_pos h hk' g1).2.2 r' m' c' g2 g3
    have hl : ∀ k' r', ((va_up ℓ k ((ℓ k).1, (ℓ k).2.1, va_up (ℓ k).2.2 r (BK.length, c)) k').2.2 r').1 = if k' = k ∧ r' = r then BK.length else ((ℓ k').2.2 r').1 := by
      intro k' r'
      by_cases e : k' = k
      · subst e
        rw [va_up_self]
        show (va_up (ℓ k').2.2 r (BK.length, c) r').1 = _
        by_cases e2 : r' = r
        · subst e2; rw [va_up_self, if_pos ⟨rfl, rfl⟩]
        · rw [va_up_ne _ _ e2, if_neg (fun z => e2 z.2)]
      · rw [va_up_ne _ _ e, if_neg (fun z => e z.1)]
    rw [hl, hl]
    by_cases g1 : k1 = k ∧ r1 = r
    · rw [if_pos g1]
      by_cases g2 : k2 = k ∧ r2 = r
      · exact absurd ⟨g1.1.trans g2.1.symm, g1.2.trans g2.2.symm⟩ hne
      · rw [if_neg g2] at n2 ⊢
        have := hpos k2 r2 h2 n2
        omega
    · rw [if_neg g1] at n1 ⊢
      by_cases g2 : k2 = k ∧ r2 = r
      · rw [if_pos g2]
        have := hpos k1 r1 h1 n1
        omega
      · rw [if_neg g2] at n2 ⊢
        exact h.2.2 k1 k2 r1 r2 h1 h2 hne n1 n2
/-- a number put -/
theorem lb_BR_put (h : lb_BRl E bk BF BK ℓ) {k s n r m i : Nat} {rows : Nat → lp_Row} {c : Nat → Int64} {v : Int64} (hk : k < 3) (hb : bk k = some (s, n, rows)) (hr : r < n) (hro : rows r = some (m, c)) (hv : s < 3 → v.toInt32.toInt64 = v) : lb_BR E (va_up bk k (some (s, n, va_up rows r (some (m, va_up c i v))))) BF (BK.set ((ℓ k).2.2 r).1 (((ℓ k).2.2 r).2, lb_dat E s m (va_up c i v))) := by
  obtain ⟨p1, p2, p3⟩ := lb_BRl_pos h hk hb
  obtain ⟨b0, b1⟩ := (h.1 k hk).2 s n rows hb
  obtain ⟨d1, d2, d3⟩ := b1.2.2.2.2 r m c hr hro
  have keep : ∀ (q : Nat) (v' : Nat × va_E), q ≠ ((ℓ k).2.2 r).1 → BK[q]? = some v' → (BK.set ((ℓ k).2.2 r).1 (((ℓ k).2.2 r).2, lb_dat E s m (va_up c i v)))[q]? = some v' := by
    intro q v' hq hv'
    rw [List.getElem?_set_ne (Ne.symm hq)]
    exact hv'
  have neO : ∀ (q : Nat) (v' : Nat) (x : Nat × List Value), BK[q]? = some (v', .inr x) → q ≠ ((ℓ k).2.2 r).1 := by
    intro q v' x hv' e
    rw [e, d3] at hv'
    obtain ⟨y, hy⟩ := lb_dat_inl (E := E) (s := s) (m := m) (c := c)
    rw [hy] at hv'
    cases hv'
  have neA : ∀ (q v' N : Nat) (cA : ClassId) (g : Nat → Option Nat), BK[q]? = some (v', .inl (cA, N, .inr (.inr (.inr (.inr g))))) → q ≠ ((ℓ k).2.2 r).1 := by
    intro q v' N cA g hv' e
    rw [e, d3] at hv'
    exact lb_dat_ne (congrArg Prod.snd (Option.some.inj hv'))
  have rowk : lp_row bk k r ≠ none := by rw [lp_row_of hb hr, hro]; exact fun z => by cases z
  refine ⟨ℓ, fun k1 hk1 => ?_, fun k1 k2 h1 h2 hne n1 n2 => h.2.1 k1 k2 h1 h2 hne (lp_bk_up hb n1) (lp_bk_up hb n2), fun k1 k2 r1 r2 h1 h2 hne n1 n2 => ?_⟩
  · by_cases e : k1 = k
    · subst e
      rw [va_up_self]
      refine ⟨fun z => (by cases z), fun s' n' rows' z => ?_⟩
      cases z
      refine ⟨b0, b1.1, b1.2.1, keep _ _ (neO _ _ _ b1.2.2.1) b1.2.2.1, ?_, fun r' m' c' hr' hm' => ?_⟩
      · have e9 : lb_gg (ℓ k1) (va_up rows r (some (m, va_up c i v))) = lb_gg (ℓ k1) rows := by
          funext j
          unfold lb_gg
          by_cases e2 : j = r
          · subst e2; rw [va_up_self, hro]; rfl
          · rw [va_up_ne _ _ e2]
        rw [e9]
        exact keep _ _ (neA _ _ _ _ _ b1.2.2.2.1) b1.2.2.2.1
      · by_cases e2 : r' = r
        · subst e2
          rw [va_up_self] at hm'
          cases hm'
          refine ⟨d1, fun hs j => ?_, ?_⟩
          · by_cases e3 : j = i
            · subst e3; rw [va_up_self]; exact hv hs
            · rw [va_up_ne _ _ e3]; exact d2 hs j
          · rw [List.getElem?_set_self (p3 r' _ _ hr hro)]
        · rw [va_up_ne _ _ e2] at hm'
          obtain ⟨c1, c2, c3⟩ := b1.2.2.2.2 r' m' c' hr' hm'
          refine ⟨c1, c2, keep _ _ ?_ c3⟩
          exact h.2.2 k1 k1 r' r hk1 hk1 (fun z => e2 z.2) (by rw [lp_row_of hb hr', hm']; exact fun z => by cases z) rowk
    · rw [va_up_ne _ _ e]
      refine ⟨(h.1 k1 hk1).1, fun s' n' rows' z => ?_⟩
      obtain ⟨a1, a2⟩ := (h.1 k1 hk1).2 s' n' rows' z
      refine ⟨a1, lb_B1_frame a2 (fun v hv => keep _ _ ?_ hv) (fun v hv => keep _ _ ?_ hv) (fun r' m' c' hr' hm' v hv => keep _ _ ?_ hv)⟩
      · exact neO _ _ _ a2.2.2.1
      · exact neA _ _ _ _ _ a2.2.2.2.1
      · exact h.2.2 k1 k r' r hk1 hk (fun z => e z.1) (by rw [lp_row_of z hr', hm']; exact fun z => by cases z) rowk
  · rw [lp_row_up hb hr] at n1 n2
    have hh : ∀ k' r', (if k' = k ∧ r' = r then some (m, va_up c i v) else lp_row bk k' r') ≠ none → lp_row bk k' r' ≠ none := by
      intro k' r' n'
      by_cases g : k' = k ∧ r' = r
      · rw [g.1, g.2]; exact rowk
      · rw [if_neg g] at n'; exact n'
    exact h.2.2 k1 k2 r1 r2 h1 h2 hne (hh _ _ n1) (hh _ _ n2)
theorem lb_BR_none : lb_BR E (fun _ => none) (fun _ => none) [] := ⟨fun _ => ((0, 0), (0, 0), fun _ => (0, 0)), fun k hk => ⟨fun _ => rfl, fun s n rows z => by cases z⟩, fun k k' _ _ _ h => absurd rfl h, fun k k' r r' _ _ _ h => absurd rfl h⟩
end LP18
