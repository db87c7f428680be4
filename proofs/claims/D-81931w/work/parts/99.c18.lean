/-! BOOKS IN A WORLD; rows of calls of a book's methods. Printed by c18.py. -/
abbrev lb_L : Type := (Nat × Nat) × (Nat × Nat) × (Nat → Nat × Nat)
def lb_rc (s : Nat) : Nat := if s = 0 then 8 else if s = 1 then 9 else if s = 2 then 7 else 10
def lb_dat (E : Nat → ClassId) (s m : Nat) (c : Nat → Int64) : va_E := if s = 0 then .inl (E 3, m, .inl (fun i => (c i).toInt32)) else if s = 1 then .inl (E 4, m, .inl (fun i => (c i).toInt32)) else if s = 2 then .inl (E 0, m, .inl (fun i => (c i).toInt32)) else .inl (E 2, m, .inr (.inl c))
def lb_fit (s : Nat) (c : Nat → Int64) : Prop := s < 3 → ∀ i, (c i).toInt32.toInt64 = c i
def lb_gg (ℓ : lb_L) (rows : Nat → lp_Row) : Nat → Option Nat := fun r => (rows r).map (fun _ => (ℓ.2.2 r).2)
def lb_B1 (E : Nat → ClassId) (ws : va_W) (s n : Nat) (rows : Nat → lp_Row) (ℓ : lb_L) : Prop := s ≤ 3 ∧ n ≤ 4 ∧ ws[ℓ.1.1]? = some (ℓ.1.2, .inr (6 + s, [.ref ℓ.2.1.2])) ∧ ws[ℓ.2.1.1]? = some (ℓ.2.1.2, .inl (E (lb_rc s), n, .inr (.inr (.inr (.inr (lb_gg ℓ rows)))))) ∧ ∀ (r m : Nat) (c : Nat → Int64), r < n → rows r = some (m, c) → m ≤ 8 ∧ lb_fit s c ∧ ws[(ℓ.2.2 r).1]? = some ((ℓ.2.2 r).2, lb_dat E s m c)
/-- what get answers, or throws -/
def lp_gtA (rows : Nat → lp_Row) (n : Nat) (r i : Int32) : Int64 ⊕ String := if lp_in r n then (match rows r.toNatClampNeg with | none => .inr lt_NPE | some (m, c) => if lp_in i m then .inl (c i.toNatClampNeg) else .inr lt_idxN) else .inr lt_idxN
/-- what size answers, or throws -/
def lp_szA (rows : Nat → lp_Row) (n : Nat) (r : Int32) : Nat ⊕ String := if lp_in r n then (match rows r.toNatClampNeg with | none => .inr lt_NPE | some (m, _) => .inl m) else .inr lt_idxN
theorem lb_gg_some {ℓ : lb_L} {rows : Nat → lp_Row} {k c : Nat} (h : lb_gg ℓ rows k = some c) : ∃ m f, rows k = some (m, f) ∧ c = (ℓ.2.2 k).2 := by
  unfold lb_gg at h
  rcases hr : rows k with _ | ⟨m, f⟩
  · rw [hr] at h; cases h
  · rw [hr] at h; cases h; exact ⟨m, f, rfl, rfl⟩
theorem lb_gg_none {ℓ : lb_L} {rows : Nat → lp_Row} {k : Nat} (h : lb_gg ℓ rows k = none) : rows k = none := by
  unfold lb_gg at h
  rcases hr : rows k with _ | ⟨m, f⟩
  · rfl
  · rw [hr] at h; cases h
theorem lp_gtA_idx {rows : Nat → lp_Row} {n : Nat} {r i : Int32} (h : ¬ lp_in r n) : lp_gtA rows n r i = .inr lt_idxN := if_neg h
theorem lp_gtA_npe {rows : Nat → lp_Row} {n k : Nat} {i : Int32} (hk : k < n) (hn : n ≤ 4) (h : rows k = none) : lp_gtA rows n (nI k) i = .inr lt_NPE := by
  unfold lp_gtA
  rw [if_pos ((lp_in_nI (by omega)).mpr hk), nI_clamp (by omega), h]
theorem lp_gtA_i {rows : Nat → lp_Row} {n k m : Nat} {c : Nat → Int64} {i : Int32} (hk : k < n) (hn : n ≤ 4) (h : rows k = some (m, c)) (hi : ¬ lp_in i m) : lp_gtA rows n (nI k) i = .inr lt_idxN := by
  unfold lp_gtA
  rw [if_pos ((lp_in_nI (by omega)).mpr hk), nI_clamp (by omega), h]
  exact if_neg hi
theorem lp_gtA_v {rows : Nat → lp_Row} {n k m ki : Nat} {c : Nat → Int64} (hk : k < n) (hn : n ≤ 4) (h : rows k = some (m, c)) (hm : m ≤ 8) (hi : ki < m) : lp_gtA rows n (nI k) (nI ki) = .inl (c ki) := by
  unfold lp_gtA
  rw [if_pos ((lp_in_nI (by omega)).mpr hk), nI_clamp (by omega), h]
  dsimp only
  rw [if_pos ((lp_in_nI (by omega)).mpr hi), nI_clamp (by omega)]
theorem lp_szA_npe {rows : Nat → lp_Row} {n k : Nat} (hk : k < n) (hn : n ≤ 4) (h : rows k = none) : lp_szA rows n (nI k) = .inr lt_NPE := by
  unfold lp_szA
  rw [if_pos ((lp_in_nI (by omega)).mpr hk), nI_clamp (by omega), h]
theorem lp_szA_v {rows : Nat → lp_Row} {n k m : Nat} {c : Nat → Int64} (hk : k < n) (hn : n ≤ 4) (h : rows k = some (m, c)) : lp_szA rows n (nI k) = .inl m := by
  unfold lp_szA
  rw [if_pos ((lp_in_nI (by omega)).mpr hk), nI_clamp (by omega), h]
section LTD
variable {ω : la_O} {κ : la_K} {cc : ByteArray} {nL : Nat} {own : String} {R0 : Room} {n : Nat × Nat} {pc : Nat} {lv : List (Option Value)} {st rest : List Value} {ws : va_W} {ℓ : lb_L} {s N : Nat} {rows : Nat → lp_Row}
theorem la_At_drop {xs : va_W} (h : la_At ω κ n pc lv st ws) : la_At ω κ n pc lv st (ws ++ xs) := by
  intro H locs ls hP hD hS hl
  have hx : ∀ (k : Nat) (q : Nat × va_E), ws[k]? = some q → (ws ++ xs)[k]? = some q := fun k q hk => by rw [List.getElem?_append_left (List.getElem?_eq_some_iff.mp hk).1]; exact hk
  exact h H locs ls (fun k q hk => hP k q (hx k q hk)) ⟨fun i j p q hi hj e => hD.1 i j p q (hx _ _ hi) (hx _ _ hj) e, fun k q hk => hD.2 k q (hx _ _ hk)⟩ hS hl
theorem la_Th_drop {X : String} {xs : va_W} (h : la_Th ω κ n pc lv X ws) : la_Th ω κ n pc lv X (ws ++ xs) := by
  intro H locs ls a cell st hP hD hS hl
  have hx : ∀ (k : Nat) (q : Nat × va_E), ws[k]? = some q → (ws ++ xs)[k]? = some q := fun k q hk => by rw [List.getElem?_append_left (List.getElem?_eq_some_iff.mp hk).1]; exact hk
  exact h H locs ls a cell st (fun k q hk => hP k q (hx k q hk)) ⟨fun i j p q hi hj e => hD.1 i j p q (hx _ _ hi) (hx _ _ hj) e, fun k q hk => hD.2 k q (hx _ _ hk)⟩ hS hl
def lp_rm (rows : Nat → lp_Row) (k : Nat) : Nat := (rows k).elim 0 (fun x => x.1)
def lp_rcn (rows : Nat → lp_Row) (k : Nat) : Nat → Int64 := (rows k).elim (fun _ => 0) (fun x => x.2)
theorem lp_rm_of {m k : Nat} {c : Nat → Int64} (h : rows k = some (m, c)) : lp_rm rows k = m ∧ lp_rcn rows k = c := by
  unfold lp_rm lp_rcn
  rw [h]
  exact ⟨rfl, rfl⟩
theorem lb_ggS {k : Nat} (h : lb_gg ℓ rows k ≠ none) : ∃ m c, rows k = some (m, c) := by
  rcases h1 : lb_gg ℓ rows k with _ | c
  · exact absurd h1 h
  · obtain ⟨m, f, h2, -⟩ := lb_gg_some h1
    exact ⟨m, f, h2⟩
theorem lb_B1_g0 (hB : lb_B1 ω.2.2 ws 0 N rows ℓ) : ∀ k c, k < N → lb_gg ℓ rows k = some c → ws[(ℓ.2.2 k).1]? = some (c, .inl (ω.2.2 3, lp_rm rows k, .inl (fun i => (lp_rcn rows k i).toInt32))) ∧ lp_rm rows k ≤ 8 := by
  intro k c0 hk h
  obtain ⟨m, c, h1, rfl⟩ := lb_gg_some h
  obtain ⟨h2, -, h3⟩ := hB.2.2.2.2 k m c hk h1
  obtain ⟨e1, e2⟩ := lp_rm_of h1
  rw [e1, e2]
  exact ⟨h3, h2⟩
theorem lb_B1_g1 (hB : lb_B1 ω.2.2 ws 1 N rows ℓ) : ∀ k c, k < N → lb_gg ℓ rows k = some c → ws[(ℓ.2.2 k).1]? = some (c, .inl (ω.2.2 4, lp_rm rows k, .inl (fun i => (lp_rcn rows k i).toInt32))) ∧ lp_rm rows k ≤ 8 := by
  intro k c0 hk h
  obtain ⟨m, c, h1, rfl⟩ := lb_gg_some h
  obtain ⟨h2, -, h3⟩ := hB.2.2.2.2 k m c hk h1
  obtain ⟨e1, e2⟩ := lp_rm_of h1
  rw [e1, e2]
  exact ⟨h3, h2⟩
theorem lb_B1_g2 (hB : lb_B1 ω.2.2 ws 2 N rows ℓ) : ∀ k c, k < N → lb_gg ℓ rows k = some c → ws[(ℓ.2.2 k).1]? = some (c, .inl (ω.2.2 0, lp_rm rows k, .inl (fun i => (lp_rcn rows k i).toInt32))) ∧ lp_rm rows k ≤ 8 := by
  intro k c0 hk h
  obtain ⟨m, c, h1, rfl⟩ := lb_gg_some h
  obtain ⟨h2, -, h3⟩ := hB.2.2.2.2 k m c hk h1
  obtain ⟨e1, e2⟩ := lp_rm_of h1
  rw [e1, e2]
  exact ⟨h3, h2⟩
theorem lb_B1_g3 (hB : lb_B1 ω.2.2 ws 3 N rows ℓ) : ∀ k c, k < N → lb_gg ℓ rows k = some c → ws[(ℓ.2.2 k).1]? = some (c, .inl (ω.2.2 2, lp_rm rows k, .inr (.inl (lp_rcn rows k)))) ∧ lp_rm rows k ≤ 8 := by
  intro k c0 hk h
  obtain ⟨m, c, h1, rfl⟩ := lb_gg_some h
  obtain ⟨h2, -, h3⟩ := hB.2.2.2.2 k m c hk h1
  obtain ⟨e1, e2⟩ := lp_rm_of h1
  rw [e1, e2]
  exact ⟨h3, h2⟩
theorem lb_r_get (K : la_Cx ω κ cc nL own R0) (hz : lt_H ω κ) (hB : lb_B1 ω.2.2 ws s N rows ℓ) (hlv : lv.length = nL) (hw : (rest.map fun v => v.category).sum ≤ 8) (r i : Int32) {i0 : Nat} (hlink : Cond.methodLink own i0 ⟨"LadderCalls$Book", "get", "(II)J"⟩ ∈ lw_all) (hR : (lt_rm 0 3 240).frames + 1 ≤ R0.frames ∧ 8 + (3 + 11) + (lt_rm 0 3 240).locals ≤ R0.locals) (hf : n.1 + (lt_rm 0 3 240).cells ≤ R0.cells ∧ n.2 + (lt_rm 0 3 240).slots ≤ R0.slots) (hd : decode cc pc = .ok (.invokevirtual i0, 3)) (kk : ∀ v, lp_gtA rows N r i = .inl v → la_At ω κ (n.1 + 3, n.2 + 240) (pc + 3) lv (.long v :: rest) ws) (kt : ∀ X, lp_gtA rows N r i = .inr X → la_Th ω κ (n.1 + 3, n.2 + 240) pc lv X ws) : la_At ω κ n pc lv (.int i :: .int r :: .ref ℓ.1.2 :: rest) ws := by
  obtain ⟨hz1, hz2, hoff⟩ := hz
  have hs := hB.1
  have hN := hB.2.1
  have hc4 : s = 0 ∨ s = 1 ∨ s = 2 ∨ s = 3 := by omega
  rcases hc4 with rfl | rfl | rfl | rfl
  · refine lt_at K (lb_X7_get hoff hB.2.2.1 hB.2.2.2.1 hN r i (fun k => (ℓ.2.2 k).1) (lp_rm rows) (fun k i => (lp_rcn rows k i).toInt32) (lb_B1_g0 hB)) lt_Zs_b (by decide) (lt_codeC K q776) (lt_invO (k := 2) (As := [.int r, .int i]) K hlink q773 q772 q775 q774 (by decide +kernel) ℓ.1.1 hB.2.2.1 rfl rfl hd) hd hlv hw hR hf (lt_Zs_at hz1 hz2) (fun v u h => ?_) (fun X u h => ?_)
    · rcases h with ⟨-, h⟩ | ⟨k, rfl, hk, ⟨-, h⟩ | ⟨h1, ⟨-, h⟩ | ⟨ki, rfl, hki, h⟩⟩⟩
      · cases h
      · cases h
      · cases h
      · cases h
        obtain ⟨m, c, e1⟩ := lb_ggS h1
        obtain ⟨e2, e3, e4⟩ := hB.2.2.2.2 k m c hk e1
        obtain ⟨e5, e6⟩ := lp_rm_of e1
        rw [e5] at hki
        have := kk _ (lp_gtA_v hk hN e1 e2 hki)
        rw [e6, e3 (by decide) ki]
        exact this
    · rcases h with ⟨h0, h⟩ | ⟨k, rfl, hk, ⟨h0, h⟩ | ⟨h1, ⟨h0, h⟩ | ⟨ki, rfl, hki, h⟩⟩⟩
      · cases h
        exact kt _ (lp_gtA_idx h0)
      · cases h
        exact kt _ (lp_gtA_npe hk hN (lb_gg_none h0))
      · cases h
        obtain ⟨m, c, e1⟩ := lb_ggS h1
        obtain ⟨e5, e6⟩ := lp_rm_of e1
        rw [e5] at h0
        exact kt _ (lp_gtA_i hk hN e1 h0)
      · cases h
  · refine lt_at K (lb_X8_get hoff hB.2.2.1 hB.2.2.2.1 hN r i (fun k => (ℓ.2.2 k).1) (lp_rm rows) (fun k i => (lp_rcn rows k i).toInt32) (lb_B1_g1 hB)) lt_Zs_b (by decide) (lt_codeC K q785) (lt_invO (k := 2) (As := [.int r, .int i]) K hlink q773 q772 q784 q783 (by decide +kernel) ℓ.1.1 hB.2.2.1 rfl rfl hd) hd hlv hw hR hf (lt_Zs_at hz1 hz2) (fun v u h => ?_) (fun X u h => ?_)
    · rcases h with ⟨-, h⟩ | ⟨k, rfl, hk, ⟨-, h⟩ | ⟨h1, ⟨-, h⟩ | ⟨ki, rfl, hki, h⟩⟩⟩
      · cases h
      · cases h
      · cases h
      · cases h
        obtain ⟨m, c, e1⟩ := lb_ggS h1
        obtain ⟨e2, e3, e4⟩ := hB.2.2.2.2 k m c hk e1
        obtain ⟨e5, e6⟩ := lp_rm_of e1
        rw [e5] at hki
        have := kk _ (lp_gtA_v hk hN e1 e2 hki)
        rw [e6, e3 (by decide) ki]
        exact this
    · rcases h with ⟨h0, h⟩ | ⟨k, rfl, hk, ⟨h0, h⟩ | ⟨h1, ⟨h0, h⟩ | ⟨ki, rfl, hki, h⟩⟩⟩
      · cases h
        exact kt _ (lp_gtA_idx h0)
      · cases h
        exact kt _ (lp_gtA_npe hk hN (lb_gg_none h0))
      · cases h
        obtain ⟨m, c, e1⟩ := lb_ggS h1
        obtain ⟨e5, e6⟩ := lp_rm_of e1
        rw [e5] at h0
        exact kt _ (lp_gtA_i hk hN e1 h0)
      · cases h
  · refine lt_at K (lb_X9_get hoff hB.2.2.1 hB.2.2.2.1 hN r i (fun k => (ℓ.2.2 k).1) (lp_rm rows) (fun k i => (lp_rcn rows k i).toInt32) (lb_B1_g2 hB)) lt_Zs_b (by decide) (lt_codeC K q779) (lt_invO (k := 2) (As := [.int r, .int i]) K hlink q773 q772 q778 q777 (by decide +kernel) ℓ.1.1 hB.2.2.1 rfl rfl hd) hd hlv hw hR hf (lt_Zs_at hz1 hz2) (fun v u h => ?_) (fun X u h => ?_)
    · rcases h with ⟨-, h⟩ | ⟨k, rfl, hk, ⟨-, h⟩ | ⟨h1, ⟨-, h⟩ | ⟨ki, rfl, hki, h⟩⟩⟩
      · cases h
      · cases h
      · cases h
      · cases h
        obtain ⟨m, c, e1⟩ := lb_ggS h1
        obtain ⟨e2, e3, e4⟩ := hB.2.2.2.2 k m c hk e1
        obtain ⟨e5, e6⟩ := lp_rm_of e1
        rw [e5] at hki
        have := kk _ (lp_gtA_v hk hN e1 e2 hki)
        rw [e6, e3 (by decide) ki]
        exact this
    · rcases h with ⟨h0, h⟩ | ⟨k, rfl, hk, ⟨h0, h⟩ | ⟨h1, ⟨h0, h⟩ | ⟨ki, rfl, hki, h⟩⟩⟩
      · cases h
        exact kt _ (lp_gtA_idx h0)
      · cases h
        exact kt _ (lp_gtA_npe hk hN (lb_gg_none h0))
      · cases h
        obtain ⟨m, c, e1⟩ := lb_ggS h1
        obtain ⟨e5, e6⟩ := lp_rm_of e1
        rw [e5] at h0
        exact kt _ (lp_gtA_i hk hN e1 h0)
      · cases h
  · refine lt_at K (lb_X10_get hoff hB.2.2.1 hB.2.2.2.1 hN r i (fun k => (ℓ.2.2 k).1) (lp_rm rows) (fun k => lp_rcn rows k) (lb_B1_g3 hB)) lt_Zs_b (by decide) (lt_codeC K q782) (lt_invO (k := 2) (As := [.int r, .int i]) K hlink q773 q772 q781 q780 (by decide +kernel) ℓ.1.1 hB.2.2.1 rfl rfl hd) hd hlv hw hR hf (lt_Zs_at hz1 hz2) (fun v u h => ?_) (fun X u h => ?_)
    · rcases h with ⟨-, h⟩ | ⟨k, rfl, hk, ⟨-, h⟩ | ⟨h1, ⟨-, h⟩ | ⟨ki, rfl, hki, h⟩⟩⟩
      · cases h
      · cases h
      · cases h
      · cases h
        obtain ⟨m, c, e1⟩ := lb_ggS h1
        obtain ⟨e2, e3, e4⟩ := hB.2.2.2.2 k m c hk e1
        obtain ⟨e5, e6⟩ := lp_rm_of e1
        rw [e5] at hki
        have := kk _ (lp_gtA_v hk hN e1 e2 hki)
        rw [e6]
        exact this
    · rcases h with ⟨h0, h⟩ | ⟨k, rfl, hk, ⟨h0, h⟩ | ⟨h1, ⟨h0, h⟩ | ⟨ki, rfl, hki, h⟩⟩⟩
      · cases h
        exact kt _ (lp_gtA_idx h0)
      · cases h
        exact kt _ (lp_gtA_npe hk hN (lb_gg_none h0))
      · cases h
        obtain ⟨m, c, e1⟩ := lb_ggS h1
        obtain ⟨e5, e6⟩ := lp_rm_of e1
        rw [e5] at h0
        exact kt _ (lp_gtA_i hk hN e1 h0)
      · cases h
theorem lb_r_size (K : la_Cx ω κ cc nL own R0) (hz : lt_H ω κ) (hB : lb_B1 ω.2.2 ws s N rows ℓ) (hlv : lv.length = nL) (hw : (rest.map fun v => v.category).sum ≤ 8) (r : Int32) {i0 : Nat} (hlink : Cond.methodLink own i0 ⟨"LadderCalls$Book", "size", "(I)I"⟩ ∈ lw_all) (hR : (lt_rm 0 3 240).frames + 1 ≤ R0.frames ∧ 8 + (2 + 11) + (lt_rm 0 3 240).locals ≤ R0.locals) (hf : n.1 + (lt_rm 0 3 240).cells ≤ R0.cells ∧ n.2 + (lt_rm 0 3 240).slots ≤ R0.slots) (hd : decode cc pc = .ok (.invokevirtual i0, 3)) (kk : ∀ v, lp_szA rows N r = .inl v → la_At ω κ (n.1 + 3, n.2 + 240) (pc + 3) lv (.int (nI v) :: rest) ws) (kt : ∀ X, lp_szA rows N r = .inr X → la_Th ω κ (n.1 + 3, n.2 + 240) pc lv X ws) : la_At ω κ n pc lv (.int r :: .ref ℓ.1.2 :: rest) ws := by
  obtain ⟨hz1, hz2, hoff⟩ := hz
  have hs := hB.1
  have hN := hB.2.1
  have hc4 : s = 0 ∨ s = 1 ∨ s = 2 ∨ s = 3 := by omega
  rcases hc4 with rfl | rfl | rfl | rfl
  · refine lt_at K (lb_X7_size hoff hB.2.2.1 hB.2.2.2.1 hN r (fun k => (ℓ.2.2 k).1) (lp_rm rows) (fun k i => (lp_rcn rows k i).toInt32) (lb_B1_g0 hB)) lt_Zs_b (by decide) (lt_codeC K q799) (lt_invO (k := 1) (As := [.int r]) K hlink q796 q795 q798 q797 (by decide +kernel) ℓ.1.1 hB.2.2.1 rfl rfl hd) hd hlv hw hR hf (lt_Zs_at hz1 hz2) (fun v u h => ?_) (fun X u h => ?_)
    · rcases h with ⟨-, h⟩ | ⟨k, rfl, hk, ⟨-, h⟩ | ⟨h1, h⟩⟩
      · cases h
      · cases h
      · cases h
        obtain ⟨m, c, e1⟩ := lb_ggS h1
        obtain ⟨e5, e6⟩ := lp_rm_of e1
        rw [e5]
        exact kk _ (lp_szA_v hk hN e1)
    · rcases h with ⟨h0, h⟩ | ⟨k, rfl, hk, ⟨h0, h⟩ | ⟨h1, h⟩⟩
      · cases h
        exact kt _ (if_neg h0)
      · cases h
        exact kt _ (lp_szA_npe hk hN (lb_gg_none h0))
      · cases h
  · refine lt_at K (lb_X8_size hoff hB.2.2.1 hB.2.2.2.1 hN r (fun k => (ℓ.2.2 k).1) (lp_rm rows) (fun k i => (lp_rcn rows k i).toInt32) (lb_B1_g1 hB)) lt_Zs_b (by decide) (lt_codeC K q808) (lt_invO (k := 1) (As := [.int r]) K hlink q796 q795 q807 q806 (by decide +kernel) ℓ.1.1 hB.2.2.1 rfl rfl hd) hd hlv hw hR hf (lt_Zs_at hz1 hz2) (fun v u h => ?_) (fun X u h => ?_)
    · rcases h with ⟨-, h⟩ | ⟨k, rfl, hk, ⟨-, h⟩ | ⟨h1, h⟩⟩
      · cases h
      · cases h
      · cases h
        obtain ⟨m, c, e1⟩ := lb_ggS h1
        obtain ⟨e5, e6⟩ := lp_rm_of e1
        rw [e5]
        exact kk _ (lp_szA_v hk hN e1)
    · rcases h with ⟨h0, h⟩ | ⟨k, rfl, hk, ⟨h0, h⟩ | ⟨h1, h⟩⟩
      · cases h
        exact kt _ (if_neg h0)
      · cases h
        exact kt _ (lp_szA_npe hk hN (lb_gg_none h0))
      · cases h
  · refine lt_at K (lb_X9_size hoff hB.2.2.1 hB.2.2.2.1 hN r (fun k => (ℓ.2.2 k).1) (lp_rm rows) (fun k i => (lp_rcn rows k i).toInt32) (lb_B1_g2 hB)) lt_Zs_b (by decide) (lt_codeC K q802) (lt_invO (k := 1) (As := [.int r]) K hlink q796 q795 q801 q800 (by decide +kernel) ℓ.1.1 hB.2.2.1 rfl rfl hd) hd hlv hw hR hf (lt_Zs_at hz1 hz2) (fun v u h => ?_) (fun X u h => ?_)
    · rcases h with ⟨-, h⟩ | ⟨k, rfl, hk, ⟨-, h⟩ | ⟨h1, h⟩⟩
      · cases h
      · cases h
      · cases h
        obtain ⟨m, c, e1⟩ := lb_ggS h1
        obtain ⟨e5, e6⟩ := lp_rm_of e1
        rw [e5]
        exact kk _ (lp_szA_v hk hN e1)
    · rcases h with ⟨h0, h⟩ | ⟨k, rfl, hk, ⟨h0, h⟩ | ⟨h1, h⟩⟩
      · cases h
        exact kt _ (if_neg h0)
      · cases h
        exact kt _ (lp_szA_npe hk hN (lb_gg_none h0))
      · cases h
  · refine lt_at K (lb_X10_size hoff hB.2.2.1 hB.2.2.2.1 hN r (fun k => (ℓ.2.2 k).1) (lp_rm rows) (fun k => lp_rcn rows k) (lb_B1_g3 hB)) lt_Zs_b (by decide) (lt_codeC K q805) (lt_invO (k := 1) (As := [.int r]) K hlink q796 q795 q804 q803 (by decide +kernel) ℓ.1.1 hB.2.2.1 rfl rfl hd) hd hlv hw hR hf (lt_Zs_at hz1 hz2) (fun v u h => ?_) (fun X u h => ?_)
    · rcases h with ⟨-, h⟩ | ⟨k, rfl, hk, ⟨-, h⟩ | ⟨h1, h⟩⟩
      · cases h
      · cases h
      · cases h
        obtain ⟨m, c, e1⟩ := lb_ggS h1
        obtain ⟨e5, e6⟩ := lp_rm_of e1
        rw [e5]
        exact kk _ (lp_szA_v hk hN e1)
    · rcases h with ⟨h0, h⟩ | ⟨k, rfl, hk, ⟨h0, h⟩ | ⟨h1, h⟩⟩
      · cases h
        exact kt _ (if_neg h0)
      · cases h
        exact kt _ (lp_szA_npe hk hN (lb_gg_none h0))
      · cases h
theorem lb_r_rows (K : la_Cx ω κ cc nL own R0) (hz : lt_H ω κ) (hB : lb_B1 ω.2.2 ws s N rows ℓ) (hlv : lv.length = nL) (hw : (rest.map fun v => v.category).sum ≤ 8) {i0 : Nat} (hlink : Cond.methodLink own i0 ⟨"LadderCalls$Book", "rows", "()I"⟩ ∈ lw_all) (hR : (lt_rm 0 0 0).frames + 1 ≤ R0.frames ∧ 8 + (1 + 11) + (lt_rm 0 0 0).locals ≤ R0.locals) (hf : n.1 + (lt_rm 0 0 0).cells ≤ R0.cells ∧ n.2 + (lt_rm 0 0 0).slots ≤ R0.slots) (hd : decode cc pc = .ok (.invokevirtual i0, 3)) (kk : la_At ω κ (n.1, n.2) (pc + 3) lv (.int (nI N) :: rest) ws) : la_At ω κ n pc lv (.ref ℓ.1.2 :: rest) ws := by
  obtain ⟨hz1, hz2, hoff⟩ := hz
  have hs := hB.1
  have hN := hB.2.1
  have hc4 : s = 0 ∨ s = 1 ∨ s = 2 ∨ s = 3 := by omega
  rcases hc4 with rfl | rfl | rfl | rfl
  · refine lt_at K (lb_X7_rows hB.2.2.1 hB.2.2.2.1 hN) lt_Zs_b (by decide) (lt_codeC K q757) (lt_invO (k := 0) (As := []) K hlink q754 q753 q756 q755 (by decide +kernel) ℓ.1.1 hB.2.2.1 rfl rfl hd) hd hlv hw hR hf (lt_Zs_at hz1 hz2) (fun v u h => ?_) (fun X u h => ?_)
    · cases h
      exact kk
    · cases h
  · refine lt_at K (lb_X8_rows hB.2.2.1 hB.2.2.2.1 hN) lt_Zs_b (by decide) (lt_codeC K q766) (lt_invO (k := 0) (As := []) K hlink q754 q753 q765 q764 (by decide +kernel) ℓ.1.1 hB.2.2.1 rfl rfl hd) hd hlv hw hR hf (lt_Zs_at hz1 hz2) (fun v u h => ?_) (fun X u h => ?_)
    · cases h
      exact kk
    · cases h
  · refine lt_at K (lb_X9_rows hB.2.2.1 hB.2.2.2.1 hN) lt_Zs_b (by decide) (lt_codeC K q760) (lt_invO (k := 0) (As := []) K hlink q754 q753 q759 q758 (by decide +kernel) ℓ.1.1 hB.2.2.1 rfl rfl hd) hd hlv hw hR hf (lt_Zs_at hz1 hz2) (fun v u h => ?_) (fun X u h => ?_)
    · cases h
      exact kk
    · cases h
  · refine lt_at K (lb_X10_rows hB.2.2.1 hB.2.2.2.1 hN) lt_Zs_b (by decide) (lt_codeC K q763) (lt_invO (k := 0) (As := []) K hlink q754 q753 q762 q761 (by decide +kernel) ℓ.1.1 hB.2.2.1 rfl rfl hd) hd hlv hw hR hf (lt_Zs_at hz1 hz2) (fun v u h => ?_) (fun X u h => ?_)
    · cases h
      exact kk
    · cases h
theorem lb_r_make (K : la_Cx ω κ cc nL own R0) (hz : lt_H ω κ) (hB : lb_B1 ω.2.2 ws s N rows ℓ) (hlv : lv.length = nL) (hw : (rest.map fun v => v.category).sum ≤ 8) (r : Int32) {x : Int32} (hx8 : x ≤ nI 8) {i0 : Nat} (hlink : Cond.methodLink own i0 ⟨"LadderCalls$Book", "make", "(II)V"⟩ ∈ lw_all) (hR : (lt_rm 0 4 300).frames + 1 ≤ R0.frames ∧ 8 + (4 + 11) + (lt_rm 0 4 300).locals ≤ R0.locals) (hf : n.1 + (lt_rm 0 4 300).cells ≤ R0.cells ∧ n.2 + (lt_rm 0 4 300).slots ≤ R0.slots) (hd : decode cc pc = .ok (.invokevirtual i0, 3)) (kk : ∀ k m c : Nat, r = nI k → k < N → m ≤ 8 → x = nI m → la_At ω κ (n.1 + 4, n.2 + 300) (pc + 3) lv rest ((ws ++ [((c, lb_dat ω.2.2 s m (fun _ => 0)) : Nat × va_E)]).set ℓ.2.1.1 (ℓ.2.1.2, .inl (ω.2.2 (lb_rc s), N, .inr (.inr (.inr (.inr (va_up (lb_gg ℓ rows) k (some c))))))))) (kt1 : ¬ lp_in r N → la_Th ω κ (n.1 + 4, n.2 + 300) pc lv lt_idxN ws) (kt2 : lp_in r N → x < 0 → la_Th ω κ (n.1 + 4, n.2 + 300) pc lv lt_nasN ws) : la_At ω κ n pc lv (.int x :: .int r :: .ref ℓ.1.2 :: rest) ws := by
  obtain ⟨hz1, hz2, hoff⟩ := hz
  have hs := hB.1
  have hN := hB.2.1
  have hc4 : s = 0 ∨ s = 1 ∨ s = 2 ∨ s = 3 := by omega
  rcases hc4 with rfl | rfl | rfl | rfl
  · refine lt_at K (lb_X7_make hoff hB.2.2.1 hB.2.2.2.1 hN r hx8) lt_Zs_b (by decide) (lt_codeC K q708) (lt_invO (k := 2) (As := [.int r, .int x]) K hlink q705 q704 q707 q706 (by decide +kernel) ℓ.1.1 hB.2.2.1 rfl rfl hd) hd hlv hw hR hf (lt_Zs_at hz1 hz2) (fun v u h => ?_) (fun X u h => ?_)
    · rcases h with ⟨-, h, -⟩ | ⟨-, -, h, -⟩ | ⟨k, m, c, rfl, hk, hm, rfl, h, rfl⟩
      · cases h
      · cases h
      · cases h
        exact kk k m c rfl hk hm rfl
    · rcases h with ⟨h0, h, rfl⟩ | ⟨h0, h1, h, rfl⟩ | ⟨k, m, c, rfl, hk, hm, rfl, h, rfl⟩
      · cases h
        exact kt1 h0
      · cases h
        exact kt2 h0 h1
      · cases h
  · refine lt_at K (lb_X8_make hoff hB.2.2.1 hB.2.2.2.1 hN r hx8) lt_Zs_b (by decide) (lt_codeC K q717) (lt_invO (k := 2) (As := [.int r, .int x]) K hlink q705 q704 q716 q715 (by decide +kernel) ℓ.1.1 hB.2.2.1 rfl rfl hd) hd hlv hw hR hf (lt_Zs_at hz1 hz2) (fun v u h => ?_) (fun X u h => ?_)
    · rcases h with ⟨-, h, -⟩ | ⟨-, -, h, -⟩ | ⟨k, m, c, rfl, hk, hm, rfl, h, rfl⟩
      · cases h
      · cases h
      · cases h
        exact kk k m c rfl hk hm rfl
    · rcases h with ⟨h0, h, rfl⟩ | ⟨h0, h1, h, rfl⟩ | ⟨k, m, c, rfl, hk, hm, rfl, h, rfl⟩
      · cases h
        exact kt1 h0
      · cases h
        exact kt2 h0 h1
      · cases h
  · refine lt_at K (lb_X9_make hoff hB.2.2.1 hB.2.2.2.1 hN r hx8) lt_Zs_b (by decide) (lt_codeC K q711) (lt_invO (k := 2) (As := [.int r, .int x]) K hlink q705 q704 q710 q709 (by decide +kernel) ℓ.1.1 hB.2.2.1 rfl rfl hd) hd hlv hw hR hf (lt_Zs_at hz1 hz2) (fun v u h => ?_) (fun X u h => ?_)
    · rcases h with ⟨-, h, -⟩ | ⟨-, -, h, -⟩ | ⟨k, m, c, rfl, hk, hm, rfl, h, rfl⟩
      · cases h
      · cases h
      · cases h
        exact kk k m c rfl hk hm rfl
    · rcases h with ⟨h0, h, rfl⟩ | ⟨h0, h1, h, rfl⟩ | ⟨k, m, c, rfl, hk, hm, rfl, h, rfl⟩
      · cases h
        exact kt1 h0
      · cases h
        exact kt2 h0 h1
      · cases h
  · refine lt_at K (lb_X10_make hoff hB.2.2.1 hB.2.2.2.1 hN r hx8) lt_Zs_b (by decide) (lt_codeC K q714) (lt_invO (k := 2) (As := [.int r, .int x]) K hlink q705 q704 q713 q712 (by decide +kernel) ℓ.1.1 hB.2.2.1 rfl rfl hd) hd hlv hw hR hf (lt_Zs_at hz1 hz2) (fun v u h => ?_) (fun X u h => ?_)
    · rcases h with ⟨-, h, -⟩ | ⟨-, -, h, -⟩ | ⟨k, m, c, rfl, hk, hm, rfl, h, rfl⟩
      · cases h
      · cases h
      · cases h
        exact kk k m c rfl hk hm rfl
    · rcases h with ⟨h0, h, rfl⟩ | ⟨h0, h1, h, rfl⟩ | ⟨k, m, c, rfl, hk, hm, rfl, h, rfl⟩
      · cases h
        exact kt1 h0
      · cases h
        exact kt2 h0 h1
      · cases h
end LTD
