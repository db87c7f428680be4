/-! PURE PART 8: books: of a sort, with rows; a row not made, or of a size with numbers in it. -/
abbrev lp_Row : Type := Option (Nat × (Nat → Int64))
abbrev lp_Bk : Type := Nat → Option (Nat × Nat × (Nat → lp_Row))
def lm_BR (bk : lp_Bk) (bh so br : Nat → Nat) (rs : Nat → Int32) (ce : Nat → Int64) : Prop := ∀ k, k < 3 → (bk k = none → bh k = 0) ∧ (∀ s n rows, bk k = some (s, n, rows) → bh k = 1 ∧ so k = s ∧ s ≤ 3 ∧ br k = n ∧ n ≤ 4 ∧ ∀ r, r < n → (rows r = none → rs (4 * k + r) = -9) ∧ (∀ m c, rows r = some (m, c) → rs (4 * k + r) = nI m ∧ m ≤ 8 ∧ ∀ i, i < m → ce (32 * k + 8 * r + i) = c i))
def lp_wrA (bk : lp_Bk) (k o r i : Int32) : Int32 :=
  if lp_inI k 0 2 ∧ lp_inI o 0 3 then
    match bk k.toNatClampNeg with
    | none => -11
    | some (s, n, rows) => if nI s = o then (if lp_in r n then (match rows r.toNatClampNeg with | none => -11 | some (m, _) => if lp_in i m then nI 0 else -12) else -12) else -13
  else -1
def lp_pv (s : Nat) (v : Int64) : Int64 := if s = 0 then v.toInt32.toInt8.toInt32.toInt64 else if s = 1 then v.toInt32.toInt16.toInt32.toInt64 else if s = 2 then v.toInt32.toInt64 else v
def lp_Acc (bk : lp_Bk) (k o r i : Int32) (kk s n kr m ki : Nat) (rows : Nat → lp_Row) (c : Nat → Int64) : Prop := k = nI kk ∧ kk < 3 ∧ o = nI s ∧ s ≤ 3 ∧ bk kk = some (s, n, rows) ∧ n ≤ 4 ∧ r = nI kr ∧ kr < n ∧ rows kr = some (m, c) ∧ m ≤ 8 ∧ i = nI ki ∧ ki < m
section LP8
variable {bk : lp_Bk} {bh so br : Nat → Nat} {rs : Nat → Int32} {ce : Nat → Int64}
theorem lp_wrA_Acc {k o r i : Int32} {kk s n kr m ki : Nat} {rows : Nat → lp_Row} {c : Nat → Int64} (h : lp_Acc bk k o r i kk s n kr m ki rows c) : lp_wrA bk k o r i = nI 0 := by
  obtain ⟨rfl, h1, rfl, h2, h3, h4, rfl, h5, h6, h7, rfl, h8⟩ := h
  unfold lp_wrA
  rw [if_pos ⟨(lp_inI_nI (by omega)).mpr ⟨by omega, by omega⟩, (lp_inI_nI (by omega)).mpr ⟨by omega, by omega⟩⟩, nI_clamp (by omega), h3]
  dsimp only
  rw [if_pos rfl, if_pos ((lp_in_nI (by omega)).mpr h5), nI_clamp (by omega), h6]
  dsimp only
  rw [if_pos ((lp_in_nI (by omega)).mpr h8)]
theorem lp_Acc_of (hB : lm_BR bk bh so br rs ce) {k o r i : Int32} (h : lp_wrA bk k o r i = nI 0) : ∃ (kk s n kr m ki : Nat) (rows : Nat → lp_Row) (c : Nat → Int64), lp_Acc bk k o r i kk s n kr m ki rows c := by
  unfold lp_wrA at h
  by_cases h1 : lp_inI k 0 2 ∧ lp_inI o 0 3
  · rw [if_pos h1] at h
    obtain ⟨kk, -, hk, rfl⟩ := lp_inI_N h1.1 (by decide)
    rw [nI_clamp (by omega)] at h
    rcases hbk : bk kk with _ | ⟨s, n, rows⟩
    · rw [hbk] at h
      dsimp only at h
      exact absurd h (by decide)
    · rw [hbk] at h
      dsimp only at h
      obtain ⟨-, -, b1, -, b2, b3⟩ := (hB kk (by omega)).2 s n rows hbk
      by_cases h2 : nI s = o
      · rw [if_pos h2] at h
        by_cases h3 : lp_in r n
        · rw [if_pos h3] at h
          obtain ⟨kr, hr, rfl⟩ := lp_in_N h3 (by omega)
          rw [nI_clamp (by omega)] at h
          rcases hro : rows kr with _ | ⟨m, c⟩
          · rw [hro] at h
            dsimp only at h
            exact absurd h (by decide)
          · rw [hro] at h
            dsimp only at h
            have b4 := ((b3 kr hr).2 m c hro).2.1
            by_cases h4 : lp_in i m
            · obtain ⟨ki, hi, rfl⟩ := lp_in_N h4 (by omega)
              exact ⟨kk, s, n, kr, m, ki, rows, c, rfl, by omega, h2.symm, b1, hbk, b2, rfl, hr, hro, b4, rfl, hi⟩
            · rw [if_neg h4] at h
              exact absurd h (by decide)
        · rw [if_neg h3] at h
          exact absurd h (by decide)
      · rw [if_neg h2] at h
        exact absurd h (by decide)
  · rw [if_neg h1] at h
    exact absurd h (by decide)
theorem lp_wrA_neg {k o r i : Int32} (h : ¬ lp_wrA bk k o r i = nI 0) : ¬ 0 ≤ lp_wrA bk k o r i := by
  unfold lp_wrA at h ⊢
  by_cases h1 : lp_inI k 0 2 ∧ lp_inI o 0 3
  · rw [if_pos h1] at h ⊢
    generalize k.toNatClampNeg = kk at h ⊢
    rcases hq : bk kk with _ | ⟨s, n, rows⟩
    · show ¬ 0 ≤ (-11 : Int32)
      decide
    · rw [hq] at h
      dsimp only at h ⊢
      by_cases h2 : nI s = o
      · rw [if_pos h2] at h ⊢
        by_cases h3 : lp_in r n
        · rw [if_pos h3] at h ⊢
          generalize r.toNatClampNeg = kr at h ⊢
          rcases hq2 : rows kr with _ | ⟨m, c⟩
          · show ¬ 0 ≤ (-11 : Int32)
            decide
          · rw [hq2] at h
            dsimp only at h ⊢
            by_cases h4 : lp_in i m
            · rw [if_pos h4] at h
              exact absurd rfl h
            · rw [if_neg h4]; decide
        · rw [if_neg h3]; decide
      · rw [if_neg h2]; decide
  · rw [if_neg h1]; decide
/-- a new book -/
theorem lm_BR_book {k s n : Nat} {rs' : Nat → Int32} (hB : lm_BR bk bh so br rs ce) (hk : k < 3) (hs : s ≤ 3) (hn : n ≤ 4) (h1 : ∀ r, r < 4 → rs' (4 * k + r) = -9) (h2 : ∀ i, (i < 4 * k ∨ 4 * k + 4 ≤ i) → rs' i = rs i) : lm_BR (va_up bk k (some (s, n, fun _ => none))) (va_up bh k 1) (va_up so k s) (va_up br k n) rs' ce := by
  intro q hq
  by_cases e : q = k
  · subst e
    rw [va_up_self, va_up_self, va_up_self, va_up_self]
    refine ⟨fun z => (by cases z), fun s' n' rows' z => ?_⟩
    cases z
    exact ⟨rfl, rfl, hs, rfl, hn, fun r hr => ⟨fun _ => h1 r (by omega), fun m c z => by cases z⟩⟩
  · rw [va_up_ne _ _ e, va_up_ne _ _ e, va_up_ne _ _ e, va_up_ne _ _ e]
    refine ⟨(hB q hq).1, fun s' n' rows' z => ?_⟩
    obtain ⟨a1, a2, a3, a4, a5, a6⟩ := (hB q hq).2 s' n' rows' z
    exact ⟨a1, a2, a3, a4, a5, fun r hr => by rw [h2 (4 * q + r) (by omega)]; exact a6 r hr⟩
/-- a row made anew -/
theorem lm_BR_row {k s n r m : Nat} {rows : Nat → lp_Row} {ce' : Nat → Int64} (hB : lm_BR bk bh so br rs ce) (hk : k < 3) (hb : bk k = some (s, n, rows)) (hr : r < n) (hm : m ≤ 8) (h1 : ∀ i, i < 8 → ce' (32 * k + 8 * r + i) = lN 0) (h2 : ∀ i, (i < 32 * k + 8 * r ∨ 32 * k + 8 * r + 8 ≤ i) → ce' i = ce i) : lm_BR (va_up bk k (some (s, n, va_up rows r (some (m, fun _ => lN 0))))) bh so br (va_up rs (4 * k + r) (nI m)) ce' := by
  have hn := ((hB k hk).2 s n rows hb).2.2.2.2.1
  intro q hq
  by_cases e : q = k
  · subst e
    rw [va_up_self]
    refine ⟨fun z => (by cases z), fun s' n' rows' z => ?_⟩
    cases z
    obtain ⟨a1, a2, a3, a4, a5, a6⟩ := (hB q hq).2 s n rows hb
    refine ⟨a1, a2, a3, a4, a5, fun r' hr' => ?_⟩
    by_cases e2 : r' = r
    · subst e2
      rw [va_up_self, va_up_self]
      refine ⟨fun z => (by cases z), fun m' c' z => ?_⟩
      cases z
      exact ⟨rfl, hm, fun i hi => h1 i (by omega)⟩
    · rw [va_up_ne _ _ e2, va_up_ne _ _ (by omega)]
      refine ⟨(a6 r' hr').1, fun m' c' z => ?_⟩
      obtain ⟨b1, b2, b3⟩ := (a6 r' hr').2 m' c' z
      exact ⟨b1, b2, fun i hi => by rw [h2 _ (by omega)]; exact b3 i hi⟩
  · rw [va_up_ne _ _ e]
    refine ⟨(hB q hq).1, fun s' n' rows' z => ?_⟩
    obtain ⟨a1, a2, a3, a4, a5, a6⟩ := (hB q hq).2 s' n' rows' z
    refine ⟨a1, a2, a3, a4, a5, fun r' hr' => ?_⟩
    rw [va_up_ne _ _ (by omega)]
    refine ⟨(a6 r' hr').1, fun m' c' z => ?_⟩
    obtain ⟨b1, b2, b3⟩ := (a6 r' hr').2 m' c' z
    exact ⟨b1, b2, fun i hi => by rw [h2 _ (by omega)]; exact b3 i hi⟩
/-- a number put -/
theorem lm_BR_put {k s n r m i : Nat} {rows : Nat → lp_Row} {c : Nat → Int64} {v : Int64} (hB : lm_BR bk bh so br rs ce) (hk : k < 3) (hb : bk k = some (s, n, rows)) (hr : r < n) (hro : rows r = some (m, c)) (hi : i < m) : lm_BR (va_up bk k (some (s, n, va_up rows r (some (m, va_up c i v))))) bh so br rs (va_up ce (32 * k + 8 * r + i) v) := by
  obtain ⟨a1, a2, a3, a4, a5, a6⟩ := (hB k hk).2 s n rows hb
  obtain ⟨b1, b2, b3⟩ := (a6 r hr).2 m c hro
  intro q hq
  by_cases e : q = k
  · subst e
    rw [va_up_self]
    refine ⟨fun z => (by cases z), fun s' n' rows' z => ?_⟩
    cases z
    refine ⟨a1, a2, a3, a4, a5, fun r' hr' => ?_⟩
    by_cases e2 : r' = r
    · subst e2
      rw [va_up_self]
      refine ⟨fun z => (by cases z), fun m' c' z => ?_⟩
      cases z
      refine ⟨b1, b2, fun j hj => ?_⟩
      by_cases e3 : j = i
      · subst e3; rw [va_up_self, va_up_self]
      · rw [va_up_ne _ _ (by omega), va_up_ne _ _ e3]; exact b3 j hj
    · rw [va_up_ne _ _ e2]
      refine ⟨(a6 r' hr').1, fun m' c' z => ?_⟩
      obtain ⟨d1, d2, d3⟩ := (a6 r' hr').2 m' c' z
      exact ⟨d1, d2, fun j hj => by rw [va_up_ne _ _ (by omega)]; exact d3 j hj⟩
  · rw [va_up_ne _ _ e]
    refine ⟨(hB q hq).1, fun s' n' rows' z => ?_⟩
    obtain ⟨a1, a2, a3, a4, a5, a6⟩ := (hB q hq).2 s' n' rows' z
    refine ⟨a1, a2, a3, a4, a5, fun r' hr' => ?_⟩
    refine ⟨(a6 r' hr').1, fun m' c' z => ?_⟩
    obtain ⟨d1, d2, d3⟩ := (a6 r' hr').2 m' c' z
    exact ⟨d1, d2, fun j hj => by rw [va_up_ne _ _ (by omega)]; exact d3 j hj⟩
end LP8
