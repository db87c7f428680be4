/-! WHAT THE OPS ANSWER, for both sides. -/
def lp_tot (f : Nat → Nat) : Nat → Nat
  | 0 => 0
  | k + 1 => lp_tot f k + f k
theorem lp_tot_congr {f g : Nat → Nat} : ∀ n, (∀ i, i < n → f i = g i) → lp_tot f n = lp_tot g n := by
  intro n
  induction n with
  | zero => intro _; rfl
  | succ n ih => intro h; rw [lp_tot, lp_tot, ih (fun i hi => h i (by omega)), h n (by omega)]
theorem lp_tot_le {f : Nat → Nat} {m : Nat} : ∀ n, (∀ i, i < n → f i ≤ m) → lp_tot f n ≤ m * n := by
  intro n
  induction n with
  | zero => intro _; exact Nat.zero_le _
  | succ n ih =>
    intro h
    have a := ih (fun i hi => h i (by omega))
    have b := h n (by omega)
    rw [lp_tot, Nat.mul_succ]
    omega
/-- an int of a to b -/
abbrev lp_inI (x : Int32) (a b : Nat) : Prop := (a : Int) ≤ x.toInt ∧ x.toInt ≤ (b : Int)
theorem lp_inI_N {x : Int32} {a b : Nat} (h : lp_inI x a b) (hb : b < 2 ^ 31) : ∃ k : Nat, a ≤ k ∧ k ≤ b ∧ x = nI k := by
  obtain ⟨h1, h2⟩ := h
  refine ⟨x.toInt.toNat, by omega, by omega, ?_⟩
  apply Int32.toInt_inj.mp
  rw [nI_toInt (by omega)]
  omega
theorem lp_inI_nI {k a b : Nat} (hk : k < 2 ^ 31) : lp_inI (nI k) a b ↔ a ≤ k ∧ k ≤ b := by
  unfold lp_inI
  rw [nI_toInt hk]
  omega
theorem lp_ints (x : Int32) {a b : Nat} (ha : a < 2 ^ 31) (hb : b < 2 ^ 31) : (lN a ≤ x.toInt64 ∧ x.toInt64 ≤ lN b) ↔ lp_inI x a b := by
  rw [Int64.le_iff_toInt_le, Int64.le_iff_toInt_le, lN_toInt ha, lN_toInt hb, Int32.toInt_toInt64]
theorem lp_intB (x : Int32) {b : Nat} (hb : b < 2 ^ 30) : (lN 0 ≤ x.toInt64 ∧ x.toInt64 ≤ (nI b - nI 1).toInt64) ↔ lp_in x b := by
  rw [Int64.le_iff_toInt_le, Int64.le_iff_toInt_le, Int32.toInt_toInt64, Int32.toInt_toInt64, pk_sub_toInt hb (by decide), lN_toInt (by decide)]
  unfold lp_in
  omega
theorem lp_intC (x : Int32) {b : Nat} (hb : b < 2 ^ 31) : (lN 0 ≤ x.toInt64 ∧ x.toInt64 ≤ (nI b).toInt64) ↔ lp_inI x 0 b := by
  rw [Int64.le_iff_toInt_le, Int64.le_iff_toInt_le, Int32.toInt_toInt64, Int32.toInt_toInt64, lN_toInt (by decide), nI_toInt hb]
def lp_tdA (C : Nat) (cp cl cf ck : Nat → Nat) (i w : Int32) : Int32 :=
  if lp_in i C ∧ lp_inI w 0 3 then (if w = nI 0 then nI (cp i.toNatClampNeg) else if w = nI 1 then nI (cl i.toNatClampNeg) else if w = nI 2 then nI (cf i.toNatClampNeg) else nI (ck i.toNatClampNeg)) else -1
def lp_csA (L : Nat) (su : Nat → Nat) (l : Int32) : Int32 := if L = 0 then -2 else if l = -1 then nI (lp_tot su L) else if lp_in l L then nI (su l.toNatClampNeg) else -1
noncomputable def lp_mvA (P L : Nat) (d : Nat → Nat) (s t : Int32) : Int32 := if L = 0 then -2 else @ite _ (lp_st P L s ∧ lp_st P L t) (Classical.propDecidable _) (nI (lp_min 100000000 (lp_MQ L d s.toNatClampNeg t.toNatClampNeg))) (-1)
noncomputable def lp_wkA (P L C B : Nat) (d cp : Nat → Nat) (n s : Int32) : Int32 := if L = 0 then -2 else @ite _ (lp_inI n 0 C ∧ lp_st P L s) (Classical.propDecidable _) (nI (lp_wm L d (lp_rw L d B cp n.toNatClampNeg) s.toNatClampNeg)) (-1)
/-- the least of all behind n calls -/
noncomputable def lp_lo (L : Nat) (d : Nat → Nat) (B : Nat) (cp : Nat → Nat) (n : Nat) : Nat := lp_min 100000000 (lp_LQ (lp_rw L d B cp n) 512)
noncomputable def lp_leA (L C B : Nat) (d cp : Nat → Nat) (n : Int32) : Int32 := if L = 0 then -2 else if lp_inI n 0 C then nI (lp_lo L d B cp n.toNatClampNeg) else -1
noncomputable def lp_raA (L C B : Nat) (d cp su : Nat → Nat) : Int32 := if L = 0 then -2 else if lp_lo L d B cp C = 0 then -9 else nI (1000 * lp_tot su L / lp_lo L d B cp C)
theorem lp_LQ_congr {g g' : Nat → Nat} {n : Nat} (h : ∀ s, s < n → g s = g' s) : lp_min 100000000 (lp_LQ g n) = lp_min 100000000 (lp_LQ g' n) := by
  refine lp_min_congr (fun u => ⟨?_, ?_⟩)
  · rintro ⟨s, a, b⟩; exact ⟨s, a, b.trans (h s a)⟩
  · rintro ⟨s, a, b⟩; exact ⟨s, a, b.trans (h s a).symm⟩
