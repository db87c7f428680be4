/-! PURE PART 12: the worst row of n calls. -/
/-- the k-th of n calls that the number x tells -/
def lp_pd (n x k : Nat) : Nat := lp_dg x (n - 1 - k)
noncomputable def lp_wl (L : Nat) (d : Nat → Nat) (B Kd : Nat) (p : Nat → Nat) : Nat → Nat → Nat
  | 0 => fun _ => 0
  | k + 1 => va_up (lp_wl L d B Kd p k) k (lp_cho L d B p (lp_wl L d B Kd p k) (fun _ => Kd) k Kd (p k))
noncomputable def lp_wtr (L : Nat) (d : Nat → Nat) (B Kd : Nat) (p : Nat → Nat) (T : Int64) : Nat → Int64
  | 0 => T
  | k + 1 => lp_trc Kd L (lp_hs L (lp_sn B p (lp_wl L d B Kd p k) k) (p k)) (lp_wtr L d B Kd p T k)
noncomputable def lp_wct (L : Nat) (d : Nat → Nat) (B Kd : Nat) (p : Nat → Nat) (n : Nat) : Nat := lp_tot (fun i => lp_cf d B p (lp_wl L d B Kd p n) i) n
/-- the worst so far, with one more row looked at -/
def lp_wup (w : Option (Nat × Nat × Nat)) (x c l : Nat) : Option (Nat × Nat × Nat) := match w with
  | none => some (x, c, l)
  | some (x0, c0, l0) => if c0 - l0 < c - l then some (x, c, l) else some (x0, c0, l0)
noncomputable def lp_wst (L : Nat) (d : Nat → Nat) (B Kd n : Nat) (s : Option (Nat × Nat × Nat) × Int64) (x : Nat) : Option (Nat × Nat × Nat) × Int64 :=
  (lp_wup s.1 x (lp_wct L d B Kd (lp_pd n x) n) (lp_lo L d B (lp_pd n x) n), lp_wtr L d B Kd (lp_pd n x) s.2 n)
noncomputable def lp_wfd (L : Nat) (d : Nat → Nat) (B Kd n : Nat) (T : Int64) (xs : List Nat) : Option (Nat × Nat × Nat) × Int64 := xs.foldl (lp_wst L d B Kd n) (none, T)
/-- the number of row r of P places -/
def lp_xn (P n r : Nat) : Nat → Nat
  | 0 => 0
  | k + 1 => 8 * lp_xn P n r k + r / P ^ (n - 1 - k) % P
/-- all n calls of the number x are places -/
def lp_vd (P n x : Nat) : Bool := (List.range n).all (fun k => decide (lp_dg x k < P))
def lp_rowsM (P n r : Nat) : List Nat := (List.range r).map (fun q => lp_xn P n q n)
def lp_rowsC (P n x : Nat) : List Nat := (List.range x).filter (lp_vd P n)
theorem lp_rows_eq {P n : Nat} (hP : P ≤ 6) (hn : n ≤ 3) : lp_rowsM P n (P ^ n) = lp_rowsC P n (8 ^ n) := by
  have h : ∀ (P : Fin 7) (n : Fin 4), lp_rowsM P.val n.val (P.val ^ n.val) = lp_rowsC P.val n.val (8 ^ n.val) := by decide +kernel
  exact h ⟨P, by omega⟩ ⟨n, by omega⟩
theorem lp_rowsM_succ (P n r : Nat) : lp_rowsM P n (r + 1) = lp_rowsM P n r ++ [lp_xn P n r n] := by
  unfold lp_rowsM
  rw [List.range_succ, List.map_append]
  rfl
theorem lp_rowsC_succ (P n x : Nat) : lp_rowsC P n (x + 1) = lp_rowsC P n x ++ (if lp_vd P n x = true then [x] else []) := by
  unfold lp_rowsC
  rw [List.range_succ, List.filter_append]
  congr 1
  rw [List.filter_cons, List.filter_nil]
theorem lp_wfd_add (L : Nat) (d : Nat → Nat) (B Kd n : Nat) (T : Int64) (xs : List Nat) (x : Nat) : lp_wfd L d B Kd n T (xs ++ [x]) = lp_wst L d B Kd n (lp_wfd L d B Kd n T xs) x := by
  unfold lp_wfd
  rw [List.foldl_append]
  rfl
theorem lp_xn_lt {P n r : Nat} (hP : P ≤ 6) (hP1 : 1 ≤ P) : ∀ k, k ≤ 3 → lp_xn P n r k < 8 ^ k := by
  intro k
  induction k with
  | zero => intro _; exact Nat.one_pos
  | succ k ih =>
    intro hk
    have a := ih (by omega)
    have b : r / P ^ (n - 1 - k) % P < P := Nat.mod_lt _ (by omega)
    rw [lp_xn, Nat.pow_succ]
    omega
theorem lp_xn_pd {P n r k : Nat} (hP : P ≤ 6) (hP1 : 1 ≤ P) (hn : n ≤ 3) (hk : k < n) : lp_pd n (lp_xn P n r n) k = r / P ^ (n - 1 - k) % P := by
  have b : ∀ q, r / P ^ q % P < P := fun q => Nat.mod_lt _ (by omega)
  have hn3 : n = 1 ∨ n = 2 ∨ n = 3 := by omega
  unfold lp_pd lp_dg
  rcases hn3 with rfl | rfl | rfl
  · have : k = 0 := by omega
    subst this
    simp only [lp_xn, Nat.reduceMul, Nat.reducePow, Nat.reduceSub]
    have := b 0
    omega
  · have h2 : k = 0 ∨ k = 1 := by omega
    have b0 := b 0
    have b1 := b 1
    rcases h2 with rfl | rfl <;> simp only [lp_xn, Nat.reduceMul, Nat.reducePow, Nat.reduceSub] <;> omega
  · have h2 : k = 0 ∨ k = 1 ∨ k = 2 := by omega
    have b0 := b 0
    have b1 := b 1
    have b2 := b 2
    rcases h2 with rfl | rfl | rfl <;> simp only [lp_xn, Nat.reduceMul, Nat.reducePow, Nat.reduceSub] <;> omega
theorem lp_wl_keep {L B Kd : Nat} {d p : Nat → Nat} {i k : Nat} (h : i < k) : lp_wl L d B Kd p k i = lp_wl L d B Kd p (i + 1) i := by
  induction k with
  | zero => omega
  | succ k ih =>
    by_cases e : i = k
    · subst e; rfl
    · rw [lp_wl, va_up_ne _ _ e]
      exact ih (by omega)
theorem lp_rw_path {L P B : Nat} {d cp cl : Nat → Nat} {C : Nat} (hP : P ≤ 6) (hL : L ≤ 3) (hB : lp_sd P L B) (h1 : ∀ i, i < C → cp i < P) (h2 : ∀ i, i < C → cl i < L) (hd : ∀ a b, a < P → b < P → d (6 * a + b) ≤ 6400) : ∀ i, i ≤ C → i ≤ 100 → lp_rw L d B cp i (lp_sn B cp cl i) ≤ lp_tot (fun k => lp_cf d B cp cl k) i ∧ lp_tot (fun k => lp_cf d B cp cl k) i ≤ 6400 * i := by
  intro i
  induction i with
  | zero => intro _ _; exact ⟨by show (if B = B then 0 else 100000000) ≤ _; rw [if_pos rfl]; exact Nat.zero_le _, Nat.le_refl _⟩
  | succ i ih =>
    intro hi h100
    obtain ⟨a1, a2⟩ := ih (by omega) (by omega)
    have hs := lp_sn_sd hP hL hB h1 h2 i (by omega)
    have b := lp_cf_le hP hL hB h1 h2 hd (i := i) (by omega)
    have e := (lp_min_mn 100000000 (lp_SQ L d (cp i) (lp_rw L d B cp i) (lp_mv (lp_sn B cp cl i) (cl i) (cp i)))).2.1 _ ⟨lp_sn B cp cl i, cl i, lp_sd_lt hs hL, h2 i (by omega), by omega, rfl, rfl⟩
    have e2 : lp_rw L d B cp (i + 1) (lp_sn B cp cl (i + 1)) ≤ lp_rw L d B cp i (lp_sn B cp cl i) + lp_cf d B cp cl i := e
    rw [lp_tot]
    constructor
    · omega
    · omega
theorem lp_lo_le {L P B : Nat} {d cp cl : Nat → Nat} {C : Nat} (hP : P ≤ 6) (hL : L ≤ 3) (hB : lp_sd P L B) (h1 : ∀ i, i < C → cp i < P) (h2 : ∀ i, i < C → cl i < L) (hd : ∀ a b, a < P → b < P → d (6 * a + b) ≤ 6400) (h100 : C ≤ 100) : lp_lo L d B cp C ≤ lp_tot (fun k => lp_cf d B cp cl k) C := by
  have a := (lp_rw_path hP hL hB h1 h2 hd C (Nat.le_refl C) h100).1
  have hs := lp_sd_lt (lp_sn_sd hP hL hB h1 h2 C (Nat.le_refl C)) hL
  have b := (lp_min_mn 100000000 (lp_LQ (lp_rw L d B cp C) 512)).2.1 _ ⟨_, hs, rfl⟩
  have b2 : lp_lo L d B cp C ≤ lp_rw L d B cp C (lp_sn B cp cl C) := b
  omega
def lp_wo (what : Nat) (w : Option (Nat × Nat × Nat)) : Nat := match w with
  | none => 0
  | some (x, c, l) => if what = 0 then x else if what = 1 then c else l
/-- the greatest so far as an int: -1 where none is -/
def lp_wb (w : Option (Nat × Nat × Nat)) : Int32 := match w with
  | none => -1
  | some (_, c, l) => nI (c - l)
theorem lm_J_new2 {P R Kd k x : Nat} {ra rb rl fa aa su cp cl cf ck cm : Nat → Nat} {ct : Nat → Int32} {le tr : Nat → Nat} (hP : P ≤ 6) (hR : R ≤ 15) (hro : ∀ k, k < R → ra k < P ∧ rb k < P ∧ ¬ ra k = rb k ∧ 1 ≤ rl k ∧ rl k ≤ 100) (hKd : Kd ≤ 3) (hf : ∀ a b, a < 6 → b < 6 → fa (6 * a + b) = lp_ds 100000000 ra rb rl R 6 a b) (hn : ¬ lp_torn 100000000 P (lp_ds 100000000 ra rb rl R 6)) (hk1 : 1 ≤ k) (hk3 : k ≤ 3) (hx : lp_sd P k x) (ha : ∀ i, i < 3 → aa i = lp_dg x i) (hs : ∀ i, i < 3 → su i = 0) (hl : ∀ i, i < 512 → le i = if i = x then 0 else 100000000) (hle : ∀ i, le i ≤ 100000000) (htr : ∀ i, tr i ≤ 100000000) : lm_Jx P R k x 0 Kd (-1) ra rb rl fa aa su cp cl cf ck cm ct le tr := by
  refine ⟨hP, hR, hro, hk3, by omega, hKd, fun _ => rfl, hle, htr, fun _ => ⟨hx, fun i hi => by omega, fun i hi => by omega, fun i hi => by omega, hf, hn, fun i hi => ha i (by omega), fun i hi => hs i (by omega), by rw [lp_tm]; decide +kernel, fun i hi => by omega, fun i hi => by omega, fun i hi => by omega, fun j hj s hs => ?_⟩⟩
  rw [show j = 0 by omega, lp_rw, Nat.mul_zero, Nat.zero_add]
  exact hl s hs
theorem lp_pw_div {P m : Nat} (hP : 1 ≤ P) : P ^ (m + 1) / P = P ^ m := by
  rw [Nat.pow_succ, Nat.mul_div_cancel _ (by omega)]
theorem lp_pw216 {P n : Nat} (hP : P ≤ 6) (hP1 : 1 ≤ P) (hn : n ≤ 3) : P ^ n ≤ 216 ∧ 1 ≤ P ^ n := ⟨Nat.le_trans (Nat.pow_le_pow_left hP n) (Nat.le_trans (Nat.pow_le_pow_right (by decide) hn) (by decide)), Nat.one_le_pow _ _ hP1⟩
/-- the worst so far is in order -/
def lp_wok (w : Option (Nat × Nat × Nat)) : Prop := ∀ x c l, w = some (x, c, l) → l ≤ c ∧ c ≤ 1000000
theorem lp_wok_up {w : Option (Nat × Nat × Nat)} {x c l : Nat} (h : lp_wok w) (h1 : l ≤ c) (h2 : c ≤ 1000000) : lp_wok (lp_wup w x c l) := by
  intro x' c' l' e
  rcases w with _ | ⟨a, b, f⟩
  · cases e; exact ⟨h1, h2⟩
  · unfold lp_wup at e
    dsimp only at e
    split at e
    · cases e; exact ⟨h1, h2⟩
    · exact h x' c' l' e
noncomputable def lp_woA (P L B Kd : Nat) (d : Nat → Nat) (T : Int64) (n what : Int32) : Int32 := if L = 0 then -2 else if lp_inI n 1 3 ∧ lp_inI what 0 2 then nI (lp_wo what.toNatClampNeg (lp_wfd L d B Kd n.toNatClampNeg T (lp_rowsC P n.toNatClampNeg (8 ^ n.toNatClampNeg))).1) else -1
noncomputable def lp_woT (P L B Kd : Nat) (d : Nat → Nat) (T : Int64) (n what : Int32) : Int64 := if L = 0 then T else if lp_inI n 1 3 ∧ lp_inI what 0 2 then (lp_wfd L d B Kd n.toNatClampNeg T (lp_rowsC P n.toNatClampNeg (8 ^ n.toNatClampNeg))).2 else T
