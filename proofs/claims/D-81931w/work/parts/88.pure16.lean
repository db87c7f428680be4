/-! PURE PART 16: the component's way through the worst row. -/
section LPZ
variable {L P B Kd : Nat} {d p ca we sb : Nat → Nat}
theorem lp_tot_put {f : Nat → Nat} {a v : Nat} : ∀ n, a < n → lp_tot (fun k => if k = a then f k + v else f k) n = lp_tot f n + v := by
  intro n
  induction n with
  | zero => intro h; omega
  | succ n ih =>
    intro h
    rw [lp_tot, lp_tot]
    by_cases e : n = a
    · subst e
      rw [if_pos rfl, lp_tot_congr (g := f) n (fun i hi => if_neg (by omega))]
      omega
    · rw [if_neg e, ih (by omega)]
      omega
theorem lp_tot_zero {f : Nat → Nat} : ∀ n, (∀ i, i < n → f i = 0) → lp_tot f n = 0 := by
  intro n
  induction n with
  | zero => intro _; rfl
  | succ n ih => intro h; rw [lp_tot, ih (fun i hi => h i (by omega)), h n (by omega)]
theorem lp_tot_sm {cp cl : Nat → Nat} : ∀ C, (∀ i, i < C → cl i < L) → lp_tot (fun k => lp_sm d B cp cl k C) L = lp_tot (fun i => lp_cf d B cp cl i) C := by
  intro C
  induction C with
  | zero => intro _; exact lp_tot_zero L (fun _ _ => rfl)
  | succ C ih =>
    intro h
    rw [lp_tot, ← ih (fun i hi => h i (by omega))]
    exact lp_tot_put (f := fun k => lp_sm d B cp cl k C) L (h C (by omega))
theorem lp_lo_congr {cp cp' : Nat → Nat} {n : Nat} (h : ∀ i, i < n → cp i = cp' i) : lp_lo L d B cp n = lp_lo L d B cp' n := by
  unfold lp_lo
  rw [lp_rw_congr h n (Nat.le_refl n)]
/-- what the served calls of a row are, behind j of them -/
def lp_WR (L : Nat) (d : Nat → Nat) (B Kd : Nat) (p ca we sb : Nat → Nat) (j : Nat) : Prop := ∀ i, i < j → ca i = p i ∧ we i = lp_wl L d B Kd p j i ∧ sb i = Kd
theorem lp_WR_0 : lp_WR L d B Kd p ca we sb 0 := fun i hi => by omega
theorem lp_WR_cho {j : Nat} (h : lp_WR L d B Kd p ca we sb j) : lp_cho L d B ca we sb j Kd (p j) = lp_cho L d B p (lp_wl L d B Kd p j) (fun _ => Kd) j Kd (p j) :=
  lp_cho_congr (fun i hi => (h i hi).1) (fun i hi => (h i hi).2.1) (fun i hi => (h i hi).2.2)
theorem lp_WR_step {j : Nat} {ca' : Nat → Nat} (h : lp_WR L d B Kd p ca we sb j) (h1 : ∀ i, i < j → ca' i = ca i) (h2 : ca' j = p j) : lp_WR L d B Kd p ca' (va_up we j (lp_cho L d B ca we sb j Kd (p j))) (va_up sb j Kd) (j + 1) := by
  intro i hi
  rw [lp_wl]
  by_cases e : i = j
  · subst e
    rw [va_up_self, va_up_self, va_up_self, lp_WR_cho h]
    exact ⟨h2, rfl, rfl⟩
  · rw [va_up_ne _ _ e, va_up_ne _ _ e, va_up_ne _ _ e, h1 i (by omega)]
    exact h i (by omega)
theorem lp_WR_sn {j : Nat} (h : lp_WR L d B Kd p ca we sb j) : lp_sn B ca we j = lp_sn B p (lp_wl L d B Kd p j) j := lp_sn_congr (fun i hi => (h i hi).1) (fun i hi => (h i hi).2.1) j (Nat.le_refl j)
theorem lp_WR_ct {n : Nat} (h : lp_WR L d B Kd p ca we sb n) : lp_tot (fun i => lp_cf d B ca we i) n = lp_wct L d B Kd p n :=
  lp_tot_congr n (fun i hi => lp_cf_congr (C := n) (fun i hi => (h i hi).1) (fun i hi => (h i hi).2.1) hi)
/-- the greatest so far in the component's int -/
def lp_wbC (w : Option (Nat × Nat × Nat)) : Int32 := match w with
  | none => -nI 1000000
  | some (_, c, l) => nI (c - l)
theorem lp_wup_in {w : Option (Nat × Nat × Nat)} {x c l : Nat} (hw : lp_wok w) (hc : c ≤ 1000000) (h : nI (c - l) ≤ lp_wbC w) : lp_wup w x c l = w := by
  rcases w with _ | ⟨a, b, f⟩
  · exfalso
    have h1 : nI (c - l) ≤ -nI 1000000 := h
    have h2 : (-nI 1000000 : Int32) < 0 := by decide +kernel
    have h3 := nI_pos' (n := c - l) (by omega)
    rw [Int32.le_iff_toInt_le] at h1 h3
    rw [Int32.lt_iff_toInt_lt] at h2
    omega
  · have hb := hw a b f rfl
    have h1 := (nI_leI (show c - l < 2 ^ 31 by omega) (show b - f < 2 ^ 31 by omega)).mp h
    show (if b - f < c - l then some (x, c, l) else some (a, b, f)) = some (a, b, f)
    rw [if_neg (by omega)]
theorem lp_wup_out {w : Option (Nat × Nat × Nat)} {x c l : Nat} (hw : lp_wok w) (hc : c ≤ 1000000) (h : ¬ nI (c - l) ≤ lp_wbC w) : lp_wup w x c l = some (x, c, l) := by
  rcases w with _ | ⟨a, b, f⟩
  · rfl
  · have hb := hw a b f rfl
    have h1 : ¬ c - l ≤ b - f := fun z => h ((nI_leI (show c - l < 2 ^ 31 by omega) (show b - f < 2 ^ 31 by omega)).mpr z)
    show (if b - f < c - l then some (x, c, l) else some (a, b, f)) = some (x, c, l)
    rw [if_pos (by omega)]
/-- a flag: all k first digits are places -/
def lp_VQ (P x k z : Nat) : Prop := z < 2 ∧ (z = 1 ↔ ∀ i, i < k → lp_dg x i < P)
theorem lp_VQ_0 {x : Nat} : lp_VQ P x 0 1 := ⟨by decide, fun _ i hi => by omega, fun _ => rfl⟩
theorem lp_VQ_t {x k z : Nat} (h : lp_VQ P x k z) (hz : ¬ z = 0) (hd : lp_dg x k < P) : lp_VQ P x (k + 1) 1 := by
  refine ⟨by decide, fun _ i hi => ?_, fun _ => rfl⟩
  by_cases e : i = k
  · subst e; exact hd
  · exact h.2.mp (by have := h.1; omega) i (by omega)
theorem lp_VQ_f {x k z : Nat} (h : lp_VQ P x k z) (hz : z = 0 ∨ P ≤ lp_dg x k) : lp_VQ P x (k + 1) 0 := by
  refine ⟨by decide, fun q => by omega, fun q => ?_⟩
  rcases hz with hz | hz
  · have := h.2.mpr (fun i hi => q i (by omega)); omega
  · have := q k (by omega); omega
theorem lp_VQ_end {x n z : Nat} (h : lp_VQ P x n z) : z = 1 ↔ lp_vd P n x = true := by
  rw [h.2]
  unfold lp_vd
  simp only [List.all_eq_true, List.mem_range, decide_eq_true_eq]
theorem lb_D_congr {P L B Nw U C : Nat} {aw su ca we fa sb tb su' ca' we' fa' sb' tb' : Nat → Nat} (hC : C ≤ 12) (hL : L ≤ 3) (h : lb_Dx P L B Nw U C aw su ca we fa sb tb) (e0 : ∀ k, k < 3 → su' k = su k) (e1 : ∀ i, i < 12 → ca' i = ca i) (e2 : ∀ i, i < 12 → we' i = we i) (e3 : ∀ i, i < 12 → fa' i = fa i) (e4 : ∀ i, i < 12 → sb' i = sb i) (e5 : ∀ i, i < 12 → tb' i = tb i) : lb_Dx P L B Nw U C aw su' ca' we' fa' sb' tb' := by
  obtain ⟨hB, h1, h2, h3, h4, h5, h6, h7, h8, h9, h10⟩ := h
  have c1 : ∀ i, i < C → ca i = ca' i := fun i hi => (e1 i (by omega)).symm
  have c2 : ∀ i, i < C → we i = we' i := fun i hi => (e2 i (by omega)).symm
  have c3 : ∀ i, i < C → sb i = sb' i := fun i hi => (e4 i (by omega)).symm
  refine ⟨hB, fun i hi => by rw [← c1 i hi]; exact h1 i hi, fun i hi => by rw [← c2 i hi]; exact h2 i hi, fun i hi => by rw [← c3 i hi]; exact h3 i hi, h4, h5, by rw [← lp_sn_congr c1 c2 C (Nat.le_refl C)]; exact h6, fun k hk => by rw [e0 k (by omega), ← lp_sm_congr c1 c2 C (Nat.le_refl C)]; exact h7 k hk, by rw [← lp_tm_congr c1 c2 c3 C (Nat.le_refl C)]; exact h8, fun i hi => ?_, fun i hi => by rw [e5 i (by omega), ← lp_tm_congr c1 c2 c3 i (by omega)]; exact h10 i hi⟩
  rw [e3 i (by omega), ← lp_cf_congr c1 c2 hi, ← lp_sn_congr c1 c2 i (by omega), ← c2 i hi]
  exact h9 i hi
end LPZ
