/-! PURE PART 6: a day, call by call: the stand, the sums, the turn, the least costs behind i calls (places cp, ladders cl, rules ck). -/
def lp_sn (B : Nat) (cp cl : Nat → Nat) : Nat → Nat
  | 0 => B
  | i + 1 => lp_mv (lp_sn B cp cl i) (cl i) (cp i)
/-- what call i cost -/
def lp_cf (d : Nat → Nat) (B : Nat) (cp cl : Nat → Nat) (i : Nat) : Nat := d (6 * lp_dg (lp_sn B cp cl i) (cl i) + cp i)
def lp_sm (d : Nat → Nat) (B : Nat) (cp cl : Nat → Nat) (l : Nat) : Nat → Nat
  | 0 => 0
  | i + 1 => if l = cl i then lp_sm d B cp cl l i + lp_cf d B cp cl i else lp_sm d B cp cl l i
def lp_hs (L s p : Nat) : Prop := lp_there L (fun k => lp_dg s k) p
/-- one more than the ladder of the latest turn -/
noncomputable def lp_tm (L B : Nat) (cp cl ck : Nat → Nat) : Nat → Nat
  | 0 => 0
  | i + 1 => @ite _ (ck i = 2 ∧ ¬ lp_hs L (lp_sn B cp cl i) (cp i)) (Classical.propDecidable _) (cl i + 1) (lp_tm L B cp cl ck i)
noncomputable def lp_rw (L : Nat) (d : Nat → Nat) (B : Nat) (cp : Nat → Nat) : Nat → Nat → Nat
  | 0 => fun s => if s = B then 0 else 100000000
  | i + 1 => lp_sv L d (cp i) (lp_rw L d B cp i)
noncomputable def lp_cho (L : Nat) (d : Nat → Nat) (B : Nat) (cp cl ck : Nat → Nat) (C Kd p : Nat) : Nat :=
  lp_chl Kd L (lp_hs L (lp_sn B cp cl C) p) (lp_ag (fun k => d (6 * lp_dg (lp_sn B cp cl C) k + p)) L) (lp_ag (fun k => lp_sm d B cp cl k C + d (6 * lp_dg (lp_sn B cp cl C) k + p)) L) (lp_tm L B cp cl ck C % L) (lp_ag (lp_ahf L d p (lp_rw L d B cp C) (lp_sn B cp cl C) (lp_dg (lp_sn B cp cl C))) L)
section LP6
variable {L P B : Nat} {d cp cl ck cp' cl' ck' : Nat → Nat}
theorem lp_sn_congr {C : Nat} (h1 : ∀ i, i < C → cp i = cp' i) (h2 : ∀ i, i < C → cl i = cl' i) : ∀ i, i ≤ C → lp_sn B cp cl i = lp_sn B cp' cl' i := by
  intro i
  induction i with
  | zero => intro _; rfl
  | succ i ih => intro hi; rw [lp_sn, lp_sn, ih (by omega), h1 i (by omega), h2 i (by omega)]
theorem lp_cf_congr {C : Nat} (h1 : ∀ i, i < C → cp i = cp' i) (h2 : ∀ i, i < C → cl i = cl' i) {i : Nat} (hi : i < C) : lp_cf d B cp cl i = lp_cf d B cp' cl' i := by
  unfold lp_cf
  rw [lp_sn_congr h1 h2 i (by omega), h1 i hi, h2 i hi]
theorem lp_sm_congr {C l : Nat} (h1 : ∀ i, i < C → cp i = cp' i) (h2 : ∀ i, i < C → cl i = cl' i) : ∀ i, i ≤ C → lp_sm d B cp cl l i = lp_sm d B cp' cl' l i := by
  intro i
  induction i with
  | zero => intro _; rfl
  | succ i ih => intro hi; rw [lp_sm, lp_sm, ih (by omega), lp_cf_congr h1 h2 (by omega), h2 i (by omega)]
theorem lp_tm_congr {C : Nat} (h1 : ∀ i, i < C → cp i = cp' i) (h2 : ∀ i, i < C → cl i = cl' i) (h3 : ∀ i, i < C → ck i = ck' i) : ∀ i, i ≤ C → lp_tm L B cp cl ck i = lp_tm L B cp' cl' ck' i := by
  intro i
  induction i with
  | zero => intro _; rfl
  | succ i ih => intro hi; rw [lp_tm, lp_tm, ih (by omega), lp_sn_congr h1 h2 i (by omega), h1 i (by omega), h2 i (by omega), h3 i (by omega)]
theorem lp_rw_congr {C : Nat} (h1 : ∀ i, i < C → cp i = cp' i) : ∀ i, i ≤ C → lp_rw L d B cp i = lp_rw L d B cp' i := by
  intro i
  induction i with
  | zero => intro _; rfl
  | succ i ih => intro hi; rw [lp_rw, lp_rw, ih (by omega), h1 i (by omega)]
theorem lp_cho_congr {C Kd p : Nat} (h1 : ∀ i, i < C → cp i = cp' i) (h2 : ∀ i, i < C → cl i = cl' i) (h3 : ∀ i, i < C → ck i = ck' i) : lp_cho L d B cp cl ck C Kd p = lp_cho L d B cp' cl' ck' C Kd p := by
  unfold lp_cho
  rw [lp_sn_congr h1 h2 C (Nat.le_refl C), lp_tm_congr h1 h2 h3 C (Nat.le_refl C), lp_rw_congr h1 C (Nat.le_refl C)]
  have e : (fun k => lp_sm d B cp cl k C + d (6 * lp_dg (lp_sn B cp' cl' C) k + p)) = (fun k => lp_sm d B cp' cl' k C + d (6 * lp_dg (lp_sn B cp' cl' C) k + p)) := by
    funext k
    rw [lp_sm_congr h1 h2 C (Nat.le_refl C)]
  rw [e]
theorem lp_sn_sd {C : Nat} (hP : P ≤ 6) (hL : L ≤ 3) (hB : lp_sd P L B) (h1 : ∀ i, i < C → cp i < P) (h2 : ∀ i, i < C → cl i < L) : ∀ i, i ≤ C → lp_sd P L (lp_sn B cp cl i) := by
  intro i
  induction i with
  | zero => intro _; exact hB
  | succ i ih => intro hi; exact lp_sd_mv (ih (by omega)) hL (h2 i (by omega)) (h1 i (by omega)) hP
theorem lp_cf_le {C : Nat} (hP : P ≤ 6) (hL : L ≤ 3) (hB : lp_sd P L B) (h1 : ∀ i, i < C → cp i < P) (h2 : ∀ i, i < C → cl i < L) (hd : ∀ a b, a < P → b < P → d (6 * a + b) ≤ 6400) {i : Nat} (hi : i < C) : lp_cf d B cp cl i ≤ 6400 := hd _ _ ((lp_sn_sd hP hL hB h1 h2 i (by omega)).2 _ (h2 i hi)) (h1 i hi)
theorem lp_sm_le {C : Nat} (hP : P ≤ 6) (hL : L ≤ 3) (hB : lp_sd P L B) (h1 : ∀ i, i < C → cp i < P) (h2 : ∀ i, i < C → cl i < L) (hd : ∀ a b, a < P → b < P → d (6 * a + b) ≤ 6400) (l : Nat) : ∀ i, i ≤ C → lp_sm d B cp cl l i ≤ 6400 * i := by
  intro i
  induction i with
  | zero => intro _; exact Nat.le_refl 0
  | succ i ih =>
    intro hi
    have a := ih (by omega)
    have b := lp_cf_le hP hL hB h1 h2 hd (i := i) (by omega)
    unfold lp_sm
    split <;> omega
theorem lp_tm_le {C : Nat} (hL : L ≤ 3) (h2 : ∀ i, i < C → cl i < L) : ∀ i, i ≤ C → lp_tm L B cp cl ck i ≤ 3 := by
  intro i
  induction i with
  | zero => intro _; exact Nat.zero_le 3
  | succ i ih =>
    intro hi
    have a := ih (by omega)
    have b := h2 i (by omega)
    unfold lp_tm
    split <;> omega
theorem lp_rw_le : ∀ i s, lp_rw L d B cp i s ≤ 100000000 := by
  intro i
  cases i with
  | zero => intro s; unfold lp_rw; split <;> omega
  | succ i => intro s; exact lp_sv_le s
theorem lp_rw_stand {C : Nat} (hP : P ≤ 6) (hL : L ≤ 3) (hB : lp_sd P L B) (h1 : ∀ i, i < C → cp i < P) : ∀ i, i ≤ C → ∀ s, lp_rw L d B cp i s < 100000000 → lp_sd P L s := by
  intro i
  induction i with
  | zero =>
    intro _ s h
    unfold lp_rw at h
    by_cases e : s = B
    · rw [e]; exact hB
    · rw [if_neg e] at h; omega
  | succ i ih => intro hi s h; exact lp_sv_stand hL hP (h1 i (by omega)) (fun s _ hs => ih (by omega) s hs) h
theorem lp_rw_reach {C : Nat} (hP : P ≤ 6) (hL1 : 1 ≤ L) (hL : L ≤ 3) (hB : lp_sd P L B) (h1 : ∀ i, i < C → cp i < P) (hd : ∀ a b, a < P → b < P → d (6 * a + b) ≤ 6400) : ∀ i, i ≤ C → i ≤ 100 → ∃ s, lp_sd P L s ∧ lp_rw L d B cp i s ≤ 6400 * i := by
  intro i
  induction i with
  | zero => intro _ _; exact ⟨B, hB, by unfold lp_rw; rw [if_pos rfl]; omega⟩
  | succ i ih =>
    intro hi h100
    obtain ⟨s, hs, hr⟩ := ih (by omega) (by omega)
    have hp := h1 i (by omega)
    refine ⟨lp_mv s 0 (cp i), lp_sd_mv hs hL (by omega) hp hP, ?_⟩
    have h3 := (lp_min_mn 100000000 (lp_SQ L d (cp i) (lp_rw L d B cp i) (lp_mv s 0 (cp i)))).2.1 _ ⟨s, 0, lp_sd_lt hs hL, by omega, by omega, rfl, rfl⟩
    have h4 := hd _ _ (hs.2 0 (by omega)) hp
    show lp_min _ _ ≤ _
    omega
theorem lp_MQ_some (hL1 : 1 ≤ L) (hL : L ≤ 3) {s x : Nat} (hs : lp_sd P L s) (hx : lp_sd P L x) (hd : ∀ a b, a < P → b < P → d (6 * a + b) ≤ 6400) : ∃ u, lp_MQ L d s x u ∧ u ≤ 19200 := by
  have hD : ∀ a b, a < L → b < L → lp_D d s a x b ≤ 6400 := fun a b h1 h2 => hd _ _ (hs.2 a h1) (hx.2 b h2)
  by_cases h : L = 1
  · refine ⟨lp_D d s 0 x 0, by unfold lp_MQ; rw [if_pos h], ?_⟩
    have := hD 0 0 (by omega) (by omega)
    omega
  · refine ⟨lp_mq L d s x 0 1, by unfold lp_MQ; rw [if_neg h]; exact ⟨0, 1, by omega, by omega, by omega, rfl⟩, ?_⟩
    have a := hD 0 0 (by omega) (by omega)
    have b := hD 1 1 (by omega) (by omega)
    unfold lp_mq
    split
    · have e := hD 2 (3 - 0 - 1) (by omega) (by omega)
      omega
    · omega
theorem lp_wm_small {C i x : Nat} (hP : P ≤ 6) (hL1 : 1 ≤ L) (hL : L ≤ 3) (hB : lp_sd P L B) (h1 : ∀ i, i < C → cp i < P) (hd : ∀ a b, a < P → b < P → d (6 * a + b) ≤ 6400) (hi : i ≤ C) (h100 : i ≤ 100) (hx : lp_sd P L x) : lp_wm L d (lp_rw L d B cp i) x ≤ 6400 * i + 19200 := by
  obtain ⟨s, hs, hr⟩ := lp_rw_reach hP hL1 hL hB h1 hd i hi h100
  obtain ⟨u, hu, hu2⟩ := lp_MQ_some hL1 hL hs hx hd
  have a := (lp_min_mn 100000000 (lp_MQ L d s x)).2.1 u hu
  have b := (lp_min_mn 100000000 (lp_WQ L d (lp_rw L d B cp i) x 512)).2.1 _ ⟨s, lp_sd_lt hs hL, by omega, rfl⟩
  show lp_min _ _ ≤ _
  omega
theorem lp_ah_small {C p : Nat} (hP : P ≤ 6) (hL1 : 1 ≤ L) (hL : L ≤ 3) (hB : lp_sd P L B) (h1 : ∀ i, i < C → cp i < P) (hp : p < P) (hC : C ≤ 12) (hd : ∀ a b, a < P → b < P → d (6 * a + b) ≤ 6400) {x k : Nat} (hx : lp_sd P L x) (hk : k < L) : lp_ahf L d p (lp_rw L d B cp C) x (lp_dg x) k ≤ 120000 := by
  have e1 : lp_sv L d p (lp_rw L d B cp C) = lp_rw L d B (va_up cp C p) (C + 1) := by
    rw [lp_rw, va_up_self, lp_rw_congr (cp' := cp) (C := C) (fun i hi => va_up_ne _ _ (by omega)) C (Nat.le_refl C)]
  unfold lp_ahf
  rw [e1]
  have a := lp_wm_small (C := C + 1) (i := C + 1) (x := lp_mv x k p) hP hL1 hL hB (cp := va_up cp C p) (fun i hi => by
    by_cases e : i = C
    · subst e; rw [va_up_self]; exact hp
    · rw [va_up_ne _ _ e]; exact h1 i (by omega)) hd (Nat.le_refl _) (by omega) (lp_sd_mv hx hL hk hp hP)
  have b := hd _ _ (hx.2 k hk) hp
  omega
theorem lp_cho_lt {C Kd p : Nat} (hL1 : 1 ≤ L) : lp_cho L d B cp cl ck C Kd p < L := by
  unfold lp_cho lp_chl
  have h1 := fun f : Nat → Nat => lp_ag_lt (f := f) (k := L) (by omega)
  have h2 := Nat.mod_lt (lp_tm L B cp cl ck C) (show 0 < L by omega)
  split
  · exact h1 _
  · split
    · split <;> exact h1 _
    · split
      · split
        · exact h1 _
        · exact h2
      · split
        · exact h1 _
        · split <;> exact h1 _
end LP6
