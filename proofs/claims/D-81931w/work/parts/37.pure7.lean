/-! PURE PART 7: only distances between places matter. -/
section LP7
variable {L P B : Nat} {d d' cp cl ck : Nat → Nat}
theorem lp_MQ_d (hd : ∀ a b, a < P → b < P → d (6 * a + b) = d' (6 * a + b)) (hL1 : 1 ≤ L) (hL : L ≤ 3) {s x : Nat} (hs : lp_sd P L s) (hx : lp_sd P L x) : ∀ u, lp_MQ L d s x u ↔ lp_MQ L d' s x u := by
  have hD : ∀ a b, a < L → b < L → lp_D d s a x b = lp_D d' s a x b := fun a b h1 h2 => hd _ _ (hs.2 a h1) (hx.2 b h2)
  intro u
  unfold lp_MQ
  by_cases h : L = 1
  · rw [if_pos h, if_pos h, hD 0 0 (by omega) (by omega)]
  · rw [if_neg h, if_neg h]
    have e : ∀ a b, a < L → b < L → ¬ a = b → lp_mq L d s x a b = lp_mq L d' s x a b := by
      intro a b h1 h2 h3
      unfold lp_mq
      rw [hD 0 a (by omega) h1, hD 1 b (by omega) h2]
      by_cases q : L = 3
      · rw [if_pos q, if_pos q, hD 2 (3 - a - b) (by omega) (by omega)]
      · rw [if_neg q, if_neg q]
    constructor
    · rintro ⟨a, b, h1, h2, h3, h4⟩
      exact ⟨a, b, h1, h2, h3, h4.trans (e a b h1 h2 h3)⟩
    · rintro ⟨a, b, h1, h2, h3, h4⟩
      exact ⟨a, b, h1, h2, h3, h4.trans (e a b h1 h2 h3).symm⟩
theorem lp_sv_d (hd : ∀ a b, a < P → b < P → d (6 * a + b) = d' (6 * a + b)) {p : Nat} (hp : p < P) {g : Nat → Nat} (hg : ∀ s, s < 512 → g s < 100000000 → lp_sd P L s) : lp_sv L d p g = lp_sv L d' p g := by
  funext t
  refine lp_min_congr (fun u => ⟨?_, ?_⟩)
  · rintro ⟨s, l, q1, q2, q3, q4, q5⟩
    exact ⟨s, l, q1, q2, q3, q4, by rw [← hd _ _ ((hg s q1 q3).2 l q2) hp]; exact q5⟩
  · rintro ⟨s, l, q1, q2, q3, q4, q5⟩
    exact ⟨s, l, q1, q2, q3, q4, by rw [hd _ _ ((hg s q1 q3).2 l q2) hp]; exact q5⟩
theorem lp_rw_d (hd : ∀ a b, a < P → b < P → d (6 * a + b) = d' (6 * a + b)) {C : Nat} (hP : P ≤ 6) (hL : L ≤ 3) (hB : lp_sd P L B) (h1 : ∀ i, i < C → cp i < P) : ∀ i, i ≤ C → lp_rw L d B cp i = lp_rw L d' B cp i := by
  intro i
  induction i with
  | zero => intro _; rfl
  | succ i ih =>
    intro hi
    rw [lp_rw, lp_rw, ← ih (by omega)]
    exact lp_sv_d hd (h1 i (by omega)) (fun s _ h => lp_rw_stand hP hL hB h1 i (by omega) s h)
theorem lp_wm_d (hd : ∀ a b, a < P → b < P → d (6 * a + b) = d' (6 * a + b)) (hL1 : 1 ≤ L) (hL : L ≤ 3) {g : Nat → Nat} (hg : ∀ s, s < 512 → g s < 100000000 → lp_sd P L s) {x : Nat} (hx : lp_sd P L x) : lp_wm L d g x = lp_wm L d' g x := by
  refine lp_min_congr (fun u => ⟨?_, ?_⟩)
  · rintro ⟨s, q1, q2, q3⟩
    exact ⟨s, q1, q2, by rw [← lp_min_congr (lp_MQ_d hd hL1 hL (hg s q1 q2) hx)]; exact q3⟩
  · rintro ⟨s, q1, q2, q3⟩
    exact ⟨s, q1, q2, by rw [lp_min_congr (lp_MQ_d hd hL1 hL (hg s q1 q2) hx)]; exact q3⟩
theorem lp_cf_d (hd : ∀ a b, a < P → b < P → d (6 * a + b) = d' (6 * a + b)) {C : Nat} (hP : P ≤ 6) (hL : L ≤ 3) (hB : lp_sd P L B) (h1 : ∀ i, i < C → cp i < P) (h2 : ∀ i, i < C → cl i < L) {i : Nat} (hi : i < C) : lp_cf d B cp cl i = lp_cf d' B cp cl i := hd _ _ ((lp_sn_sd hP hL hB h1 h2 i (by omega)).2 _ (h2 i hi)) (h1 i hi)
theorem lp_sm_d (hd : ∀ a b, a < P → b < P → d (6 * a + b) = d' (6 * a + b)) {C : Nat} (hP : P ≤ 6) (hL : L ≤ 3) (hB : lp_sd P L B) (h1 : ∀ i, i < C → cp i < P) (h2 : ∀ i, i < C → cl i < L) (l : Nat) : ∀ i, i ≤ C → lp_sm d B cp cl l i = lp_sm d' B cp cl l i := by
  intro i
  induction i with
  | zero => intro _; rfl
  | succ i ih => intro hi; rw [lp_sm, lp_sm, ih (by omega), lp_cf_d hd hP hL hB h1 h2 (by omega)]
theorem lp_cho_d (hd : ∀ a b, a < P → b < P → d (6 * a + b) = d' (6 * a + b)) {C Kd p : Nat} (hP : P ≤ 6) (hL1 : 1 ≤ L) (hL : L ≤ 3) (hB : lp_sd P L B) (h1 : ∀ i, i < C → cp i < P) (h2 : ∀ i, i < C → cl i < L) (hp : p < P) : lp_cho L d B cp cl ck C Kd p = lp_cho L d' B cp cl ck C Kd p := by
  have hS := lp_sn_sd hP hL hB h1 h2 C (Nat.le_refl C)
  unfold lp_cho
  have e1 := lp_ag_congr (f := fun k => d (6 * lp_dg (lp_sn B cp cl C) k + p)) (g := fun k => d' (6 * lp_dg (lp_sn B cp cl C) k + p)) L (fun k hk => hd _ _ (hS.2 k hk) hp)
  have e2 := lp_ag_congr (f := fun k => lp_sm d B cp cl k C + d (6 * lp_dg (lp_sn B cp cl C) k + p)) (g := fun k => lp_sm d' B cp cl k C + d' (6 * lp_dg (lp_sn B cp cl C) k + p)) L (fun k hk => by rw [lp_sm_d hd hP hL hB h1 h2 k C (Nat.le_refl C), hd _ _ (hS.2 k hk) hp])
  have hg : ∀ s, s < 512 → lp_rw L d B cp C s < 100000000 → lp_sd P L s := fun s _ h => lp_rw_stand hP hL hB h1 C (Nat.le_refl C) s h
  have e3 := lp_ag_congr (f := lp_ahf L d p (lp_rw L d B cp C) (lp_sn B cp cl C) (lp_dg (lp_sn B cp cl C))) (g := lp_ahf L d' p (lp_rw L d' B cp C) (lp_sn B cp cl C) (lp_dg (lp_sn B cp cl C))) L (fun k hk => by
    unfold lp_ahf
    rw [hd _ _ (hS.2 k hk) hp, ← lp_rw_d hd hP hL hB h1 C (Nat.le_refl C), ← lp_sv_d hd hp hg, lp_wm_d hd hL1 hL (fun s _ h => lp_sv_stand hL hP hp hg h) (lp_sd_mv hS hL hk hp hP)])
  rw [e1, e2, e3]
end LP7
section LMF
variable {P R L B C Kd : Nat} {lt : Int32} {ra rb rl fa aa su cp cl cf ck cm : Nat → Nat} {ct : Nat → Int32} {le tr : Nat → Nat}
theorem lm_J_fa {fa' : Nat → Nat} (hJ : lm_Jx P R L B C Kd lt ra rb rl fa aa su cp cl cf ck cm ct le tr) (hf : ∀ a b, a < 6 → b < 6 → fa' (6 * a + b) = lp_ds 100000000 ra rb rl R 6 a b) : lm_Jx P R L B C Kd lt ra rb rl fa' aa su cp cl cf ck cm ct le tr := by
  obtain ⟨hP, hR, hro, hL3, hC12, hKd, hLC, hle, htr, hDay⟩ := hJ
  refine ⟨hP, hR, hro, hL3, hC12, hKd, hLC, hle, htr, fun hL1 => ?_⟩
  obtain ⟨hB, h1, h2, h3, h4, h5, h6, h7, h8, h9, h10, h11, h12⟩ := hDay hL1
  have hd : ∀ a b, a < P → b < P → fa (6 * a + b) = fa' (6 * a + b) := fun a b ha hb => by rw [hf a b (by omega) (by omega), h4 a b (by omega) (by omega)]
  exact ⟨hB, h1, h2, h3, hf, h5, h6, fun k hk => by rw [h7 k hk, lp_sm_d hd hP hL3 hB h1 h2 k C (Nat.le_refl C)], h8, fun i hi => by rw [h9 i hi, lp_cf_d hd hP hL3 hB h1 h2 hi], h10, h11, fun j hj s hs => by rw [h12 j hj s hs, lp_rw_d hd hP hL3 hB h1 j hj]⟩
/-- a day begins -/
theorem lm_J_new {k x : Nat} {fa' aa' su' le' : Nat → Nat} (hJ : lm_Jx P R L B C Kd lt ra rb rl fa aa su cp cl cf ck cm ct le tr) (hf : ∀ a b, a < 6 → b < 6 → fa' (6 * a + b) = lp_ds 100000000 ra rb rl R 6 a b) (hn : ¬ lp_torn 100000000 P (lp_ds 100000000 ra rb rl R 6)) (hk1 : 1 ≤ k) (hk3 : k ≤ 3) (hx : lp_sd P k x) (ha : ∀ i, i < 3 → aa' i = lp_dg x i) (hs : ∀ i, i < 3 → su' i = 0) (hl : ∀ i, i < 512 → le' i = if i = x then 0 else 100000000) (hl2 : ∀ i, 512 ≤ i → le' i = le i) : lm_Jx P R k x 0 Kd (-1) ra rb rl fa' aa' su' cp cl cf ck cm ct le' tr := by
  obtain ⟨hP, hR, hro, hL3, hC12, hKd, hLC, hle, htr, -⟩ := hJ
  refine ⟨hP, hR, hro, hk3, by omega, hKd, fun _ => rfl, fun i => ?_, htr, fun _ => ⟨hx, fun i hi => by omega, fun i hi => by omega, fun i hi => by omega, hf, hn, fun i hi => ha i (by omega), fun i hi => hs i (by omega), by rw [lp_tm]; decide +kernel, fun i hi => by omega, fun i hi => by omega, fun i hi => by omega, fun j hj s hs => ?_⟩⟩
  · by_cases h : i < 512
    · rw [hl i h]; split <;> omega
    · rw [hl2 i (by omega)]; exact hle i
  · rw [show j = 0 by omega, lp_rw, Nat.mul_zero, Nat.zero_add]
    exact hl s hs
end LMF
def lp_abA (P R L C Kd tz : Nat) (x : Int32) : Int32 := if x = nI 0 then nI P else if x = nI 1 then nI R else if x = nI 2 then nI L else if x = nI 3 then nI C else if x = nI 4 then nI Kd else if x = nI 5 then nI tz else -1
theorem lp_abA_out {P R L C Kd tz : Nat} {x : Int32} (h : ¬ lp_inI x 0 5) : lp_abA P R L C Kd tz x = -1 := by
  have e : ∀ k, k ≤ 5 → ¬ x = nI k := fun k hk z => h (by rw [z]; exact (lp_inI_nI (by omega)).mpr ⟨by omega, hk⟩)
  unfold lp_abA
  rw [if_neg (e 0 (by decide)), if_neg (e 1 (by decide)), if_neg (e 2 (by decide)), if_neg (e 3 (by decide)), if_neg (e 4 (by decide)), if_neg (e 5 (by decide))]
/-- may a day begin -/
def lp_bgOk (P : Nat) (n s : Int32) : Prop := ∃ k x, n = nI k ∧ 1 ≤ k ∧ k ≤ 3 ∧ s = nI x ∧ x < 2 ^ 31 ∧ lp_sd P k x
/-- the first place without a ladder -/
def lp_free (P L s p : Nat) : Prop := p < P ∧ ¬ lp_hs L s p ∧ ∀ q, q < p → lp_hs L s q
