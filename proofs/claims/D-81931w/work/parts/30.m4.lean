/-! THE MODEL's METHODS, part 4: which ladder goes. Printed by m4.py. -/
section LM4
variable {ω : la_O} {ad : Nat → Nat} {th S lt : Int32} {T : Int64} {P R L B Kd C : Nat} {ra rb rl fa aa su cp cl cf ck cm le tr re bh so br wh wy : Nat → Nat} {ct rs : Nat → Int32} {ce : Nat → Int64}
set_option maxHeartbeats 4000000 in
theorem lm_nearestA {p : Nat} (hP : P ≤ 6) (hL1 : 1 ≤ L) (hL3 : L ≤ 3) (hp : p < P) (hfa : ∀ i, i < 36 → fa i ≤ 100000000) (hw : ∀ k, k < L → aa k < P) : la_CI ω yX5_nearest cX5_nearest 5 (some .int) (la_rm 0) [.ref (ad 0), .ref (ad 5), .int (nI p)] (lm_W ω.2.2 ad ((th, S, T, P, R, L, B, Kd, lt, C), (ra, rb, rl, fa), (aa, su), (cp, cl, cf, ck, cm, ct), (le, tr, re), (bh, so, br, rs, ce), (wh, wy))) (lm_W ω.2.2 ad) (fun (r : Int32) (u : lm_S) => r = nI (lp_ag (fun k => fa (6 * aa k + p)) L) ∧ u = ((th, S, T + lN 1, P, R, L, B, Kd, lt, C), (ra, rb, rl, fa), (aa, su), (cp, cl, cf, ck, cm, ct), (le, tr, re), (bh, so, br, rs, ce), (wh, wy))) := by
  refine la_CI_of (by decide) [some (.ref (ad 0)), some (.ref (ad 5)), some (.int (nI (p))), none, none] rfl rfl (Nat.le_of_ble_eq_true rfl) ?_
  intro κ K hret
  have lp : ∀ (j k : Nat) (l : Nat), k ≤ L → L < k + j → 0 < k → l < k → l = lp_ag (fun k => fa (6 * aa k + p)) k → la_At ω κ (0, 0) 15 [some (.ref (ad 0)), some (.ref (ad 5)), some (.int (nI (p))), some (.int (nI (l))), some (.int (nI (k)))] [] (lm_W ω.2.2 ad ((th, S, T + lN 1, P, R, L, B, Kd, lt, C), (ra, rb, rl, fa), (aa, su), (cp, cl, cf, ck, cm, ct), (le, tr, re), (bh, so, br, rs, ce), (wh, wy))) := by
    intro j
    induction j with
    | zero => intro k l h1 h2; omega
    | succ j ih =>
      intro k l h1 h2 hk hlk hl
      refine la_iload K dX5_nearest_15 rfl ?_
      refine la_aload_n K dX5_nearest_17 rfl ?_
      refine lm_g_L K q836 dX5_nearest_18 ?_
      refine la_icmp_geN K 67 dX5_nearest_21 rfl (by omega) (by omega) (fun h21 => ?_) (fun h21 => ?_)
      · refine la_iload_n K dX5_nearest_67 rfl ?_
        exact hret _ _ _ _ dX5_nearest_68 ⟨by rw [hl, show k = L by omega], rfl⟩
      · refine la_aload_n K dX5_nearest_24 rfl ?_
        refine lm_g_fa K q835 dX5_nearest_25 ?_
        refine la_bipush K dX5_nearest_28 la_kb_6 ?_
        refine la_aload_n K dX5_nearest_30 rfl ?_
        refine la_iload K dX5_nearest_31 rfl ?_
        refine lm_ld_aa K (by omega) dX5_nearest_33 ?_
        refine la_imulN K dX5_nearest_34 ?_
        refine la_iload_n K dX5_nearest_35 rfl ?_
        refine la_iaddN K dX5_nearest_36 ?_
        refine lm_ld_fa K (by have := hw k (by omega); omega) dX5_nearest_37 ?_
        refine la_aload_n K dX5_nearest_38 rfl ?_
        refine lm_g_fa K q835 dX5_nearest_39 ?_
        refine la_bipush K dX5_nearest_42 la_kb_6 ?_
        refine la_aload_n K dX5_nearest_44 rfl ?_
        refine la_iload_n K dX5_nearest_45 rfl ?_
        refine lm_ld_aa K (by omega) dX5_nearest_46 ?_
        refine la_imulN K dX5_nearest_47 ?_
        refine la_iload_n K dX5_nearest_48 rfl ?_
        refine la_iaddN K dX5_nearest_49 ?_
        refine lm_ld_fa K (by have := hw l (by omega); omega) dX5_nearest_50 ?_
        refine la_icmp_geN K 59 dX5_nearest_51 rfl (by have := hfa (6 * aa k + p) (by have := hw k (by omega); omega); omega) (by have := hfa (6 * aa l + p) (by have := hw l (by omega); omega); omega) (fun h51 => ?_) (fun h51 => ?_)
        · refine la_iload_n K dX5_nearest_59 rfl ?_
          refine la_istore3 K dX5_nearest_60 rfl ?_
          refine la_iinc4 K dX5_nearest_61 (la_inc_N _) rfl ?_
          refine la_goto K 15 dX5_nearest_64 rfl ?_
          exact ih (k + 1) _ (by omega) (by omega) (by omega) (by omega) (by rw [← lp_ag_step hl]; exact (if_neg (by omega)).symm)
        · refine la_iload K dX5_nearest_54 rfl ?_
          refine la_goto K 60 dX5_nearest_56 rfl ?_
          refine la_istore3 K dX5_nearest_60 rfl ?_
          refine la_iinc4 K dX5_nearest_61 (la_inc_N _) rfl ?_
          refine la_goto K 15 dX5_nearest_64 rfl ?_
          exact ih (k + 1) _ (by omega) (by omega) (by omega) (by omega) (by rw [← lp_ag_step hl]; exact (if_pos h51).symm)
  refine la_aload_n K dX5_nearest_0 rfl ?_
  refine la_dup K dX5_nearest_1 rfl ?_
  refine lm_g_T K q829 dX5_nearest_2 ?_
  refine la_lconst K dX5_nearest_5 la_kn_1 ?_
  refine la_ladd K dX5_nearest_6 ?_
  refine lm_p_T K q829 dX5_nearest_7 ?_
  refine la_iconst K dX5_nearest_10 la_ki_0 ?_
  refine la_istore3 K dX5_nearest_11 rfl ?_
  refine la_iconst K dX5_nearest_12 la_ki_1 ?_
  refine la_istore4 K dX5_nearest_13 rfl ?_
  exact lp (L + 1) 1 0 (by omega) (by omega) (by omega) (by omega) (lp_ag_1 _).symm
theorem lm_isThereA {p : Nat} (hP : P ≤ 6) (hL3 : L ≤ 3) (hp : p < P) (hw : ∀ k, k < L → aa k < P) : la_CP ω yX5_isThere cX5_isThere 5 (some .boolean) (la_rm 0) [.ref (ad 0), .ref (ad 5), .int (nI p)] (lm_W ω.2.2 ad ((th, S, T, P, R, L, B, Kd, lt, C), (ra, rb, rl, fa), (aa, su), (cp, cl, cf, ck, cm, ct), (le, tr, re), (bh, so, br, rs, ce), (wh, wy))) (nI (lp_b (lp_there L aa p))) := by
  refine la_CZ_of (by decide) [some (.ref (ad 0)), some (.ref (ad 5)), some (.int (nI (p))), none, none] rfl rfl (Nat.le_of_ble_eq_true rfl) ?_
  intro κ K hret
  have lp : ∀ (j k : Nat) (z : Nat), k ≤ L → L < k + j → lp_HQ aa p k z → la_At ω κ (0, 0) 5 [some (.ref (ad 0)), some (.ref (ad 5)), some (.int (nI (p))), some (.int (nI (z))), some (.int (nI (k)))] [] (lm_W ω.2.2 ad ((th, S, T, P, R, L, B, Kd, lt, C), (ra, rb, rl, fa), (aa, su), (cp, cl, cf, ck, cm, ct), (le, tr, re), (bh, so, br, rs, ce), (wh, wy))) := by
    intro j
    induction j with
    | zero => intro k z h1 h2; omega
    | succ j ih =>
      intro k z h1 h2 hz
      refine la_iload K dX5_isThere_5 rfl ?_
      refine la_aload_n K dX5_isThere_7 rfl ?_
      refine lm_g_L K q836 dX5_isThere_8 ?_
      refine la_icmp_geN K 36 dX5_isThere_11 rfl (by omega) (by omega) (fun h11 => ?_) (fun h11 => ?_)
      · refine la_iload_n K dX5_isThere_36 rfl ?_
        exact hret _ _ _ () hz.1 dX5_isThere_37 (by rw [show k = L by omega] at hz; rw [lp_HQ_end hz])
      · refine la_iload_n K dX5_isThere_14 rfl ?_
        refine la_aload_n K dX5_isThere_15 rfl ?_
        refine la_iload K dX5_isThere_16 rfl ?_
        refine lm_ld_aa K (by omega) dX5_isThere_18 ?_
        refine la_iload_n K dX5_isThere_19 rfl ?_
        refine la_icmp_neN K 27 dX5_isThere_20 rfl (by have := hw k (by omega); omega) (by omega) (fun h20 => ?_) (fun h20 => ?_)
        · refine la_iconst K dX5_isThere_27 la_ki_0 ?_
          refine la_ior K dX5_isThere_28 ?_
          refine la_top (lp_or hz.1 (by omega)) ?_
          refine la_istore3 K dX5_isThere_29 rfl ?_
          refine la_iinc4 K dX5_isThere_30 (la_inc_N _) rfl ?_
          refine la_goto K 5 dX5_isThere_33 rfl ?_
          exact ih (k + 1) _ (by omega) (by omega) (lp_HQ_step hz (by omega) (by omega) rfl)
        · refine la_iconst K dX5_isThere_23 la_ki_1 ?_
          refine la_goto K 28 dX5_isThere_24 rfl ?_
          refine la_ior K dX5_isThere_28 ?_
          refine la_top (lp_or hz.1 (by omega)) ?_
          refine la_istore3 K dX5_isThere_29 rfl ?_
          refine la_iinc4 K dX5_isThere_30 (la_inc_N _) rfl ?_
          refine la_goto K 5 dX5_isThere_33 rfl ?_
          exact ih (k + 1) _ (by omega) (by omega) (lp_HQ_step hz (by omega) (by omega) rfl)
  refine la_iconst K dX5_isThere_0 la_ki_0 ?_
  refine la_istore3 K dX5_isThere_1 rfl ?_
  refine la_iconst K dX5_isThere_2 la_ki_0 ?_
  refine la_istore4 K dX5_isThere_3 rfl ?_
  exact lp (L + 1) 0 0 (by omega) (by omega) lp_HQ_0
set_option maxHeartbeats 4000000 in
theorem lm_nearestW {p : Nat} (hP : P ≤ 6) (hL1 : 1 ≤ L) (hL3 : L ≤ 3) (hp : p < P) (hfa : ∀ i, i < 36 → fa i ≤ 100000000) (hw : ∀ k, k < L → wh k < P) : la_CI ω yX5_nearest cX5_nearest 5 (some .int) (la_rm 0) [.ref (ad 0), .ref (ad 21), .int (nI p)] (lm_W ω.2.2 ad ((th, S, T, P, R, L, B, Kd, lt, C), (ra, rb, rl, fa), (aa, su), (cp, cl, cf, ck, cm, ct), (le, tr, re), (bh, so, br, rs, ce), (wh, wy))) (lm_W ω.2.2 ad) (fun (r : Int32) (u : lm_S) => r = nI (lp_ag (fun k => fa (6 * wh k + p)) L) ∧ u = ((th, S, T + lN 1, P, R, L, B, Kd, lt, C), (ra, rb, rl, fa), (aa, su), (cp, cl, cf, ck, cm, ct), (le, tr, re), (bh, so, br, rs, ce), (wh, wy))) := by
  refine la_CI_of (by decide) [some (.ref (ad 0)), some (.ref (ad 21)), some (.int (nI (p))), none, none] rfl rfl (Nat.le_of_ble_eq_true rfl) ?_
  intro κ K hret
  have lp : ∀ (j k : Nat) (l : Nat), k ≤ L → L < k + j → 0 < k → l < k → l = lp_ag (fun k => fa (6 * wh k + p)) k → la_At ω κ (0, 0) 15 [some (.ref (ad 0)), some (.ref (ad 21)), some (.int (nI (p))), some (.int (nI (l))), some (.int (nI (k)))] [] (lm_W ω.2.2 ad ((th, S, T + lN 1, P, R, L, B, Kd, lt, C), (ra, rb, rl, fa), (aa, su), (cp, cl, cf, ck, cm, ct), (le, tr, re), (bh, so, br, rs, ce), (wh, wy))) := by
    intro j
    induction j with
    | zero => intro k l h1 h2; omega
    | succ j ih =>
      intro k l h1 h2 hk hlk hl
      refine la_iload K dX5_nearest_15 rfl ?_
      refine la_aload_n K dX5_nearest_17 rfl ?_
      refine lm_g_L K q836 dX5_nearest_18 ?_
      refine la_icmp_geN K 67 dX5_nearest_21 rfl (by omega) (by omega) (fun h21 => ?_) (fun h21 => ?_)
      · refine la_iload_n K dX5_nearest_67 rfl ?_
        exact hret _ _ _ _ dX5_nearest_68 ⟨by rw [hl, show k = L by omega], rfl⟩
      · refine la_aload_n K dX5_nearest_24 rfl ?_
        refine lm_g_fa K q835 dX5_nearest_25 ?_
        refine la_bipush K dX5_nearest_28 la_kb_6 ?_
        refine la_aload_n K dX5_nearest_30 rfl ?_
        refine la_iload K dX5_nearest_31 rfl ?_
        refine lm_ld_wh K (by omega) dX5_nearest_33 ?_
        refine la_imulN K dX5_nearest_34 ?_
        refine la_iload_n K dX5_nearest_35 rfl ?_
        refine la_iaddN K dX5_nearest_36 ?_
        refine lm_ld_fa K (by have := hw k (by omega); omega) dX5_nearest_37 ?_
        refine la_aload_n K dX5_nearest_38 rfl ?_
        refine lm_g_fa K q835 dX5_nearest_39 ?_
        refine la_bipush K dX5_nearest_42 la_kb_6 ?_
        refine la_aload_n K dX5_nearest_44 rfl ?_
        refine la_iload_n K dX5_nearest_45 rfl ?_
        refine lm_ld_wh K (by omega) dX5_nearest_46 ?_
        refine la_imulN K dX5_nearest_47 ?_
        refine la_iload_n K dX5_nearest_48 rfl ?_
        refine la_iaddN K dX5_nearest_49 ?_
        refine lm_ld_fa K (by have := hw l (by omega); omega) dX5_nearest_50 ?_
        refine la_icmp_geN K 59 dX5_nearest_51 rfl (by have := hfa (6 * wh k + p) (by have := hw k (by omega); omega); omega) (by have := hfa (6 * wh l + p) (by have := hw l (by omega); omega); omega) (fun h51 => ?_) (fun h51 => ?_)
        · refine la_iload_n K dX5_nearest_59 rfl ?_
          refine la_istore3 K dX5_nearest_60 rfl ?_
          refine la_iinc4 K dX5_nearest_61 (la_inc_N _) rfl ?_
          refine la_goto K 15 dX5_nearest_64 rfl ?_
          exact ih (k + 1) _ (by omega) (by omega) (by omega) (by omega) (by rw [← lp_ag_step hl]; exact (if_neg (by omega)).symm)
        · refine la_iload K dX5_nearest_54 rfl ?_
          refine la_goto K 60 dX5_nearest_56 rfl ?_
          refine la_istore3 K dX5_nearest_60 rfl ?_
          refine la_iinc4 K dX5_nearest_61 (la_inc_N _) rfl ?_
          refine la_goto K 15 dX5_nearest_64 rfl ?_
          exact ih (k + 1) _ (by omega) (by omega) (by omega) (by omega) (by rw [← lp_ag_step hl]; exact (if_pos h51).symm)
  refine la_aload_n K dX5_nearest_0 rfl ?_
  refine la_dup K dX5_nearest_1 rfl ?_
  refine lm_g_T K q829 dX5_nearest_2 ?_
  refine la_lconst K dX5_nearest_5 la_kn_1 ?_
  refine la_ladd K dX5_nearest_6 ?_
  refine lm_p_T K q829 dX5_nearest_7 ?_
  refine la_iconst K dX5_nearest_10 la_ki_0 ?_
  refine la_istore3 K dX5_nearest_11 rfl ?_
  refine la_iconst K dX5_nearest_12 la_ki_1 ?_
  refine la_istore4 K dX5_nearest_13 rfl ?_
  exact lp (L + 1) 1 0 (by omega) (by omega) (by omega) (by omega) (lp_ag_1 _).symm
theorem lm_isThereW {p : Nat} (hP : P ≤ 6) (hL3 : L ≤ 3) (hp : p < P) (hw : ∀ k, k < L → wh k < P) : la_CP ω yX5_isThere cX5_isThere 5 (some .boolean) (la_rm 0) [.ref (ad 0), .ref (ad 21), .int (nI p)] (lm_W ω.2.2 ad ((th, S, T, P, R, L, B, Kd, lt, C), (ra, rb, rl, fa), (aa, su), (cp, cl, cf, ck, cm, ct), (le, tr, re), (bh, so, br, rs, ce), (wh, wy))) (nI (lp_b (lp_there L wh p))) := by
  refine la_CZ_of (by decide) [some (.ref (ad 0)), some (.ref (ad 21)), some (.int (nI (p))), none, none] rfl rfl (Nat.le_of_ble_eq_true rfl) ?_
  intro κ K hret
  have lp : ∀ (j k : Nat) (z : Nat), k ≤ L → L < k + j → lp_HQ wh p k z → la_At ω κ (0, 0) 5 [some (.ref (ad 0)), some (.ref (ad 21)), some (.int (nI (p))), some (.int (nI (z))), some (.int (nI (k)))] [] (lm_W ω.2.2 ad ((th, S, T, P, R, L, B, Kd, lt, C), (ra, rb, rl, fa), (aa, su), (cp, cl, cf, ck, cm, ct), (le, tr, re), (bh, so, br, rs, ce), (wh, wy))) := by
    intro j
    induction j with
    | zero => intro k z h1 h2; omega
    | succ j ih =>
      intro k z h1 h2 hz
      refine la_iload K dX5_isThere_5 rfl ?_
      refine la_aload_n K dX5_isThere_7 rfl ?_
      refine lm_g_L K q836 dX5_isThere_8 ?_
      refine la_icmp_geN K 36 dX5_isThere_11 rfl (by omega) (by omega) (fun h11 => ?_) (fun h11 => ?_)
      · refine la_iload_n K dX5_isThere_36 rfl ?_
        exact hret _ _ _ () hz.1 dX5_isThere_37 (by rw [show k = L by omega] at hz; rw [lp_HQ_end hz])
      · refine la_iload_n K dX5_isThere_14 rfl ?_
        refine la_aload_n K dX5_isThere_15 rfl ?_
        refine la_iload K dX5_isThere_16 rfl ?_
        refine lm_ld_wh K (by omega) dX5_isThere_18 ?_
        refine la_iload_n K dX5_isThere_19 rfl ?_
        refine la_icmp_neN K 27 dX5_isThere_20 rfl (by have := hw k (by omega); omega) (by omega) (fun h20 => ?_) (fun h20 => ?_)
        · refine la_iconst K dX5_isThere_27 la_ki_0 ?_
          refine la_ior K dX5_isThere_28 ?_
          refine la_top (lp_or hz.1 (by omega)) ?_
          refine la_istore3 K dX5_isThere_29 rfl ?_
          refine la_iinc4 K dX5_isThere_30 (la_inc_N _) rfl ?_
          refine la_goto K 5 dX5_isThere_33 rfl ?_
          exact ih (k + 1) _ (by omega) (by omega) (lp_HQ_step hz (by omega) (by omega) rfl)
        · refine la_iconst K dX5_isThere_23 la_ki_1 ?_
          refine la_goto K 28 dX5_isThere_24 rfl ?_
          refine la_ior K dX5_isThere_28 ?_
          refine la_top (lp_or hz.1 (by omega)) ?_
          refine la_istore3 K dX5_isThere_29 rfl ?_
          refine la_iinc4 K dX5_isThere_30 (la_inc_N _) rfl ?_
          refine la_goto K 5 dX5_isThere_33 rfl ?_
          exact ih (k + 1) _ (by omega) (by omega) (lp_HQ_step hz (by omega) (by omega) rfl)
  refine la_iconst K dX5_isThere_0 la_ki_0 ?_
  refine la_istore3 K dX5_isThere_1 rfl ?_
  refine la_iconst K dX5_isThere_2 la_ki_0 ?_
  refine la_istore4 K dX5_isThere_3 rfl ?_
  exact lp (L + 1) 0 0 (by omega) (by omega) lp_HQ_0
set_option maxHeartbeats 4000000 in
theorem lm_evenOfA {p : Nat} (hP : P ≤ 6) (hL1 : 1 ≤ L) (hL3 : L ≤ 3) (hp : p < P) (hfa : ∀ i, i < 36 → fa i ≤ 100000000) (hw : ∀ k, k < L → aa k < P) (hsu : ∀ k, k < L → su k ≤ 100000000) : la_CI ω yX5_evenOf cX5_evenOf 6 (some .int) (la_rm 1) [.ref (ad 0), .ref (ad 5), .ref (ad 6), .int (nI p)] (lm_W ω.2.2 ad ((th, S, T, P, R, L, B, Kd, lt, C), (ra, rb, rl, fa), (aa, su), (cp, cl, cf, ck, cm, ct), (le, tr, re), (bh, so, br, rs, ce), (wh, wy))) (lm_W ω.2.2 ad) (fun (r : Int32) (u : lm_S) => (lp_there L aa p → r = nI (lp_ag (fun k => fa (6 * aa k + p)) L) ∧ u = ((th, S, T + lN 10 + lN 1, P, R, L, B, Kd, lt, C), (ra, rb, rl, fa), (aa, su), (cp, cl, cf, ck, cm, ct), (le, tr, re), (bh, so, br, rs, ce), (wh, wy))) ∧ (¬ lp_there L aa p → r = nI (lp_ag (fun k => su k + fa (6 * aa k + p)) L) ∧ u = ((th, S, T + lN 10, P, R, L, B, Kd, lt, C), (ra, rb, rl, fa), (aa, su), (cp, cl, cf, ck, cm, ct), (le, tr, re), (bh, so, br, rs, ce), (wh, wy)))) := by
  refine la_CI_of (by decide) [some (.ref (ad 0)), some (.ref (ad 5)), some (.ref (ad 6)), some (.int (nI (p))), none, none] rfl rfl (Nat.le_of_ble_eq_true rfl) ?_
  intro κ K hret
  have lp : ¬ lp_there L aa p → ∀ (j k : Nat) (l : Nat), k ≤ L → L < k + j → 0 < k → l < k → l = lp_ag (fun k => su k + fa (6 * aa k + p)) k → la_At ω κ (0, 0) 34 [some (.ref (ad 0)), some (.ref (ad 5)), some (.ref (ad 6)), some (.int (nI (p))), some (.int (nI (l))), some (.int (nI (k)))] [] (lm_W ω.2.2 ad ((th, S, T + lN 10, P, R, L, B, Kd, lt, C), (ra, rb, rl, fa), (aa, su), (cp, cl, cf, ck, cm, ct), (le, tr, re), (bh, so, br, rs, ce), (wh, wy))) := by
    intro h18 j
    induction j with
    | zero => intro k l h1 h2; omega
    | succ j ih =>
      intro k l h1 h2 hk hlk hl
      refine la_iload K dX5_evenOf_34 rfl ?_
      refine la_aload_n K dX5_evenOf_36 rfl ?_
      refine lm_g_L K q836 dX5_evenOf_37 ?_
      refine la_icmp_geN K 99 dX5_evenOf_40 rfl (by omega) (by omega) (fun h40 => ?_) (fun h40 => ?_)
      · refine la_iload K dX5_evenOf_99 rfl ?_
        exact hret _ _ _ _ dX5_evenOf_101 ⟨fun z => absurd z h18, fun _ => ⟨by rw [hl, show k = L by omega], rfl⟩⟩
      · refine la_aload_n K dX5_evenOf_43 rfl ?_
        refine la_iload K dX5_evenOf_44 rfl ?_
        refine lm_ld_su K (by omega) dX5_evenOf_46 ?_
        refine la_aload_n K dX5_evenOf_47 rfl ?_
        refine lm_g_fa K q835 dX5_evenOf_48 ?_
        refine la_bipush K dX5_evenOf_51 la_kb_6 ?_
        refine la_aload_n K dX5_evenOf_53 rfl ?_
        refine la_iload K dX5_evenOf_54 rfl ?_
        refine lm_ld_aa K (by omega) dX5_evenOf_56 ?_
        refine la_imulN K dX5_evenOf_57 ?_
        refine la_iload_n K dX5_evenOf_58 rfl ?_
        refine la_iaddN K dX5_evenOf_59 ?_
        refine lm_ld_fa K (by have := hw k (by omega); omega) dX5_evenOf_60 ?_
        refine la_iaddN K dX5_evenOf_61 ?_
        refine la_aload_n K dX5_evenOf_62 rfl ?_
        refine la_iload K dX5_evenOf_63 rfl ?_
        refine lm_ld_su K (by omega) dX5_evenOf_65 ?_
        refine la_aload_n K dX5_evenOf_66 rfl ?_
        refine lm_g_fa K q835 dX5_evenOf_67 ?_
        refine la_bipush K dX5_evenOf_70 la_kb_6 ?_
        refine la_aload_n K dX5_evenOf_72 rfl ?_
        refine la_iload K dX5_evenOf_73 rfl ?_
        refine lm_ld_aa K (by omega) dX5_evenOf_75 ?_
        refine la_imulN K dX5_evenOf_76 ?_
        refine la_iload_n K dX5_evenOf_77 rfl ?_
        refine la_iaddN K dX5_evenOf_78 ?_
        refine lm_ld_fa K (by have := hw l (by omega); omega) dX5_evenOf_79 ?_
        refine la_iaddN K dX5_evenOf_80 ?_
        refine la_icmp_geN K 89 dX5_evenOf_81 rfl (by have := hfa (6 * aa k + p) (by have := hw k (by omega); omega); have := hsu k (by omega); omega) (by have := hfa (6 * aa l + p) (by have := hw l (by omega); omega); have := hsu l (by omega); omega) (fun h81 => ?_) (fun h81 => ?_)
        · refine la_iload K dX5_evenOf_89 rfl ?_
          refine la_istore4 K dX5_evenOf_91 rfl ?_
          refine la_iinc5 K dX5_evenOf_93 (la_inc_N _) rfl ?_
          refine la_goto K 34 dX5_evenOf_96 rfl ?_
          exact ih (k + 1) _ (by omega) (by omega) (by omega) (by omega) (by rw [← lp_ag_step hl]; exact (if_neg (by omega)).symm)
        · refine la_iload K dX5_evenOf_84 rfl ?_
          refine la_goto K 91 dX5_evenOf_86 rfl ?_
          refine la_istore4 K dX5_evenOf_91 rfl ?_
          refine la_iinc5 K dX5_evenOf_93 (la_inc_N _) rfl ?_
          refine la_goto K 34 dX5_evenOf_96 rfl ?_
          exact ih (k + 1) _ (by omega) (by omega) (by omega) (by omega) (by rw [← lp_ag_step hl]; exact (if_pos h81).symm)
  refine la_aload_n K dX5_evenOf_0 rfl ?_
  refine la_dup K dX5_evenOf_1 rfl ?_
  refine lm_g_T K q829 dX5_evenOf_2 ?_
  refine la_ldc2 K q1007 la_kL_10 dX5_evenOf_5 ?_
  refine la_ladd K dX5_evenOf_8 ?_
  refine lm_p_T K q829 dX5_evenOf_9 ?_
  refine la_aload_n K dX5_evenOf_12 rfl ?_
  refine la_aload_n K dX5_evenOf_13 rfl ?_
  refine la_iload_n K dX5_evenOf_14 rfl ?_
  refine la_callVp K ok_X5_isThere q995 (lm_isThereA hP hL3 hp hw) 0 rfl rfl rfl rfl rfl (Nat.le_of_ble_eq_true rfl) ⟨Nat.le_of_ble_eq_true rfl, Nat.le_of_ble_eq_true rfl⟩ ⟨Nat.zero_le _, Nat.zero_le _⟩ dX5_evenOf_15 ?_
  refine la_if_eqB K 28 dX5_evenOf_18 rfl (fun h18 => ?_) (fun h18 => ?_)
  · refine la_iconst K dX5_evenOf_28 la_ki_0 ?_
    refine la_istore4 K dX5_evenOf_29 rfl ?_
    refine la_iconst K dX5_evenOf_31 la_ki_1 ?_
    refine la_istore5 K dX5_evenOf_32 rfl ?_
    exact lp h18 (L + 1) 1 0 (by omega) (by omega) (by omega) (by omega) (lp_ag_1 _).symm
  · refine la_aload_n K dX5_evenOf_21 rfl ?_
    refine la_aload_n K dX5_evenOf_22 rfl ?_
    refine la_iload_n K dX5_evenOf_23 rfl ?_
    refine la_callVi0 K ok_X5_nearest q999 (lm_nearestA hP hL1 hL3 hp hfa hw) 0 rfl rfl rfl rfl rfl (Nat.le_of_ble_eq_true rfl) ⟨Nat.le_of_ble_eq_true rfl, Nat.le_of_ble_eq_true rfl⟩ ⟨Nat.zero_le _, Nat.zero_le _⟩ dX5_evenOf_24 (fun r24 u24 p24 => ?_)
    obtain ⟨rfl, rfl⟩ := p24
    exact hret _ _ _ _ dX5_evenOf_27 ⟨fun _ => ⟨rfl, rfl⟩, fun z => absurd h18 z⟩
set_option maxHeartbeats 4000000 in
theorem lm_evenOfW {p : Nat} (hP : P ≤ 6) (hL1 : 1 ≤ L) (hL3 : L ≤ 3) (hp : p < P) (hfa : ∀ i, i < 36 → fa i ≤ 100000000) (hw : ∀ k, k < L → wh k < P) (hsu : ∀ k, k < L → wy k ≤ 100000000) : la_CI ω yX5_evenOf cX5_evenOf 6 (some .int) (la_rm 1) [.ref (ad 0), .ref (ad 21), .ref (ad 22), .int (nI p)] (lm_W ω.2.2 ad ((th, S, T, P, R, L, B, Kd, lt, C), (ra, rb, rl, fa), (aa, su), (cp, cl, cf, ck, cm, ct), (le, tr, re), (bh, so, br, rs, ce), (wh, wy))) (lm_W ω.2.2 ad) (fun (r : Int32) (u : lm_S) => (lp_there L wh p → r = nI (lp_ag (fun k => fa (6 * wh k + p)) L) ∧ u = ((th, S, T + lN 10 + lN 1, P, R, L, B, Kd, lt, C), (ra, rb, rl, fa), (aa, su), (cp, cl, cf, ck, cm, ct), (le, tr, re), (bh, so, br, rs, ce), (wh, wy))) ∧ (¬ lp_there L wh p → r = nI (lp_ag (fun k => wy k + fa (6 * wh k + p)) L) ∧ u = ((th, S, T + lN 10, P, R, L, B, Kd, lt, C), (ra, rb, rl, fa), (aa, su), (cp, cl, cf, ck, cm, ct), (le, tr, re), (bh, so, br, rs, ce), (wh, wy)))) := by
  refine la_CI_of (by decide) [some (.ref (ad 0)), some (.ref (ad 21)), some (.ref (ad 22)), some (.int (nI (p))), none, none] rfl rfl (Nat.le_of_ble_eq_true rfl) ?_
  intro κ K hret
  have lp : ¬ lp_there L wh p → ∀ (j k : Nat) (l : Nat), k ≤ L → L < k + j → 0 < k → l < k → l = lp_ag (fun k => wy k + fa (6 * wh k + p)) k → la_At ω κ (0, 0) 34 [some (.ref (ad 0)), some (.ref (ad 21)), some (.ref (ad 22)), some (.int (nI (p))), some (.int (nI (l))), some (.int (nI (k)))] [] (lm_W ω.2.2 ad ((th, S, T + lN 10, P, R, L, B, Kd, lt, C), (ra, rb, rl, fa), (aa, su), (cp, cl, cf, ck, cm, ct), (le, tr, re), (bh, so, br, rs, ce), (wh, wy))) := by
    intro h18 j
    induction j with
    | zero => intro k l h1 h2; omega
    | succ j ih =>
      intro k l h1 h2 hk hlk hl
      refine la_iload K dX5_evenOf_34 rfl ?_
      refine la_aload_n K dX5_evenOf_36 rfl ?_
      refine lm_g_L K q836 dX5_evenOf_37 ?_
      refine la_icmp_geN K 99 dX5_evenOf_40 rfl (by omega) (by omega) (fun h40 => ?_) (fun h40 => ?_)
      · refine la_iload K dX5_evenOf_99 rfl ?_
        exact hret _ _ _ _ dX5_evenOf_101 ⟨fun z => absurd z h18, fun _ => ⟨by rw [hl, show k = L by omega], rfl⟩⟩
      · refine la_aload_n K dX5_evenOf_43 rfl ?_
        refine la_iload K dX5_evenOf_44 rfl ?_
        refine lm_ld_wy K (by omega) dX5_evenOf_46 ?_
        refine la_aload_n K dX5_evenOf_47 rfl ?_
        refine lm_g_fa K q835 dX5_evenOf_48 ?_
        refine la_bipush K dX5_evenOf_51 la_kb_6 ?_
        refine la_aload_n K dX5_evenOf_53 rfl ?_
        refine la_iload K dX5_evenOf_54 rfl ?_
        refine lm_ld_wh K (by omega) dX5_evenOf_56 ?_
        refine la_imulN K dX5_evenOf_57 ?_
        refine la_iload_n K dX5_evenOf_58 rfl ?_
        refine la_iaddN K dX5_evenOf_59 ?_
        refine lm_ld_fa K (by have := hw k (by omega); omega) dX5_evenOf_60 ?_
        refine la_iaddN K dX5_evenOf_61 ?_
        refine la_aload_n K dX5_evenOf_62 rfl ?_
        refine la_iload K dX5_evenOf_63 rfl ?_
        refine lm_ld_wy K (by omega) dX5_evenOf_65 ?_
        refine la_aload_n K dX5_evenOf_66 rfl ?_
        refine lm_g_fa K q835 dX5_evenOf_67 ?_
        refine la_bipush K dX5_evenOf_70 la_kb_6 ?_
        refine la_aload_n K dX5_evenOf_72 rfl ?_
        refine la_iload K dX5_evenOf_73 rfl ?_
        refine lm_ld_wh K (by omega) dX5_evenOf_75 ?_
        refine la_imulN K dX5_evenOf_76 ?_
        refine la_iload_n K dX5_evenOf_77 rfl ?_
        refine la_iaddN K dX5_evenOf_78 ?_
        refine lm_ld_fa K (by have := hw l (by omega); omega) dX5_evenOf_79 ?_
        refine la_iaddN K dX5_evenOf_80 ?_
        refine la_icmp_geN K 89 dX5_evenOf_81 rfl (by have := hfa (6 * wh k + p) (by have := hw k (by omega); omega); have := hsu k (by omega); omega) (by have := hfa (6 * wh l + p) (by have := hw l (by omega); omega); have := hsu l (by omega); omega) (fun h81 => ?_) (fun h81 => ?_)
        · refine la_iload K dX5_evenOf_89 rfl ?_
          refine la_istore4 K dX5_evenOf_91 rfl ?_
          refine la_iinc5 K dX5_evenOf_93 (la_inc_N _) rfl ?_
          refine la_goto K 34 dX5_evenOf_96 rfl ?_
          exact ih (k + 1) _ (by omega) (by omega) (by omega) (by omega) (by rw [← lp_ag_step hl]; exact (if_neg (by omega)).symm)
        · refine la_iload K dX5_evenOf_84 rfl ?_
          refine la_goto K 91 dX5_evenOf_86 rfl ?_
          refine la_istore4 K dX5_evenOf_91 rfl ?_
          refine la_iinc5 K dX5_evenOf_93 (la_inc_N _) rfl ?_
          refine la_goto K 34 dX5_evenOf_96 rfl ?_
          exact ih (k + 1) _ (by omega) (by omega) (by omega) (by omega) (by rw [← lp_ag_step hl]; exact (if_pos h81).symm)
  refine la_aload_n K dX5_evenOf_0 rfl ?_
  refine la_dup K dX5_evenOf_1 rfl ?_
  refine lm_g_T K q829 dX5_evenOf_2 ?_
  refine la_ldc2 K q1007 la_kL_10 dX5_evenOf_5 ?_
  refine la_ladd K dX5_evenOf_8 ?_
  refine lm_p_T K q829 dX5_evenOf_9 ?_
  refine la_aload_n K dX5_evenOf_12 rfl ?_
  refine la_aload_n K dX5_evenOf_13 rfl ?_
  refine la_iload_n K dX5_evenOf_14 rfl ?_
  refine la_callVp K ok_X5_isThere q995 (lm_isThereW hP hL3 hp hw) 0 rfl rfl rfl rfl rfl (Nat.le_of_ble_eq_true rfl) ⟨Nat.le_of_ble_eq_true rfl, Nat.le_of_ble_eq_true rfl⟩ ⟨Nat.zero_le _, Nat.zero_le _⟩ dX5_evenOf_15 ?_
  refine la_if_eqB K 28 dX5_evenOf_18 rfl (fun h18 => ?_) (fun h18 => ?_)
  · refine la_iconst K dX5_evenOf_28 la_ki_0 ?_
    refine la_istore4 K dX5_evenOf_29 rfl ?_
    refine la_iconst K dX5_evenOf_31 la_ki_1 ?_
    refine la_istore5 K dX5_evenOf_32 rfl ?_
    exact lp h18 (L + 1) 1 0 (by omega) (by omega) (by omega) (by omega) (lp_ag_1 _).symm
  · refine la_aload_n K dX5_evenOf_21 rfl ?_
    refine la_aload_n K dX5_evenOf_22 rfl ?_
    refine la_iload_n K dX5_evenOf_23 rfl ?_
    refine la_callVi0 K ok_X5_nearest q999 (lm_nearestW hP hL1 hL3 hp hfa hw) 0 rfl rfl rfl rfl rfl (Nat.le_of_ble_eq_true rfl) ⟨Nat.le_of_ble_eq_true rfl, Nat.le_of_ble_eq_true rfl⟩ ⟨Nat.zero_le _, Nat.zero_le _⟩ dX5_evenOf_24 (fun r24 u24 p24 => ?_)
    obtain ⟨rfl, rfl⟩ := p24
    exact hret _ _ _ _ dX5_evenOf_27 ⟨fun _ => ⟨rfl, rfl⟩, fun z => absurd h18 z⟩
set_option maxHeartbeats 4000000 in
theorem lm_chosenAL {p x q tt : Nat} {tn : Int32} (hP : P ≤ 6) (hL1 : 1 ≤ L) (hL3 : L ≤ 3) (hp : p < P) (hfa : ∀ i, i < 36 → fa i ≤ 100000000) (hw : ∀ k, k < L → aa k < P) (hsu : ∀ k, k < L → su k ≤ 100000000) (hKd : Kd ≤ 3) (htt : tn + nI 1 = nI tt) (htt2 : tt < 2 ^ 31) (hq : q + 1024 ≤ 6656) (hf : ∀ i, le i ≤ 100000000) (hst : ∀ s, s < 512 → le (q + s) < 100000000 → lp_sd P L s) (hx : lp_sd P L x) (hwx : ∀ k, k < L → aa k = lp_dg x k) (hah : Kd = 3 → ¬ (lp_there L aa p) → ¬ L = 1 → (lp_ahf L fa p (fun s => le (q + s)) x aa) 0 < 100000000) : la_CI ω yX5_chosen cX5_chosen 13 (some .int) (la_rm 3) [.ref (ad 0), .ref (ad 5), .ref (ad 6), .int tn, .ref (ad 13), .int (nI q), .int (nI p)] (lm_W ω.2.2 ad ((th, S, T, P, R, L, B, Kd, lt, C), (ra, rb, rl, fa), (aa, su), (cp, cl, cf, ck, cm, ct), (le, tr, re), (bh, so, br, rs, ce), (wh, wy))) (lm_W ω.2.2 ad) (fun (r : Int32) (u : lm_S) => r = nI (lp_chl Kd L (lp_there L aa p) (lp_ag (fun k => fa (6 * aa k + p)) L) (lp_ag (fun k => su k + fa (6 * aa k + p)) L) (tt % L) (lp_ag (lp_ahf L fa p (fun s => le (q + s)) x aa) L)) ∧ ∃ f T', T' = lp_trc Kd L (lp_there L aa p) T ∧ u = ((th, S, T', P, R, L, B, Kd, lt, C), (ra, rb, rl, fa), (aa, su), (cp, cl, cf, ck, cm, ct), (f, tr, re), (bh, so, br, rs, ce), (wh, wy)) ∧ (∀ i, (i < q + 512 ∨ q + 1024 ≤ i) → f i = le i) ∧ (∀ i, f i ≤ 100000000)) := by
  refine la_CI_of (by decide) [some (.ref (ad 0)), some (.ref (ad 5)), some (.ref (ad 6)), some (.int (tn)), some (.ref (ad 13)), some (.int (nI (q))), some (.int (nI (p))), none, none, none, none, none, none] rfl rfl (Nat.le_of_ble_eq_true rfl) ?_
  intro κ K hret
  refine la_aload_n K dX5_chosen_0 rfl ?_
  refine la_aload_n K dX5_chosen_1 rfl ?_
  refine la_iload K dX5_chosen_2 rfl ?_
  refine la_callVp K ok_X5_isThere q995 (lm_isThereA hP hL3 hp hw) 0 rfl rfl rfl rfl rfl (Nat.le_of_ble_eq_true rfl) ⟨Nat.le_of_ble_eq_true rfl, Nat.le_of_ble_eq_true rfl⟩ ⟨Nat.zero_le _, Nat.zero_le _⟩ dX5_chosen_4 ?_
  refine la_istore7 K dX5_chosen_7 rfl ?_
  refine la_aload_n K dX5_chosen_9 rfl ?_
  refine lm_g_Kd K q838 dX5_chosen_10 ?_
  refine la_if_neN K 24 dX5_chosen_13 rfl (by omega) (fun h13 => ?_) (fun h13 => ?_)
  · refine la_aload_n K dX5_chosen_24 rfl ?_
    refine lm_g_Kd K q838 dX5_chosen_25 ?_
    refine la_iconst K dX5_chosen_28 la_ki_1 ?_
    refine la_icmp_neN K 41 dX5_chosen_29 rfl (by omega) (by omega) (fun h29 => ?_) (fun h29 => ?_)
    · refine la_aload_n K dX5_chosen_41 rfl ?_
      refine lm_g_Kd K q838 dX5_chosen_42 ?_
      refine la_iconst K dX5_chosen_45 la_ki_2 ?_
      refine la_icmp_neN K 85 dX5_chosen_46 rfl (by omega) (by omega) (fun h46 => ?_) (fun h46 => ?_)
      · refine la_aload_n K dX5_chosen_85 rfl ?_
        refine la_dup K dX5_chosen_86 rfl ?_
        refine lm_g_T K q829 dX5_chosen_87 ?_
        refine la_ldc2 K q1008 la_kL_1000 dX5_chosen_90 ?_
        refine la_ladd K dX5_chosen_93 ?_
        refine lm_p_T K q829 dX5_chosen_94 ?_
        refine la_iload K dX5_chosen_97 rfl ?_
        refine la_if_eqB K 110 dX5_chosen_99 rfl (fun h99 => ?_) (fun h99 => ?_)
        · refine la_aload_n K dX5_chosen_110 rfl ?_
          refine lm_g_L K q836 dX5_chosen_111 ?_
          refine la_iconst K dX5_chosen_114 la_ki_1 ?_
          refine la_icmp_neN K 127 dX5_chosen_115 rfl (by omega) (by omega) (fun h115 => ?_) (fun h115 => ?_)
          · refine la_aload_n K dX5_chosen_127 rfl ?_
            refine la_aload K dX5_chosen_128 rfl ?_
            refine la_iload K dX5_chosen_130 rfl ?_
            refine la_iload K dX5_chosen_132 rfl ?_
            refine la_callVv0 K ok_X5_serves q1009 (lm_servesL hP hL3 hp hfa hq hf hst) 0 rfl rfl rfl rfl rfl (Nat.le_of_ble_eq_true rfl) ⟨Nat.le_of_ble_eq_true rfl, Nat.le_of_ble_eq_true rfl⟩ ⟨Nat.zero_le _, Nat.zero_le _⟩ dX5_chosen_134 (fun u134 p134 => ?_)
            obtain ⟨f, rfl, hk1, hf1, hmn⟩ := p134
            have hg : ∀ t, t < 512 → f (q + 512 + t) = lp_sv L fa p (fun s => le (q + s)) t := fun t ht => lp_mn_min (hmn t ht)
            have hst1 : ∀ s, s < 512 → f (q + 512 + s) < 100000000 → lp_sd P L s := fun s h1 h2 => lp_sv_stand hL3 hP hp hst (by rw [← hg s h1]; exact h2)
            have hv : ∀ k, lp_min 100000000 (lp_WQ L fa (fun s => f (q + 512 + s)) (lp_mv x k p) 512) + fa (6 * aa k + p) = (lp_ahf L fa p (fun s => le (q + s)) x aa) k := fun k => congrArg (· + fa (6 * aa k + p)) (lp_wm_congr hg)
            have h00 := hah (by omega) h99 h115
            have lb : ∀ (j k : Nat) (l best : Nat) (x12 : Option Value), k ≤ L → L < k + j → best < 2 ^ 31 → ((k = 0 ∧ l = 0 ∧ best = 100000000) ∨ (0 < k ∧ l = lp_ag (lp_ahf L fa p (fun s => le (q + s)) x aa) k ∧ best = (lp_ahf L fa p (fun s => le (q + s)) x aa) l)) → la_At ω κ (0, 0) 182 [some (.ref (ad 0)), some (.ref (ad 5)), some (.ref (ad 6)), some (.int (tn)), some (.ref (ad 13)), some (.int (nI (q))), some (.int (nI (p))), some (.int (nI (lp_b (lp_there L aa p)))), some (.int (nI (x))), some (.int (nI (best))), some (.int (nI (l))), some (.int (nI (k))), x12] [] (lm_W ω.2.2 ad ((th, S, T + lN 1000, P, R, L, B, Kd, lt, C), (ra, rb, rl, fa), (aa, su), (cp, cl, cf, ck, cm, ct), (f, tr, re), (bh, so, br, rs, ce), (wh, wy))) := by
              intro j
              induction j with
              | zero => intro k l best x12 h1 h2; omega
              | succ j ih =>
                intro k l best x12 h1 h2 hbb hI
                refine la_iload K dX5_chosen_182 rfl ?_
                refine la_aload_n K dX5_chosen_184 rfl ?_
                refine lm_g_L K q836 dX5_chosen_185 ?_
                refine la_icmp_geN K 251 dX5_chosen_188 rfl (by omega) (by omega) (fun h188 => ?_) (fun h188 => ?_)
                · refine la_iload K dX5_chosen_251 rfl ?_
                  have e9 : l = lp_ag (lp_ahf L fa p (fun s => le (q + s)) x aa) L := by
                    rcases hI with z | z
                    · omega
                    · rw [z.2.1, show k = L by omega]
                  exact hret _ _ _ _ dX5_chosen_253 ⟨by unfold lp_chl; rw [if_neg (by omega), if_neg (by omega), if_neg (by omega), if_neg h99, if_neg h115]; rw [e9], f, _, by unfold lp_trc; rw [if_neg (by omega), if_neg (by omega), if_neg (by omega), if_neg h99, if_neg h115], rfl, hk1, hf1⟩
                · refine la_aload_n K dX5_chosen_191 rfl ?_
                  refine la_aload K dX5_chosen_192 rfl ?_
                  refine la_iload K dX5_chosen_194 rfl ?_
                  refine la_sipush K dX5_chosen_196 la_ks_512 ?_
                  refine la_iaddN K dX5_chosen_199 ?_
                  refine la_iload K dX5_chosen_200 rfl ?_
                  refine la_iload K dX5_chosen_202 rfl ?_
                  refine la_iload K dX5_chosen_204 rfl ?_
                  refine la_callSp K ok_X5_moved q1013 (lm_moved (lp_sd_lt hx hL3) (by omega) (by omega) _) rfl rfl rfl (Nat.le_of_ble_eq_true rfl) ⟨Nat.le_of_ble_eq_true rfl, Nat.le_of_ble_eq_true rfl⟩ ⟨Nat.zero_le _, Nat.zero_le _⟩ dX5_chosen_206 ?_
                  refine la_callVp K ok_X5_workOf q1016 (lm_workOfL hP hL1 hL3 hfa (by omega) hf1 hst1 (lp_sd_mv hx hL3 (by omega) hp hP)) 0 rfl rfl rfl rfl rfl (Nat.le_of_ble_eq_true rfl) ⟨Nat.le_of_ble_eq_true rfl, Nat.le_of_ble_eq_true rfl⟩ ⟨Nat.zero_le _, Nat.zero_le _⟩ dX5_chosen_209 ?_
                  refine la_aload_n K dX5_chosen_212 rfl ?_
                  refine lm_g_fa K q835 dX5_chosen_213 ?_
                  refine la_bipush K dX5_chosen_216 la_kb_6 ?_
                  refine la_aload_n K dX5_chosen_218 rfl ?_
                  refine la_iload K dX5_chosen_219 rfl ?_
                  refine lm_ld_aa K (by omega) dX5_chosen_221 ?_
                  refine la_imulN K dX5_chosen_222 ?_
                  refine la_iload K dX5_chosen_223 rfl ?_
                  refine la_iaddN K dX5_chosen_225 ?_
                  refine lm_ld_fa K (by have := hw k (by omega); omega) dX5_chosen_226 ?_
                  refine la_iaddN K dX5_chosen_227 ?_
                  refine la_istore12 K dX5_chosen_228 rfl ?_
                  refine la_iload K dX5_chosen_230 rfl ?_
                  refine la_iload K dX5_chosen_232 rfl ?_
                  refine la_icmp_geN K 245 dX5_chosen_234 rfl (by have := lp_min_le 100000000 (lp_WQ L fa (fun s => f (q + 512 + s)) (lp_mv x k p) 512); have := hfa (6 * aa k + p) (by have := hw k (by omega); omega); omega) (by omega) (fun h234 => ?_) (fun h234 => ?_)
                  · refine la_iinc11 K dX5_chosen_245 (la_inc_N _) rfl ?_
                    refine la_goto K 182 dX5_chosen_248 rfl ?_
                    have e1 := lp_first hI h00
                    rw [if_neg (by rw [← hv k]; omega), if_neg (by rw [← hv k]; omega)] at e1
                    exact ih (k + 1) _ _ _ (by omega) (by omega) (by omega) (Or.inr ⟨by omega, e1.1, by rw [e1.2, ← e1.1]⟩)
                  · refine la_iload K dX5_chosen_237 rfl ?_
                    refine la_istore9 K dX5_chosen_239 rfl ?_
                    refine la_iload K dX5_chosen_241 rfl ?_
                    refine la_istore10 K dX5_chosen_243 rfl ?_
                    refine la_iinc11 K dX5_chosen_245 (la_inc_N _) rfl ?_
                    refine la_goto K 182 dX5_chosen_248 rfl ?_
                    have e1 := lp_first hI h00
                    rw [if_pos (by rw [← hv k]; omega), if_pos (by rw [← hv k]; omega)] at e1
                    exact ih (k + 1) _ _ _ (by omega) (by omega) (by have := lp_min_le 100000000 (lp_WQ L fa (fun s => f (q + 512 + s)) (lp_mv x k p) 512); have := hfa (6 * aa k + p) (by have := hw k (by omega); omega); omega) (Or.inr ⟨by omega, e1.1, by rw [hv k]⟩)
            have la : ∀ (j k : Nat) (s : Nat), k ≤ L → L < k + j → s = x % 2 ^ (3 * k) → la_At ω κ (0, 0) 143 [some (.ref (ad 0)), some (.ref (ad 5)), some (.ref (ad 6)), some (.int (tn)), some (.ref (ad 13)), some (.int (nI (q))), some (.int (nI (p))), some (.int (nI (lp_b (lp_there L aa p)))), some (.int (nI (s))), some (.int (nI (k))), none, none, none] [] (lm_W ω.2.2 ad ((th, S, T + lN 1000, P, R, L, B, Kd, lt, C), (ra, rb, rl, fa), (aa, su), (cp, cl, cf, ck, cm, ct), (f, tr, re), (bh, so, br, rs, ce), (wh, wy))) := by
              intro j
              induction j with
              | zero => intro k s h1 h2; omega
              | succ j ih =>
                intro k s h1 h2 hs
                subst hs
                refine la_iload K dX5_chosen_143 rfl ?_
                refine la_aload_n K dX5_chosen_145 rfl ?_
                refine lm_g_L K q836 dX5_chosen_146 ?_
                refine la_icmp_geN K 172 dX5_chosen_149 rfl (by omega) (by omega) (fun h149 => ?_) (fun h149 => ?_)
                · refine la_ldc K q953 la_kl_100000000 dX5_chosen_172 ?_
                  refine la_istore9 K dX5_chosen_174 rfl ?_
                  refine la_iconst K dX5_chosen_176 la_ki_0 ?_
                  refine la_istore10 K dX5_chosen_177 rfl ?_
                  refine la_iconst K dX5_chosen_179 la_ki_0 ?_
                  refine la_istore11 K dX5_chosen_180 rfl ?_
                  rw [show k = L by omega, Nat.mod_eq_of_lt hx.1]
                  exact lb (L + 1) 0 0 _ _ (by omega) (by omega) (by omega) (Or.inl ⟨rfl, rfl, rfl⟩)
                · refine la_iload K dX5_chosen_152 rfl ?_
                  refine la_aload_n K dX5_chosen_154 rfl ?_
                  refine la_iload K dX5_chosen_155 rfl ?_
                  refine lm_ld_aa K (by omega) dX5_chosen_157 ?_
                  refine la_iconst K dX5_chosen_158 la_ki_3 ?_
                  refine la_iload K dX5_chosen_159 rfl ?_
                  refine la_imulN K dX5_chosen_161 ?_
                  refine la_ishl K dX5_chosen_162 ?_
                  refine la_ior K dX5_chosen_163 ?_
                  rw [hwx k (by omega)]
                  refine la_top (lp_join (lp_sd_lt hx hL3) (by omega)) ?_
                  refine la_istore8 K dX5_chosen_164 rfl ?_
                  refine la_iinc9 K dX5_chosen_166 (la_inc_N _) rfl ?_
                  refine la_goto K 143 dX5_chosen_169 rfl ?_
                  exact ih (k + 1) _ (by omega) (by omega) rfl
            refine la_iconst K dX5_chosen_137 la_ki_0 ?_
            refine la_istore8 K dX5_chosen_138 rfl ?_
            refine la_iconst K dX5_chosen_140 la_ki_0 ?_
            refine la_istore9 K dX5_chosen_141 rfl ?_
            exact la (L + 1) 0 0 (by omega) (by omega) (by simp [Nat.mod_one])
          · refine la_aload_n K dX5_chosen_118 rfl ?_
            refine la_aload_n K dX5_chosen_119 rfl ?_
            refine la_aload_n K dX5_chosen_120 rfl ?_
            refine la_iload K dX5_chosen_121 rfl ?_
            refine la_callVi0 K ok_X5_evenOf q1003 (lm_evenOfA hP hL1 hL3 hp hfa hw hsu) 0 rfl rfl rfl rfl rfl (Nat.le_of_ble_eq_true rfl) ⟨Nat.le_of_ble_eq_true rfl, Nat.le_of_ble_eq_true rfl⟩ ⟨Nat.zero_le _, Nat.zero_le _⟩ dX5_chosen_123 (fun r123 u123 p123 => ?_)
            obtain ⟨rfl, rfl⟩ := p123.2 h99
            exact hret _ _ _ _ dX5_chosen_126 ⟨by unfold lp_chl; rw [if_neg h13, if_neg h29, if_neg h46, if_neg h99, if_pos h115], le, _, by unfold lp_trc; rw [if_neg h13, if_neg h29, if_neg h46, if_neg h99, if_pos h115], rfl, fun i _ => rfl, hf⟩
        · refine la_aload_n K dX5_chosen_102 rfl ?_
          refine la_aload_n K dX5_chosen_103 rfl ?_
          refine la_iload K dX5_chosen_104 rfl ?_
          refine la_callVi0 K ok_X5_nearest q999 (lm_nearestA hP hL1 hL3 hp hfa hw) 0 rfl rfl rfl rfl rfl (Nat.le_of_ble_eq_true rfl) ⟨Nat.le_of_ble_eq_true rfl, Nat.le_of_ble_eq_true rfl⟩ ⟨Nat.zero_le _, Nat.zero_le _⟩ dX5_chosen_106 (fun r106 u106 p106 => ?_)
          obtain ⟨rfl, rfl⟩ := p106
          exact hret _ _ _ _ dX5_chosen_109 ⟨by unfold lp_chl; rw [if_neg h13, if_neg h29, if_neg h46, if_pos h99], le, _, by unfold lp_trc; rw [if_neg h13, if_neg h29, if_neg h46, if_pos h99], rfl, fun i _ => rfl, hf⟩
      · refine la_aload_n K dX5_chosen_49 rfl ?_
        refine la_dup K dX5_chosen_50 rfl ?_
        refine lm_g_T K q829 dX5_chosen_51 ?_
        refine la_ldc2 K q940 la_kL_100 dX5_chosen_54 ?_
        refine la_ladd K dX5_chosen_57 ?_
        refine lm_p_T K q829 dX5_chosen_58 ?_
        refine la_iload K dX5_chosen_61 rfl ?_
        refine la_if_eqB K 76 dX5_chosen_63 rfl (fun h63 => ?_) (fun h63 => ?_)
        · refine la_iload_n K dX5_chosen_76 rfl ?_
          refine la_iconst K dX5_chosen_77 la_ki_1 ?_
          refine la_iadd K dX5_chosen_78 ?_
          refine la_top htt ?_
          refine la_aload_n K dX5_chosen_79 rfl ?_
          refine lm_g_L K q836 dX5_chosen_80 ?_
          refine la_iremN K dX5_chosen_83 (by omega) (by omega) (by omega) ?_
          exact hret _ _ _ _ dX5_chosen_84 ⟨by unfold lp_chl; rw [if_neg h13, if_neg h29, if_pos h46, if_neg h63], le, _, by unfold lp_trc; rw [if_neg h13, if_neg h29, if_pos h46, if_neg h63], rfl, fun i _ => rfl, hf⟩
        · refine la_aload_n K dX5_chosen_66 rfl ?_
          refine la_aload_n K dX5_chosen_67 rfl ?_
          refine la_iload K dX5_chosen_68 rfl ?_
          refine la_callVi0 K ok_X5_nearest q999 (lm_nearestA hP hL1 hL3 hp hfa hw) 0 rfl rfl rfl rfl rfl (Nat.le_of_ble_eq_true rfl) ⟨Nat.le_of_ble_eq_true rfl, Nat.le_of_ble_eq_true rfl⟩ ⟨Nat.zero_le _, Nat.zero_le _⟩ dX5_chosen_70 (fun r70 u70 p70 => ?_)
          obtain ⟨rfl, rfl⟩ := p70
          refine la_goto K 84 dX5_chosen_73 rfl ?_
          exact hret _ _ _ _ dX5_chosen_84 ⟨by unfold lp_chl; rw [if_neg h13, if_neg h29, if_pos h46, if_pos h63], le, _, by unfold lp_trc; rw [if_neg h13, if_neg h29, if_pos h46, if_pos h63], rfl, fun i _ => rfl, hf⟩
    · refine la_aload_n K dX5_chosen_32 rfl ?_
      refine la_aload_n K dX5_chosen_33 rfl ?_
      refine la_aload_n K dX5_chosen_34 rfl ?_
      refine la_iload K dX5_chosen_35 rfl ?_
      refine la_callVi0 K ok_X5_evenOf q1003 (lm_evenOfA hP hL1 hL3 hp hfa hw hsu) 0 rfl rfl rfl rfl rfl (Nat.le_of_ble_eq_true rfl) ⟨Nat.le_of_ble_eq_true rfl, Nat.le_of_ble_eq_true rfl⟩ ⟨Nat.zero_le _, Nat.zero_le _⟩ dX5_chosen_37 (fun r37 u37 p37 => ?_)
      by_cases hth : (lp_there L aa p)
      · obtain ⟨rfl, rfl⟩ := p37.1 hth
        exact hret _ _ _ _ dX5_chosen_40 ⟨by unfold lp_chl; rw [if_neg h13, if_pos h29, if_pos hth], le, _, by unfold lp_trc; rw [if_neg h13, if_pos h29, if_pos hth], rfl, fun i _ => rfl, hf⟩
      · obtain ⟨rfl, rfl⟩ := p37.2 hth
        exact hret _ _ _ _ dX5_chosen_40 ⟨by unfold lp_chl; rw [if_neg h13, if_pos h29, if_neg hth], le, _, by unfold lp_trc; rw [if_neg h13, if_pos h29, if_neg hth], rfl, fun i _ => rfl, hf⟩
  · refine la_aload_n K dX5_chosen_16 rfl ?_
    refine la_aload_n K dX5_chosen_17 rfl ?_
    refine la_iload K dX5_chosen_18 rfl ?_
    refine la_callVi0 K ok_X5_nearest q999 (lm_nearestA hP hL1 hL3 hp hfa hw) 0 rfl rfl rfl rfl rfl (Nat.le_of_ble_eq_true rfl) ⟨Nat.le_of_ble_eq_true rfl, Nat.le_of_ble_eq_true rfl⟩ ⟨Nat.zero_le _, Nat.zero_le _⟩ dX5_chosen_20 (fun r20 u20 p20 => ?_)
    obtain ⟨rfl, rfl⟩ := p20
    exact hret _ _ _ _ dX5_chosen_23 ⟨by unfold lp_chl; rw [if_pos h13], le, _, by unfold lp_trc; rw [if_pos h13], rfl, fun i _ => rfl, hf⟩
set_option maxHeartbeats 4000000 in
theorem lm_chosenAT {p x q tt : Nat} {tn : Int32} (hP : P ≤ 6) (hL1 : 1 ≤ L) (hL3 : L ≤ 3) (hp : p < P) (hfa : ∀ i, i < 36 → fa i ≤ 100000000) (hw : ∀ k, k < L → aa k < P) (hsu : ∀ k, k < L → su k ≤ 100000000) (hKd : Kd ≤ 3) (htt : tn + nI 1 = nI tt) (htt2 : tt < 2 ^ 31) (hq : q + 1024 ≤ 2048) (hf : ∀ i, tr i ≤ 100000000) (hst : ∀ s, s < 512 → tr (q + s) < 100000000 → lp_sd P L s) (hx : lp_sd P L x) (hwx : ∀ k, k < L → aa k = lp_dg x k) (hah : Kd = 3 → ¬ (lp_there L aa p) → ¬ L = 1 → (lp_ahf L fa p (fun s => tr (q + s)) x aa) 0 < 100000000) : la_CI ω yX5_chosen cX5_chosen 13 (some .int) (la_rm 3) [.ref (ad 0), .ref (ad 5), .ref (ad 6), .int tn, .ref (ad 14), .int (nI q), .int (nI p)] (lm_W ω.2.2 ad ((th, S, T, P, R, L, B, Kd, lt, C), (ra, rb, rl, fa), (aa, su), (cp, cl, cf, ck, cm, ct), (le, tr, re), (bh, so, br, rs, ce), (wh, wy))) (lm_W ω.2.2 ad) (fun (r : Int32) (u : lm_S) => r = nI (lp_chl Kd L (lp_there L aa p) (lp_ag (fun k => fa (6 * aa k + p)) L) (lp_ag (fun k => su k + fa (6 * aa k + p)) L) (tt % L) (lp_ag (lp_ahf L fa p (fun s => tr (q + s)) x aa) L)) ∧ ∃ f T', T' = lp_trc Kd L (lp_there L aa p) T ∧ u = ((th, S, T', P, R, L, B, Kd, lt, C), (ra, rb, rl, fa), (aa, su), (cp, cl, cf, ck, cm, ct), (le, f, re), (bh, so, br, rs, ce), (wh, wy)) ∧ (∀ i, (i < q + 512 ∨ q + 1024 ≤ i) → f i = tr i) ∧ (∀ i, f i ≤ 100000000)) := by
  refine la_CI_of (by decide) [some (.ref (ad 0)), some (.ref (ad 5)), some (.ref (ad 6)), some (.int (tn)), some (.ref (ad 14)), some (.int (nI (q))), some (.int (nI (p))), none, none, none, none, none, none] rfl rfl (Nat.le_of_ble_eq_true rfl) ?_
  intro κ K hret
  refine la_aload_n K dX5_chosen_0 rfl ?_
  refine la_aload_n K dX5_chosen_1 rfl ?_
  refine la_iload K dX5_chosen_2 rfl ?_
  refine la_callVp K ok_X5_isThere q995 (lm_isThereA hP hL3 hp hw) 0 rfl rfl rfl rfl rfl (Nat.le_of_ble_eq_true rfl) ⟨Nat.le_of_ble_eq_true rfl, Nat.le_of_ble_eq_true rfl⟩ ⟨Nat.zero_le _, Nat.zero_le _⟩ dX5_chosen_4 ?_
  refine la_istore7 K dX5_chosen_7 rfl ?_
  refine la_aload_n K dX5_chosen_9 rfl ?_
  refine lm_g_Kd K q838 dX5_chosen_10 ?_
  refine la_if_neN K 24 dX5_chosen_13 rfl (by omega) (fun h13 => ?_) (fun h13 => ?_)
  · refine la_aload_n K dX5_chosen_24 rfl ?_
    refine lm_g_Kd K q838 dX5_chosen_25 ?_
    refine la_iconst K dX5_chosen_28 la_ki_1 ?_
    refine la_icmp_neN K 41 dX5_chosen_29 rfl (by omega) (by omega) (fun h29 => ?_) (fun h29 => ?_)
    · refine la_aload_n K dX5_chosen_41 rfl ?_
      refine lm_g_Kd K q838 dX5_chosen_42 ?_
      refine la_iconst K dX5_chosen_45 la_ki_2 ?_
      refine la_icmp_neN K 85 dX5_chosen_46 rfl (by omega) (by omega) (fun h46 => ?_) (fun h46 => ?_)
      · refine la_aload_n K dX5_chosen_85 rfl ?_
        refine la_dup K dX5_chosen_86 rfl ?_
        refine lm_g_T K q829 dX5_chosen_87 ?_
        refine la_ldc2 K q1008 la_kL_1000 dX5_chosen_90 ?_
        refine la_ladd K dX5_chosen_93 ?_
        refine lm_p_T K q829 dX5_chosen_94 ?_
        refine la_iload K dX5_chosen_97 rfl ?_
        refine la_if_eqB K 110 dX5_chosen_99 rfl (fun h99 => ?_) (fun h99 => ?_)
        · refine la_aload_n K dX5_chosen_110 rfl ?_
          refine lm_g_L K q836 dX5_chosen_111 ?_
          refine la_iconst K dX5_chosen_114 la_ki_1 ?_
          refine la_icmp_neN K 127 dX5_chosen_115 rfl (by omega) (by omega) (fun h115 => ?_) (fun h115 => ?_)
          · refine la_aload_n K dX5_chosen_127 rfl ?_
            refine la_aload K dX5_chosen_128 rfl ?_
            refine la_iload K dX5_chosen_130 rfl ?_
            refine la_iload K dX5_chosen_132 rfl ?_
            refine la_callVv0 K ok_X5_serves q1009 (lm_servesT hP hL3 hp hfa hq hf hst) 0 rfl rfl rfl rfl rfl (Nat.le_of_ble_eq_true rfl) ⟨Nat.le_of_ble_eq_true rfl, Nat.le_of_ble_eq_true rfl⟩ ⟨Nat.zero_le _, Nat.zero_le _⟩ dX5_chosen_134 (fun u134 p134 => ?_)
            obtain ⟨f, rfl, hk1, hf1, hmn⟩ := p134
            have hg : ∀ t, t < 512 → f (q + 512 + t) = lp_sv L fa p (fun s => tr (q + s)) t := fun t ht => lp_mn_min (hmn t ht)
            have hst1 : ∀ s, s < 512 → f (q + 512 + s) < 100000000 → lp_sd P L s := fun s h1 h2 => lp_sv_stand hL3 hP hp hst (by rw [← hg s h1]; exact h2)
            have hv : ∀ k, lp_min 100000000 (lp_WQ L fa (fun s => f (q + 512 + s)) (lp_mv x k p) 512) + fa (6 * aa k + p) = (lp_ahf L fa p (fun s => tr (q + s)) x aa) k := fun k => congrArg (· + fa (6 * aa k + p)) (lp_wm_congr hg)
            have h00 := hah (by omega) h99 h115
            have lb : ∀ (j k : Nat) (l best : Nat) (x12 : Option Value), k ≤ L → L < k + j → best < 2 ^ 31 → ((k = 0 ∧ l = 0 ∧ best = 100000000) ∨ (0 < k ∧ l = lp_ag (lp_ahf L fa p (fun s => tr (q + s)) x aa) k ∧ best = (lp_ahf L fa p (fun s => tr (q + s)) x aa) l)) → la_At ω κ (0, 0) 182 [some (.ref (ad 0)), some (.ref (ad 5)), some (.ref (ad 6)), some (.int (tn)), some (.ref (ad 14)), some (.int (nI (q))), some (.int (nI (p))), some (.int (nI (lp_b (lp_there L aa p)))), some (.int (nI (x))), some (.int (nI (best))), some (.int (nI (l))), some (.int (nI (k))), x12] [] (lm_W ω.2.2 ad ((th, S, T + lN 1000, P, R, L, B, Kd, lt, C), (ra, rb, rl, fa), (aa, su), (cp, cl, cf, ck, cm, ct), (le, f, re), (bh, so, br, rs, ce), (wh, wy))) := by
              intro j
              induction j with
              | zero => intro k l best x12 h1 h2; omega
              | succ j ih =>
                intro k l best x12 h1 h2 hbb hI
                refine la_iload K dX5_chosen_182 rfl ?_
                refine la_aload_n K dX5_chosen_184 rfl ?_
                refine lm_g_L K q836 dX5_chosen_185 ?_
                refine la_icmp_geN K 251 dX5_chosen_188 rfl (by omega) (by omega) (fun h188 => ?_) (fun h188 => ?_)
                · refine la_iload K dX5_chosen_251 rfl ?_
                  have e9 : l = lp_ag (lp_ahf L fa p (fun s => tr (q + s)) x aa) L := by
                    rcases hI with z | z
                    · omega
                    · rw [z.2.1, show k = L by omega]
                  exact hret _ _ _ _ dX5_chosen_253 ⟨by unfold lp_chl; rw [if_neg (by omega), if_neg (by omega), if_neg (by omega), if_neg h99, if_neg h115]; rw [e9], f, _, by unfold lp_trc; rw [if_neg (by omega), if_neg (by omega), if_neg (by omega), if_neg h99, if_neg h115], rfl, hk1, hf1⟩
                · refine la_aload_n K dX5_chosen_191 rfl ?_
                  refine la_aload K dX5_chosen_192 rfl ?_
                  refine la_iload K dX5_chosen_194 rfl ?_
                  refine la_sipush K dX5_chosen_196 la_ks_512 ?_
                  refine la_iaddN K dX5_chosen_199 ?_
                  refine la_iload K dX5_chosen_200 rfl ?_
                  refine la_iload K dX5_chosen_202 rfl ?_
                  refine la_iload K dX5_chosen_204 rfl ?_
                  refine la_callSp K ok_X5_moved q1013 (lm_moved (lp_sd_lt hx hL3) (by omega) (by omega) _) rfl rfl rfl (Nat.le_of_ble_eq_true rfl) ⟨Nat.le_of_ble_eq_true rfl, Nat.le_of_ble_eq_true rfl⟩ ⟨Nat.zero_le _, Nat.zero_le _⟩ dX5_chosen_206 ?_
                  refine la_callVp K ok_X5_workOf q1016 (lm_workOfT hP hL1 hL3 hfa (by omega) hf1 hst1 (lp_sd_mv hx hL3 (by omega) hp hP)) 0 rfl rfl rfl rfl rfl (Nat.le_of_ble_eq_true rfl) ⟨Nat.le_of_ble_eq_true rfl, Nat.le_of_ble_eq_true rfl⟩ ⟨Nat.zero_le _, Nat.zero_le _⟩ dX5_chosen_209 ?_
                  refine la_aload_n K dX5_chosen_212 rfl ?_
                  refine lm_g_fa K q835 dX5_chosen_213 ?_
                  refine la_bipush K dX5_chosen_216 la_kb_6 ?_
                  refine la_aload_n K dX5_chosen_218 rfl ?_
                  refine la_iload K dX5_chosen_219 rfl ?_
                  refine lm_ld_aa K (by omega) dX5_chosen_221 ?_
                  refine la_imulN K dX5_chosen_222 ?_
                  refine la_iload K dX5_chosen_223 rfl ?_
                  refine la_iaddN K dX5_chosen_225 ?_
                  refine lm_ld_fa K (by have := hw k (by omega); omega) dX5_chosen_226 ?_
                  refine la_iaddN K dX5_chosen_227 ?_
                  refine la_istore12 K dX5_chosen_228 rfl ?_
                  refine la_iload K dX5_chosen_230 rfl ?_
                  refine la_iload K dX5_chosen_232 rfl ?_
                  refine la_icmp_geN K 245 dX5_chosen_234 rfl (by have := lp_min_le 100000000 (lp_WQ L fa (fun s => f (q + 512 + s)) (lp_mv x k p) 512); have := hfa (6 * aa k + p) (by have := hw k (by omega); omega); omega) (by omega) (fun h234 => ?_) (fun h234 => ?_)
                  · refine la_iinc11 K dX5_chosen_245 (la_inc_N _) rfl ?_
                    refine la_goto K 182 dX5_chosen_248 rfl ?_
                    have e1 := lp_first hI h00
                    rw [if_neg (by rw [← hv k]; omega), if_neg (by rw [← hv k]; omega)] at e1
                    exact ih (k + 1) _ _ _ (by omega) (by omega) (by omega) (Or.inr ⟨by omega, e1.1, by rw [e1.2, ← e1.1]⟩)
                  · refine la_iload K dX5_chosen_237 rfl ?_
                    refine la_istore9 K dX5_chosen_239 rfl ?_
                    refine la_iload K dX5_chosen_241 rfl ?_
                    refine la_istore10 K dX5_chosen_243 rfl ?_
                    refine la_iinc11 K dX5_chosen_245 (la_inc_N _) rfl ?_
                    refine la_goto K 182 dX5_chosen_248 rfl ?_
                    have e1 := lp_first hI h00
                    rw [if_pos (by rw [← hv k]; omega), if_pos (by rw [← hv k]; omega)] at e1
                    exact ih (k + 1) _ _ _ (by omega) (by omega) (by have := lp_min_le 100000000 (lp_WQ L fa (fun s => f (q + 512 + s)) (lp_mv x k p) 512); have := hfa (6 * aa k + p) (by have := hw k (by omega); omega); omega) (Or.inr ⟨by omega, e1.1, by rw [hv k]⟩)
            have la : ∀ (j k : Nat) (s : Nat), k ≤ L → L < k + j → s = x % 2 ^ (3 * k) → la_At ω κ (0, 0) 143 [some (.ref (ad 0)), some (.ref (ad 5)), some (.ref (ad 6)), some (.int (tn)), some (.ref (ad 14)), some (.int (nI (q))), some (.int (nI (p))), some (.int (nI (lp_b (lp_there L aa p)))), some (.int (nI (s))), some (.int (nI (k))), none, none, none] [] (lm_W ω.2.2 ad ((th, S, T + lN 1000, P, R, L, B, Kd, lt, C), (ra, rb, rl, fa), (aa, su), (cp, cl, cf, ck, cm, ct), (le, f, re), (bh, so, br, rs, ce), (wh, wy))) := by
              intro j
              induction j with
              | zero => intro k s h1 h2; omega
              | succ j ih =>
                intro k s h1 h2 hs
                subst hs
                refine la_iload K dX5_chosen_143 rfl ?_
                refine la_aload_n K dX5_chosen_145 rfl ?_
                refine lm_g_L K q836 dX5_chosen_146 ?_
                refine la_icmp_geN K 172 dX5_chosen_149 rfl (by omega) (by omega) (fun h149 => ?_) (fun h149 => ?_)
                · refine la_ldc K q953 la_kl_100000000 dX5_chosen_172 ?_
                  refine la_istore9 K dX5_chosen_174 rfl ?_
                  refine la_iconst K dX5_chosen_176 la_ki_0 ?_
                  refine la_istore10 K dX5_chosen_177 rfl ?_
                  refine la_iconst K dX5_chosen_179 la_ki_0 ?_
                  refine la_istore11 K dX5_chosen_180 rfl ?_
                  rw [show k = L by omega, Nat.mod_eq_of_lt hx.1]
                  exact lb (L + 1) 0 0 _ _ (by omega) (by omega) (by omega) (Or.inl ⟨rfl, rfl, rfl⟩)
                · refine la_iload K dX5_chosen_152 rfl ?_
                  refine la_aload_n K dX5_chosen_154 rfl ?_
                  refine la_iload K dX5_chosen_155 rfl ?_
                  refine lm_ld_aa K (by omega) dX5_chosen_157 ?_
                  refine la_iconst K dX5_chosen_158 la_ki_3 ?_
                  refine la_iload K dX5_chosen_159 rfl ?_
                  refine la_imulN K dX5_chosen_161 ?_
                  refine la_ishl K dX5_chosen_162 ?_
                  refine la_ior K dX5_chosen_163 ?_
                  rw [hwx k (by omega)]
                  refine la_top (lp_join (lp_sd_lt hx hL3) (by omega)) ?_
                  refine la_istore8 K dX5_chosen_164 rfl ?_
                  refine la_iinc9 K dX5_chosen_166 (la_inc_N _) rfl ?_
                  refine la_goto K 143 dX5_chosen_169 rfl ?_
                  exact ih (k + 1) _ (by omega) (by omega) rfl
            refine la_iconst K dX5_chosen_137 la_ki_0 ?_
            refine la_istore8 K dX5_chosen_138 rfl ?_
            refine la_iconst K dX5_chosen_140 la_ki_0 ?_
            refine la_istore9 K dX5_chosen_141 rfl ?_
            exact la (L + 1) 0 0 (by omega) (by omega) (by simp [Nat.mod_one])
          · refine la_aload_n K dX5_chosen_118 rfl ?_
            refine la_aload_n K dX5_chosen_119 rfl ?_
            refine la_aload_n K dX5_chosen_120 rfl ?_
            refine la_iload K dX5_chosen_121 rfl ?_
            refine la_callVi0 K ok_X5_evenOf q1003 (lm_evenOfA hP hL1 hL3 hp hfa hw hsu) 0 rfl rfl rfl rfl rfl (Nat.le_of_ble_eq_true rfl) ⟨Nat.le_of_ble_eq_true rfl, Nat.le_of_ble_eq_true rfl⟩ ⟨Nat.zero_le _, Nat.zero_le _⟩ dX5_chosen_123 (fun r123 u123 p123 => ?_)
            obtain ⟨rfl, rfl⟩ := p123.2 h99
            exact hret _ _ _ _ dX5_chosen_126 ⟨by unfold lp_chl; rw [if_neg h13, if_neg h29, if_neg h46, if_neg h99, if_pos h115], tr, _, by unfold lp_trc; rw [if_neg h13, if_neg h29, if_neg h46, if_neg h99, if_pos h115], rfl, fun i _ => rfl, hf⟩
        · refine la_aload_n K dX5_chosen_102 rfl ?_
          refine la_aload_n K dX5_chosen_103 rfl ?_
          refine la_iload K dX5_chosen_104 rfl ?_
          refine la_callVi0 K ok_X5_nearest q999 (lm_nearestA hP hL1 hL3 hp hfa hw) 0 rfl rfl rfl rfl rfl (Nat.le_of_ble_eq_true rfl) ⟨Nat.le_of_ble_eq_true rfl, Nat.le_of_ble_eq_true rfl⟩ ⟨Nat.zero_le _, Nat.zero_le _⟩ dX5_chosen_106 (fun r106 u106 p106 => ?_)
          obtain ⟨rfl, rfl⟩ := p106
          exact hret _ _ _ _ dX5_chosen_109 ⟨by unfold lp_chl; rw [if_neg h13, if_neg h29, if_neg h46, if_pos h99], tr, _, by unfold lp_trc; rw [if_neg h13, if_neg h29, if_neg h46, if_pos h99], rfl, fun i _ => rfl, hf⟩
      · refine la_aload_n K dX5_chosen_49 rfl ?_
        refine la_dup K dX5_chosen_50 rfl ?_
        refine lm_g_T K q829 dX5_chosen_51 ?_
        refine la_ldc2 K q940 la_kL_100 dX5_chosen_54 ?_
        refine la_ladd K dX5_chosen_57 ?_
        refine lm_p_T K q829 dX5_chosen_58 ?_
        refine la_iload K dX5_chosen_61 rfl ?_
        refine la_if_eqB K 76 dX5_chosen_63 rfl (fun h63 => ?_) (fun h63 => ?_)
        · refine la_iload_n K dX5_chosen_76 rfl ?_
          refine la_iconst K dX5_chosen_77 la_ki_1 ?_
          refine la_iadd K dX5_chosen_78 ?_
          refine la_top htt ?_
          refine la_aload_n K dX5_chosen_79 rfl ?_
          refine lm_g_L K q836 dX5_chosen_80 ?_
          refine la_iremN K dX5_chosen_83 (by omega) (by omega) (by omega) ?_
          exact hret _ _ _ _ dX5_chosen_84 ⟨by unfold lp_chl; rw [if_neg h13, if_neg h29, if_pos h46, if_neg h63], tr, _, by unfold lp_trc; rw [if_neg h13, if_neg h29, if_pos h46, if_neg h63], rfl, fun i _ => rfl, hf⟩
        · refine la_aload_n K dX5_chosen_66 rfl ?_
          refine la_aload_n K dX5_chosen_67 rfl ?_
          refine la_iload K dX5_chosen_68 rfl ?_
          refine la_callVi0 K ok_X5_nearest q999 (lm_nearestA hP hL1 hL3 hp hfa hw) 0 rfl rfl rfl rfl rfl (Nat.le_of_ble_eq_true rfl) ⟨Nat.le_of_ble_eq_true rfl, Nat.le_of_ble_eq_true rfl⟩ ⟨Nat.zero_le _, Nat.zero_le _⟩ dX5_chosen_70 (fun r70 u70 p70 => ?_)
          obtain ⟨rfl, rfl⟩ := p70
          refine la_goto K 84 dX5_chosen_73 rfl ?_
          exact hret _ _ _ _ dX5_chosen_84 ⟨by unfold lp_chl; rw [if_neg h13, if_neg h29, if_pos h46, if_pos h63], tr, _, by unfold lp_trc; rw [if_neg h13, if_neg h29, if_pos h46, if_pos h63], rfl, fun i _ => rfl, hf⟩
    · refine la_aload_n K dX5_chosen_32 rfl ?_
      refine la_aload_n K dX5_chosen_33 rfl ?_
      refine la_aload_n K dX5_chosen_34 rfl ?_
      refine la_iload K dX5_chosen_35 rfl ?_
      refine la_callVi0 K ok_X5_evenOf q1003 (lm_evenOfA hP hL1 hL3 hp hfa hw hsu) 0 rfl rfl rfl rfl rfl (Nat.le_of_ble_eq_true rfl) ⟨Nat.le_of_ble_eq_true rfl, Nat.le_of_ble_eq_true rfl⟩ ⟨Nat.zero_le _, Nat.zero_le _⟩ dX5_chosen_37 (fun r37 u37 p37 => ?_)
      by_cases hth : (lp_there L aa p)
      · obtain ⟨rfl, rfl⟩ := p37.1 hth
        exact hret _ _ _ _ dX5_chosen_40 ⟨by unfold lp_chl; rw [if_neg h13, if_pos h29, if_pos hth], tr, _, by unfold lp_trc; rw [if_neg h13, if_pos h29, if_pos hth], rfl, fun i _ => rfl, hf⟩
      · obtain ⟨rfl, rfl⟩ := p37.2 hth
        exact hret _ _ _ _ dX5_chosen_40 ⟨by unfold lp_chl; rw [if_neg h13, if_pos h29, if_neg hth], tr, _, by unfold lp_trc; rw [if_neg h13, if_pos h29, if_neg hth], rfl, fun i _ => rfl, hf⟩
  · refine la_aload_n K dX5_chosen_16 rfl ?_
    refine la_aload_n K dX5_chosen_17 rfl ?_
    refine la_iload K dX5_chosen_18 rfl ?_
    refine la_callVi0 K ok_X5_nearest q999 (lm_nearestA hP hL1 hL3 hp hfa hw) 0 rfl rfl rfl rfl rfl (Nat.le_of_ble_eq_true rfl) ⟨Nat.le_of_ble_eq_true rfl, Nat.le_of_ble_eq_true rfl⟩ ⟨Nat.zero_le _, Nat.zero_le _⟩ dX5_chosen_20 (fun r20 u20 p20 => ?_)
    obtain ⟨rfl, rfl⟩ := p20
    exact hret _ _ _ _ dX5_chosen_23 ⟨by unfold lp_chl; rw [if_pos h13], tr, _, by unfold lp_trc; rw [if_pos h13], rfl, fun i _ => rfl, hf⟩
set_option maxHeartbeats 4000000 in
theorem lm_chosenWT {p x q tt : Nat} {tn : Int32} (hP : P ≤ 6) (hL1 : 1 ≤ L) (hL3 : L ≤ 3) (hp : p < P) (hfa : ∀ i, i < 36 → fa i ≤ 100000000) (hw : ∀ k, k < L → wh k < P) (hsu : ∀ k, k < L → wy k ≤ 100000000) (hKd : Kd ≤ 3) (htt : tn + nI 1 = nI tt) (htt2 : tt < 2 ^ 31) (hq : q + 1024 ≤ 2048) (hf : ∀ i, tr i ≤ 100000000) (hst : ∀ s, s < 512 → tr (q + s) < 100000000 → lp_sd P L s) (hx : lp_sd P L x) (hwx : ∀ k, k < L → wh k = lp_dg x k) (hah : Kd = 3 → ¬ (lp_there L wh p) → ¬ L = 1 → (lp_ahf L fa p (fun s => tr (q + s)) x wh) 0 < 100000000) : la_CI ω yX5_chosen cX5_chosen 13 (some .int) (la_rm 3) [.ref (ad 0), .ref (ad 21), .ref (ad 22), .int tn, .ref (ad 14), .int (nI q), .int (nI p)] (lm_W ω.2.2 ad ((th, S, T, P, R, L, B, Kd, lt, C), (ra, rb, rl, fa), (aa, su), (cp, cl, cf, ck, cm, ct), (le, tr, re), (bh, so, br, rs, ce), (wh, wy))) (lm_W ω.2.2 ad) (fun (r : Int32) (u : lm_S) => r = nI (lp_chl Kd L (lp_there L wh p) (lp_ag (fun k => fa (6 * wh k + p)) L) (lp_ag (fun k => wy k + fa (6 * wh k + p)) L) (tt % L) (lp_ag (lp_ahf L fa p (fun s => tr (q + s)) x wh) L)) ∧ ∃ f T', T' = lp_trc Kd L (lp_there L wh p) T ∧ u = ((th, S, T', P, R, L, B, Kd, lt, C), (ra, rb, rl, fa), (aa, su), (cp, cl, cf, ck, cm, ct), (le, f, re), (bh, so, br, rs, ce), (wh, wy)) ∧ (∀ i, (i < q + 512 ∨ q + 1024 ≤ i) → f i = tr i) ∧ (∀ i, f i ≤ 100000000)) := by
  refine la_CI_of (by decide) [some (.ref (ad 0)), some (.ref (ad 21)), some (.ref (ad 22)), some (.int (tn)), some (.ref (ad 14)), some (.int (nI (q))), some (.int (nI (p))), none, none, none, none, none, none] rfl rfl (Nat.le_of_ble_eq_true rfl) ?_
  intro κ K hret
  refine la_aload_n K dX5_chosen_0 rfl ?_
  refine la_aload_n K dX5_chosen_1 rfl ?_
  refine la_iload K dX5_chosen_2 rfl ?_
  refine la_callVp K ok_X5_isThere q995 (lm_isThereW hP hL3 hp hw) 0 rfl rfl rfl rfl rfl (Nat.le_of_ble_eq_true rfl) ⟨Nat.le_of_ble_eq_true rfl, Nat.le_of_ble_eq_true rfl⟩ ⟨Nat.zero_le _, Nat.zero_le _⟩ dX5_chosen_4 ?_
  refine la_istore7 K dX5_chosen_7 rfl ?_
  refine la_aload_n K dX5_chosen_9 rfl ?_
  refine lm_g_Kd K q838 dX5_chosen_10 ?_
  refine la_if_neN K 24 dX5_chosen_13 rfl (by omega) (fun h13 => ?_) (fun h13 => ?_)
  · refine la_aload_n K dX5_chosen_24 rfl ?_
    refine lm_g_Kd K q838 dX5_chosen_25 ?_
    refine la_iconst K dX5_chosen_28 la_ki_1 ?_
    refine la_icmp_neN K 41 dX5_chosen_29 rfl (by omega) (by omega) (fun h29 => ?_) (fun h29 => ?_)
    · refine la_aload_n K dX5_chosen_41 rfl ?_
      refine lm_g_Kd K q838 dX5_chosen_42 ?_
      refine la_iconst K dX5_chosen_45 la_ki_2 ?_
      refine la_icmp_neN K 85 dX5_chosen_46 rfl (by omega) (by omega) (fun h46 => ?_) (fun h46 => ?_)
      · refine la_aload_n K dX5_chosen_85 rfl ?_
        refine la_dup K dX5_chosen_86 rfl ?_
        refine lm_g_T K q829 dX5_chosen_87 ?_
        refine la_ldc2 K q1008 la_kL_1000 dX5_chosen_90 ?_
        refine la_ladd K dX5_chosen_93 ?_
        refine lm_p_T K q829 dX5_chosen_94 ?_
        refine la_iload K dX5_chosen_97 rfl ?_
        refine la_if_eqB K 110 dX5_chosen_99 rfl (fun h99 => ?_) (fun h99 => ?_)
        · refine la_aload_n K dX5_chosen_110 rfl ?_
          refine lm_g_L K q836 dX5_chosen_111 ?_
          refine la_iconst K dX5_chosen_114 la_ki_1 ?_
          refine la_icmp_neN K 127 dX5_chosen_115 rfl (by omega) (by omega) (fun h115 => ?_) (fun h115 => ?_)
          · refine la_aload_n K dX5_chosen_127 rfl ?_
            refine la_aload K dX5_chosen_128 rfl ?_
            refine la_iload K dX5_chosen_130 rfl ?_
            refine la_iload K dX5_chosen_132 rfl ?_
            refine la_callVv0 K ok_X5_serves q1009 (lm_servesT hP hL3 hp hfa hq hf hst) 0 rfl rfl rfl rfl rfl (Nat.le_of_ble_eq_true rfl) ⟨Nat.le_of_ble_eq_true rfl, Nat.le_of_ble_eq_true rfl⟩ ⟨Nat.zero_le _, Nat.zero_le _⟩ dX5_chosen_134 (fun u134 p134 => ?_)
            obtain ⟨f, rfl, hk1, hf1, hmn⟩ := p134
            have hg : ∀ t, t < 512 → f (q + 512 + t) = lp_sv L fa p (fun s => tr (q + s)) t := fun t ht => lp_mn_min (hmn t ht)
            have hst1 : ∀ s, s < 512 → f (q + 512 + s) < 100000000 → lp_sd P L s := fun s h1 h2 => lp_sv_stand hL3 hP hp hst (by rw [← hg s h1]; exact h2)
            have hv : ∀ k, lp_min 100000000 (lp_WQ L fa (fun s => f (q + 512 + s)) (lp_mv x k p) 512) + fa (6 * wh k + p) = (lp_ahf L fa p (fun s => tr (q + s)) x wh) k := fun k => congrArg (· + fa (6 * wh k + p)) (lp_wm_congr hg)
            have h00 := hah (by omega) h99 h115
            have lb : ∀ (j k : Nat) (l best : Nat) (x12 : Option Value), k ≤ L → L < k + j → best < 2 ^ 31 → ((k = 0 ∧ l = 0 ∧ best = 100000000) ∨ (0 < k ∧ l = lp_ag (lp_ahf L fa p (fun s => tr (q + s)) x wh) k ∧ best = (lp_ahf L fa p (fun s => tr (q + s)) x wh) l)) → la_At ω κ (0, 0) 182 [some (.ref (ad 0)), some (.ref (ad 21)), some (.ref (ad 22)), some (.int (tn)), some (.ref (ad 14)), some (.int (nI (q))), some (.int (nI (p))), some (.int (nI (lp_b (lp_there L wh p)))), some (.int (nI (x))), some (.int (nI (best))), some (.int (nI (l))), some (.int (nI (k))), x12] [] (lm_W ω.2.2 ad ((th, S, T + lN 1000, P, R, L, B, Kd, lt, C), (ra, rb, rl, fa), (aa, su), (cp, cl, cf, ck, cm, ct), (le, f, re), (bh, so, br, rs, ce), (wh, wy))) := by
              intro j
              induction j with
              | zero => intro k l best x12 h1 h2; omega
              | succ j ih =>
                intro k l best x12 h1 h2 hbb hI
                refine la_iload K dX5_chosen_182 rfl ?_
                refine la_aload_n K dX5_chosen_184 rfl ?_
                refine lm_g_L K q836 dX5_chosen_185 ?_
                refine la_icmp_geN K 251 dX5_chosen_188 rfl (by omega) (by omega) (fun h188 => ?_) (fun h188 => ?_)
                · refine la_iload K dX5_chosen_251 rfl ?_
                  have e9 : l = lp_ag (lp_ahf L fa p (fun s => tr (q + s)) x wh) L := by
                    rcases hI with z | z
                    · omega
                    · rw [z.2.1, show k = L by omega]
                  exact hret _ _ _ _ dX5_chosen_253 ⟨by unfold lp_chl; rw [if_neg (by omega), if_neg (by omega), if_neg (by omega), if_neg h99, if_neg h115]; rw [e9], f, _, by unfold lp_trc; rw [if_neg (by omega), if_neg (by omega), if_neg (by omega), if_neg h99, if_neg h115], rfl, hk1, hf1⟩
                · refine la_aload_n K dX5_chosen_191 rfl ?_
                  refine la_aload K dX5_chosen_192 rfl ?_
                  refine la_iload K dX5_chosen_194 rfl ?_
                  refine la_sipush K dX5_chosen_196 la_ks_512 ?_
                  refine la_iaddN K dX5_chosen_199 ?_
                  refine la_iload K dX5_chosen_200 rfl ?_
                  refine la_iload K dX5_chosen_202 rfl ?_
                  refine la_iload K dX5_chosen_204 rfl ?_
                  refine la_callSp K ok_X5_moved q1013 (lm_moved (lp_sd_lt hx hL3) (by omega) (by omega) _) rfl rfl rfl (Nat.le_of_ble_eq_true rfl) ⟨Nat.le_of_ble_eq_true rfl, Nat.le_of_ble_eq_true rfl⟩ ⟨Nat.zero_le _, Nat.zero_le _⟩ dX5_chosen_206 ?_
                  refine la_callVp K ok_X5_workOf q1016 (lm_workOfT hP hL1 hL3 hfa (by omega) hf1 hst1 (lp_sd_mv hx hL3 (by omega) hp hP)) 0 rfl rfl rfl rfl rfl (Nat.le_of_ble_eq_true rfl) ⟨Nat.le_of_ble_eq_true rfl, Nat.le_of_ble_eq_true rfl⟩ ⟨Nat.zero_le _, Nat.zero_le _⟩ dX5_chosen_209 ?_
                  refine la_aload_n K dX5_chosen_212 rfl ?_
                  refine lm_g_fa K q835 dX5_chosen_213 ?_
                  refine la_bipush K dX5_chosen_216 la_kb_6 ?_
                  refine la_aload_n K dX5_chosen_218 rfl ?_
                  refine la_iload K dX5_chosen_219 rfl ?_
                  refine lm_ld_wh K (by omega) dX5_chosen_221 ?_
                  refine la_imulN K dX5_chosen_222 ?_
                  refine la_iload K dX5_chosen_223 rfl ?_
                  refine la_iaddN K dX5_chosen_225 ?_
                  refine lm_ld_fa K (by have := hw k (by omega); omega) dX5_chosen_226 ?_
                  refine la_iaddN K dX5_chosen_227 ?_
                  refine la_istore12 K dX5_chosen_228 rfl ?_
                  refine la_iload K dX5_chosen_230 rfl ?_
                  refine la_iload K dX5_chosen_232 rfl ?_
                  refine la_icmp_geN K 245 dX5_chosen_234 rfl (by have := lp_min_le 100000000 (lp_WQ L fa (fun s => f (q + 512 + s)) (lp_mv x k p) 512); have := hfa (6 * wh k + p) (by have := hw k (by omega); omega); omega) (by omega) (fun h234 => ?_) (fun h234 => ?_)
                  · refine la_iinc11 K dX5_chosen_245 (la_inc_N _) rfl ?_
                    refine la_goto K 182 dX5_chosen_248 rfl ?_
                    have e1 := lp_first hI h00
                    rw [if_neg (by rw [← hv k]; omega), if_neg (by rw [← hv k]; omega)] at e1
                    exact ih (k + 1) _ _ _ (by omega) (by omega) (by omega) (Or.inr ⟨by omega, e1.1, by rw [e1.2, ← e1.1]⟩)
                  · refine la_iload K dX5_chosen_237 rfl ?_
                    refine la_istore9 K dX5_chosen_239 rfl ?_
                    refine la_iload K dX5_chosen_241 rfl ?_
                    refine la_istore10 K dX5_chosen_243 rfl ?_
                    refine la_iinc11 K dX5_chosen_245 (la_inc_N _) rfl ?_
                    refine la_goto K 182 dX5_chosen_248 rfl ?_
                    have e1 := lp_first hI h00
                    rw [if_pos (by rw [← hv k]; omega), if_pos (by rw [← hv k]; omega)] at e1
                    exact ih (k + 1) _ _ _ (by omega) (by omega) (by have := lp_min_le 100000000 (lp_WQ L fa (fun s => f (q + 512 + s)) (lp_mv x k p) 512); have := hfa (6 * wh k + p) (by have := hw k (by omega); omega); omega) (Or.inr ⟨by omega, e1.1, by rw [hv k]⟩)
            have la : ∀ (j k : Nat) (s : Nat), k ≤ L → L < k + j → s = x % 2 ^ (3 * k) → la_At ω κ (0, 0) 143 [some (.ref (ad 0)), some (.ref (ad 21)), some (.ref (ad 22)), some (.int (tn)), some (.ref (ad 14)), some (.int (nI (q))), some (.int (nI (p))), some (.int (nI (lp_b (lp_there L wh p)))), some (.int (nI (s))), some (.int (nI (k))), none, none, none] [] (lm_W ω.2.2 ad ((th, S, T + lN 1000, P, R, L, B, Kd, lt, C), (ra, rb, rl, fa), (aa, su), (cp, cl, cf, ck, cm, ct), (le, f, re), (bh, so, br, rs, ce), (wh, wy))) := by
              intro j
              induction j with
              | zero => intro k s h1 h2; omega
              | succ j ih =>
                intro k s h1 h2 hs
                subst hs
                refine la_iload K dX5_chosen_143 rfl ?_
                refine la_aload_n K dX5_chosen_145 rfl ?_
                refine lm_g_L K q836 dX5_chosen_146 ?_
                refine la_icmp_geN K 172 dX5_chosen_149 rfl (by omega) (by omega) (fun h149 => ?_) (fun h149 => ?_)
                · refine la_ldc K q953 la_kl_100000000 dX5_chosen_172 ?_
                  refine la_istore9 K dX5_chosen_174 rfl ?_
                  refine la_iconst K dX5_chosen_176 la_ki_0 ?_
                  refine la_istore10 K dX5_chosen_177 rfl ?_
                  refine la_iconst K dX5_chosen_179 la_ki_0 ?_
                  refine la_istore11 K dX5_chosen_180 rfl ?_
                  rw [show k = L by omega, Nat.mod_eq_of_lt hx.1]
                  exact lb (L + 1) 0 0 _ _ (by omega) (by omega) (by omega) (Or.inl ⟨rfl, rfl, rfl⟩)
                · refine la_iload K dX5_chosen_152 rfl ?_
                  refine la_aload_n K dX5_chosen_154 rfl ?_
                  refine la_iload K dX5_chosen_155 rfl ?_
                  refine lm_ld_wh K (by omega) dX5_chosen_157 ?_
                  refine la_iconst K dX5_chosen_158 la_ki_3 ?_
                  refine la_iload K dX5_chosen_159 rfl ?_
                  refine la_imulN K dX5_chosen_161 ?_
                  refine la_ishl K dX5_chosen_162 ?_
                  refine la_ior K dX5_chosen_163 ?_
                  rw [hwx k (by omega)]
                  refine la_top (lp_join (lp_sd_lt hx hL3) (by omega)) ?_
                  refine la_istore8 K dX5_chosen_164 rfl ?_
                  refine la_iinc9 K dX5_chosen_166 (la_inc_N _) rfl ?_
                  refine la_goto K 143 dX5_chosen_169 rfl ?_
                  exact ih (k + 1) _ (by omega) (by omega) rfl
            refine la_iconst K dX5_chosen_137 la_ki_0 ?_
            refine la_istore8 K dX5_chosen_138 rfl ?_
            refine la_iconst K dX5_chosen_140 la_ki_0 ?_
            refine la_istore9 K dX5_chosen_141 rfl ?_
            exact la (L + 1) 0 0 (by omega) (by omega) (by simp [Nat.mod_one])
          · refine la_aload_n K dX5_chosen_118 rfl ?_
            refine la_aload_n K dX5_chosen_119 rfl ?_
            refine la_aload_n K dX5_chosen_120 rfl ?_
            refine la_iload K dX5_chosen_121 rfl ?_
            refine la_callVi0 K ok_X5_evenOf q1003 (lm_evenOfW hP hL1 hL3 hp hfa hw hsu) 0 rfl rfl rfl rfl rfl (Nat.le_of_ble_eq_true rfl) ⟨Nat.le_of_ble_eq_true rfl, Nat.le_of_ble_eq_true rfl⟩ ⟨Nat.zero_le _, Nat.zero_le _⟩ dX5_chosen_123 (fun r123 u123 p123 => ?_)
            obtain ⟨rfl, rfl⟩ := p123.2 h99
            exact hret _ _ _ _ dX5_chosen_126 ⟨by unfold lp_chl; rw [if_neg h13, if_neg h29, if_neg h46, if_neg h99, if_pos h115], tr, _, by unfold lp_trc; rw [if_neg h13, if_neg h29, if_neg h46, if_neg h99, if_pos h115], rfl, fun i _ => rfl, hf⟩
        · refine la_aload_n K dX5_chosen_102 rfl ?_
          refine la_aload_n K dX5_chosen_103 rfl ?_
          refine la_iload K dX5_chosen_104 rfl ?_
          refine la_callVi0 K ok_X5_nearest q999 (lm_nearestW hP hL1 hL3 hp hfa hw) 0 rfl rfl rfl rfl rfl (Nat.le_of_ble_eq_true rfl) ⟨Nat.le_of_ble_eq_true rfl, Nat.le_of_ble_eq_true rfl⟩ ⟨Nat.zero_le _, Nat.zero_le _⟩ dX5_chosen_106 (fun r106 u106 p106 => ?_)
          obtain ⟨rfl, rfl⟩ := p106
          exact hret _ _ _ _ dX5_chosen_109 ⟨by unfold lp_chl; rw [if_neg h13, if_neg h29, if_neg h46, if_pos h99], tr, _, by unfold lp_trc; rw [if_neg h13, if_neg h29, if_neg h46, if_pos h99], rfl, fun i _ => rfl, hf⟩
      · refine la_aload_n K dX5_chosen_49 rfl ?_
        refine la_dup K dX5_chosen_50 rfl ?_
        refine lm_g_T K q829 dX5_chosen_51 ?_
        refine la_ldc2 K q940 la_kL_100 dX5_chosen_54 ?_
        refine la_ladd K dX5_chosen_57 ?_
        refine lm_p_T K q829 dX5_chosen_58 ?_
        refine la_iload K dX5_chosen_61 rfl ?_
        refine la_if_eqB K 76 dX5_chosen_63 rfl (fun h63 => ?_) (fun h63 => ?_)
        · refine la_iload_n K dX5_chosen_76 rfl ?_
          refine la_iconst K dX5_chosen_77 la_ki_1 ?_
          refine la_iadd K dX5_chosen_78 ?_
          refine la_top htt ?_
          refine la_aload_n K dX5_chosen_79 rfl ?_
          refine lm_g_L K q836 dX5_chosen_80 ?_
          refine la_iremN K dX5_chosen_83 (by omega) (by omega) (by omega) ?_
          exact hret _ _ _ _ dX5_chosen_84 ⟨by unfold lp_chl; rw [if_neg h13, if_neg h29, if_pos h46, if_neg h63], tr, _, by unfold lp_trc; rw [if_neg h13, if_neg h29, if_pos h46, if_neg h63], rfl, fun i _ => rfl, hf⟩
        · refine la_aload_n K dX5_chosen_66 rfl ?_
          refine la_aload_n K dX5_chosen_67 rfl ?_
          refine la_iload K dX5_chosen_68 rfl ?_
          refine la_callVi0 K ok_X5_nearest q999 (lm_nearestW hP hL1 hL3 hp hfa hw) 0 rfl rfl rfl rfl rfl (Nat.le_of_ble_eq_true rfl) ⟨Nat.le_of_ble_eq_true rfl, Nat.le_of_ble_eq_true rfl⟩ ⟨Nat.zero_le _, Nat.zero_le _⟩ dX5_chosen_70 (fun r70 u70 p70 => ?_)
          obtain ⟨rfl, rfl⟩ := p70
          refine la_goto K 84 dX5_chosen_73 rfl ?_
          exact hret _ _ _ _ dX5_chosen_84 ⟨by unfold lp_chl; rw [if_neg h13, if_neg h29, if_pos h46, if_pos h63], tr, _, by unfold lp_trc; rw [if_neg h13, if_neg h29, if_pos h46, if_pos h63], rfl, fun i _ => rfl, hf⟩
    · refine la_aload_n K dX5_chosen_32 rfl ?_
      refine la_aload_n K dX5_chosen_33 rfl ?_
      refine la_aload_n K dX5_chosen_34 rfl ?_
      refine la_iload K dX5_chosen_35 rfl ?_
      refine la_callVi0 K ok_X5_evenOf q1003 (lm_evenOfW hP hL1 hL3 hp hfa hw hsu) 0 rfl rfl rfl rfl rfl (Nat.le_of_ble_eq_true rfl) ⟨Nat.le_of_ble_eq_true rfl, Nat.le_of_ble_eq_true rfl⟩ ⟨Nat.zero_le _, Nat.zero_le _⟩ dX5_chosen_37 (fun r37 u37 p37 => ?_)
      by_cases hth : (lp_there L wh p)
      · obtain ⟨rfl, rfl⟩ := p37.1 hth
        exact hret _ _ _ _ dX5_chosen_40 ⟨by unfold lp_chl; rw [if_neg h13, if_pos h29, if_pos hth], tr, _, by unfold lp_trc; rw [if_neg h13, if_pos h29, if_pos hth], rfl, fun i _ => rfl, hf⟩
      · obtain ⟨rfl, rfl⟩ := p37.2 hth
        exact hret _ _ _ _ dX5_chosen_40 ⟨by unfold lp_chl; rw [if_neg h13, if_pos h29, if_neg hth], tr, _, by unfold lp_trc; rw [if_neg h13, if_pos h29, if_neg hth], rfl, fun i _ => rfl, hf⟩
  · refine la_aload_n K dX5_chosen_16 rfl ?_
    refine la_aload_n K dX5_chosen_17 rfl ?_
    refine la_iload K dX5_chosen_18 rfl ?_
    refine la_callVi0 K ok_X5_nearest q999 (lm_nearestW hP hL1 hL3 hp hfa hw) 0 rfl rfl rfl rfl rfl (Nat.le_of_ble_eq_true rfl) ⟨Nat.le_of_ble_eq_true rfl, Nat.le_of_ble_eq_true rfl⟩ ⟨Nat.zero_le _, Nat.zero_le _⟩ dX5_chosen_20 (fun r20 u20 p20 => ?_)
    obtain ⟨rfl, rfl⟩ := p20
    exact hret _ _ _ _ dX5_chosen_23 ⟨by unfold lp_chl; rw [if_pos h13], tr, _, by unfold lp_trc; rw [if_pos h13], rfl, fun i _ => rfl, hf⟩
end LM4
