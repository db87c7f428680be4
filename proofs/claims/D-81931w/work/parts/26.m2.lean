/-! THE MODEL's METHODS, part 2: torn, place, road, apart. Printed by m2.py. -/
section LM2
variable {ω : la_O} {ad : Nat → Nat} {th S lt : Int32} {T : Int64} {P R L B Kd C : Nat} {ra rb rl fa aa su cp cl cf ck cm le tr re bh so br wh wy : Nat → Nat} {ct rs : Nat → Int32} {ce : Nat → Int64}
set_option maxHeartbeats 4000000 in
theorem lm_isTorn (hP : P ≤ 6) (hR : R ≤ 15) (hro : ∀ k, k < R → ra k < 6 ∧ rb k < 6 ∧ ¬ ra k = rb k ∧ rl k ≤ 100) : la_CI ω yX5_isTorn cX5_isTorn 4 (some .boolean) (la_rm 1) [.ref (ad 0)] (lm_W ω.2.2 ad ((th, S, T, P, R, L, B, Kd, lt, C), (ra, rb, rl, fa), (aa, su), (cp, cl, cf, ck, cm, ct), (le, tr, re), (bh, so, br, rs, ce), (wh, wy))) (lm_W ω.2.2 ad) (fun (r : Int32) (u : lm_S) => ∃ fa', u = ((th, S, T, P, R, L, B, Kd, lt, C), (ra, rb, rl, fa'), (aa, su), (cp, cl, cf, ck, cm, ct), (le, tr, re), (bh, so, br, rs, ce), (wh, wy)) ∧ (∀ a b, a < 6 → b < 6 → fa' (6 * a + b) = (lp_ds 100000000 ra rb rl R 6) a b) ∧ r = nI (lp_b (lp_torn 100000000 P (lp_ds 100000000 ra rb rl R 6)))) := by
  refine la_CZ_of (by decide) [some (.ref (ad 0)), none, none, none] rfl rfl (Nat.le_of_ble_eq_true rfl) ?_
  intro κ K hret
  refine la_aload_n K dX5_isTorn_0 rfl ?_
  refine la_callVv0 K ok_X5_measures q949 (lm_measures hR hro) 0 rfl rfl rfl rfl rfl (Nat.le_of_ble_eq_true rfl) ⟨Nat.le_of_ble_eq_true rfl, Nat.le_of_ble_eq_true rfl⟩ ⟨Nat.zero_le _, Nat.zero_le _⟩ dX5_isTorn_1 (fun u1 p1 => ?_)
  obtain ⟨fa1, rfl, hfa⟩ := p1
  have l1 : ∀ (j a : Nat) (z : Nat) (x3 : Option Value), a ≤ P → P < a + j → lp_T 100000000 P (lp_ds 100000000 ra rb rl R 6) a 0 z → la_At ω κ (0, 0) 8 [some (.ref (ad 0)), some (.int (nI (z))), some (.int (nI (a))), x3] [] (lm_W ω.2.2 ad ((th, S, T, P, R, L, B, Kd, lt, C), (ra, rb, rl, fa1), (aa, su), (cp, cl, cf, ck, cm, ct), (le, tr, re), (bh, so, br, rs, ce), (wh, wy))) := by
    intro j
    induction j with
    | zero => intro a z x3 h1 h2; omega
    | succ j ih1 =>
      intro a z x3 h1 h2 hT
      have l2 : a < P → ∀ (j b : Nat) (z : Nat), b ≤ P → P < b + j → lp_T 100000000 P (lp_ds 100000000 ra rb rl R 6) a b z → la_At ω κ (0, 0) 18 [some (.ref (ad 0)), some (.int (nI (z))), some (.int (nI (a))), some (.int (nI (b)))] [] (lm_W ω.2.2 ad ((th, S, T, P, R, L, B, Kd, lt, C), (ra, rb, rl, fa1), (aa, su), (cp, cl, cf, ck, cm, ct), (le, tr, re), (bh, so, br, rs, ce), (wh, wy))) := by
        intro ha j
        induction j with
        | zero => intro b z h1 h2; omega
        | succ j ih2 =>
          intro b z h1 h2 hT
          refine la_iload_n K dX5_isTorn_18 rfl ?_
          refine la_aload_n K dX5_isTorn_19 rfl ?_
          refine lm_g_P K q830 dX5_isTorn_20 ?_
          refine la_icmp_geN K 56 dX5_isTorn_23 rfl (by omega) (by omega) (fun h23 => ?_) (fun h23 => ?_)
          · refine la_iinc2 K dX5_isTorn_56 (la_inc_N _) rfl ?_
            refine la_goto K 8 dX5_isTorn_59 rfl ?_
            exact ih1 (a + 1) _ _ (by omega) (by omega) (lp_T_row (by rw [show b = P by omega] at hT; exact hT))
          · refine la_iload_n K dX5_isTorn_26 rfl ?_
            refine la_aload_n K dX5_isTorn_27 rfl ?_
            refine lm_g_fa K q835 dX5_isTorn_28 ?_
            refine la_bipush K dX5_isTorn_31 la_kb_6 ?_
            refine la_iload_n K dX5_isTorn_33 rfl ?_
            refine la_imulN K dX5_isTorn_34 ?_
            refine la_iload_n K dX5_isTorn_35 rfl ?_
            refine la_iaddN K dX5_isTorn_36 ?_
            refine lm_ld_fa K (by omega) dX5_isTorn_37 ?_
            refine la_ldc K q953 la_kl_100000000 dX5_isTorn_38 ?_
            refine la_icmp_ltN K 47 dX5_isTorn_40 rfl (by have := hfa a b (by omega) (by omega); have := lp_ds_le (I := 100000000) (fr := ra) (to := rb) (ln := rl) (R := R) 6 a b; omega) (by have := hfa a b (by omega) (by omega); have := lp_ds_le (I := 100000000) (fr := ra) (to := rb) (ln := rl) (R := R) 6 a b; omega) (fun h40 => ?_) (fun h40 => ?_)
            · refine la_iconst K dX5_isTorn_47 la_ki_0 ?_
              refine la_ior K dX5_isTorn_48 ?_
              refine la_top (lp_or hT.1 (by omega)) ?_
              refine la_istore1 K dX5_isTorn_49 rfl ?_
              refine la_iinc3 K dX5_isTorn_50 (la_inc_N _) rfl ?_
              refine la_goto K 18 dX5_isTorn_53 rfl ?_
              exact ih2 (b + 1) _ (by omega) (by omega) (lp_T_step hT (by omega) (by omega) (by omega) (by rw [← hfa a b (by omega) (by omega)]; omega))
            · refine la_iconst K dX5_isTorn_43 la_ki_1 ?_
              refine la_goto K 48 dX5_isTorn_44 rfl ?_
              refine la_ior K dX5_isTorn_48 ?_
              refine la_top (lp_or hT.1 (by omega)) ?_
              refine la_istore1 K dX5_isTorn_49 rfl ?_
              refine la_iinc3 K dX5_isTorn_50 (la_inc_N _) rfl ?_
              refine la_goto K 18 dX5_isTorn_53 rfl ?_
              exact ih2 (b + 1) _ (by omega) (by omega) (lp_T_step hT (by omega) (by omega) (by omega) (by rw [← hfa a b (by omega) (by omega)]; omega))
      refine la_iload_n K dX5_isTorn_8 rfl ?_
      refine la_aload_n K dX5_isTorn_9 rfl ?_
      refine lm_g_P K q830 dX5_isTorn_10 ?_
      refine la_icmp_geN K 62 dX5_isTorn_13 rfl (by omega) (by omega) (fun h13 => ?_) (fun h13 => ?_)
      · refine la_iload_n K dX5_isTorn_62 rfl ?_
        exact hret _ _ _ _ hT.1 dX5_isTorn_63 ⟨_, rfl, hfa, by rw [show a = P by omega] at hT; rw [lp_T_end hT]⟩
      · refine la_iconst K dX5_isTorn_16 la_ki_0 ?_
        refine la_istore3 K dX5_isTorn_17 rfl ?_
        exact l2 (by omega) (P + 1) 0 _ (by omega) (by omega) hT
  refine la_iconst K dX5_isTorn_4 la_ki_0 ?_
  refine la_istore1 K dX5_isTorn_5 rfl ?_
  refine la_iconst K dX5_isTorn_6 la_ki_0 ?_
  refine la_istore2 K dX5_isTorn_7 rfl ?_
  exact l1 (P + 1) 0 0 _ (by omega) (by omega) lp_T_0
theorem lm_place (hP : P ≤ 6) (hL : L ≤ 3) : la_CI ω yX5_place cX5_place 1 (some .int) (la_rm 0) [.ref (ad 0)] (lm_W ω.2.2 ad ((th, S, T, P, R, L, B, Kd, lt, C), (ra, rb, rl, fa), (aa, su), (cp, cl, cf, ck, cm, ct), (le, tr, re), (bh, so, br, rs, ce), (wh, wy))) (lm_W ω.2.2 ad) (fun (r : Int32) (u : lm_S) => r = lp_plA P L ∧ u = ((nI 0, S, T, lp_plP P L, R, L, B, Kd, lt, C), (ra, rb, rl, fa), (aa, su), (cp, cl, cf, ck, cm, ct), (le, tr, re), (bh, so, br, rs, ce), (wh, wy))) := by
  refine la_CI_of (by decide) [some (.ref (ad 0))] rfl rfl (Nat.le_of_ble_eq_true rfl) ?_
  intro κ K hret
  refine la_aload_n K dX5_place_0 rfl ?_
  refine la_iconst K dX5_place_1 la_ki_0 ?_
  refine lm_p_th K q827 dX5_place_2 ?_
  refine la_aload_n K dX5_place_5 rfl ?_
  refine lm_g_L K q836 dX5_place_6 ?_
  refine la_if_leN K 15 dX5_place_9 rfl (by omega) (fun h9 => ?_) (fun h9 => ?_)
  · refine la_aload_n K dX5_place_15 rfl ?_
    refine lm_g_P K q830 dX5_place_16 ?_
    refine la_bipush K dX5_place_19 la_kb_6 ?_
    refine la_icmp_neN K 27 dX5_place_21 rfl (by omega) (by omega) (fun h21 => ?_) (fun h21 => ?_)
    · refine la_aload_n K dX5_place_27 rfl ?_
      refine la_dup K dX5_place_28 rfl ?_
      refine lm_g_P K q830 dX5_place_29 ?_
      refine la_iconst K dX5_place_32 la_ki_1 ?_
      refine la_iaddN K dX5_place_33 ?_
      refine lm_p_P K q830 dX5_place_34 ?_
      refine la_aload_n K dX5_place_37 rfl ?_
      refine lm_g_P K q830 dX5_place_38 ?_
      refine la_iconst K dX5_place_41 la_ki_1 ?_
      refine la_isubN K dX5_place_42 (by omega) ?_
      exact hret _ _ _ _ dX5_place_43 ⟨by unfold lp_plA; rw [if_neg (by omega), if_neg h21]; rfl, by unfold lp_plP; rw [if_neg (by omega), if_neg h21]⟩
    · refine la_bipush K dX5_place_24 la_kb_m3 ?_
      exact hret _ _ _ _ dX5_place_26 ⟨by unfold lp_plA; rw [if_neg (by omega), if_pos h21], by unfold lp_plP; rw [if_neg (by omega), if_pos h21]⟩
  · refine la_bipush K dX5_place_12 la_kb_m2 ?_
    exact hret _ _ _ _ dX5_place_14 ⟨by unfold lp_plA; rw [if_pos h9], by unfold lp_plP; rw [if_pos h9]⟩
theorem lm_addRoad (a b d : Int64) (hP : P ≤ 6) (hL : L ≤ 3) (hR : R ≤ 15) : la_CI ω yX5_addRoad cX5_addRoad 7 (some .int) (la_rm 1) [.ref (ad 0), .long a, .long b, .long d] (lm_W ω.2.2 ad ((th, S, T, P, R, L, B, Kd, lt, C), (ra, rb, rl, fa), (aa, su), (cp, cl, cf, ck, cm, ct), (le, tr, re), (bh, so, br, rs, ce), (wh, wy))) (lm_W ω.2.2 ad) (fun (r : Int32) (u : lm_S) => (r = lp_rdA P R L a b d ∧ ((¬ lp_rdGo P R L a b d ∧ u = ((th, S, T, P, R, L, B, Kd, lt, C), (ra, rb, rl, fa), (aa, su), (cp, cl, cf, ck, cm, ct), (le, tr, re), (bh, so, br, rs, ce), (wh, wy))) ∨ (lp_rdGo P R L a b d ∧ u = ((th, S, T, P, R + 1, L, B, Kd, lt, C), (va_up ra R a.toInt.toNat, va_up rb R b.toInt.toNat, va_up rl R d.toInt.toNat, fa), (aa, su), (cp, cl, cf, ck, cm, ct), (le, tr, re), (bh, so, br, rs, ce), (wh, wy)))))) := by
  refine la_CI_of (by decide) [some (.ref (ad 0)), some (.long (a)), none, some (.long (b)), none, some (.long (d)), none] rfl rfl (Nat.le_of_ble_eq_true rfl) ?_
  intro κ K hret
  refine la_lload_n K dX5_addRoad_0 rfl ?_
  refine la_lconst K dX5_addRoad_1 la_kn_0 ?_
  refine la_aload_n K dX5_addRoad_2 rfl ?_
  refine lm_g_P K q830 dX5_addRoad_3 ?_
  refine la_iconst K dX5_addRoad_6 la_ki_1 ?_
  refine la_isub K dX5_addRoad_7 ?_
  refine la_i2l K dX5_addRoad_8 rfl ?_
  refine la_callSp K ok_X5_in q937 (lm_in _ _ _ _) rfl rfl rfl (Nat.le_of_ble_eq_true rfl) ⟨Nat.le_of_ble_eq_true rfl, Nat.le_of_ble_eq_true rfl⟩ ⟨Nat.zero_le _, Nat.zero_le _⟩ dX5_addRoad_9 ?_
  refine la_if_eqC K 48 dX5_addRoad_12 rfl (fun h12 => ?_) (fun h12 => ?_)
  · refine la_iconst K dX5_addRoad_48 la_ki_m1 ?_
    exact hret _ _ _ _ dX5_addRoad_49 ⟨by unfold lp_rdA; rw [if_neg (fun z => h12 ((lp_longP a hP).mpr z.1))], Or.inl ⟨fun z => (fun z => h12 ((lp_longP a hP).mpr z.1)) z.1, rfl⟩⟩
  · refine la_lload_n K dX5_addRoad_15 rfl ?_
    refine la_lconst K dX5_addRoad_16 la_kn_0 ?_
    refine la_aload_n K dX5_addRoad_17 rfl ?_
    refine lm_g_P K q830 dX5_addRoad_18 ?_
    refine la_iconst K dX5_addRoad_21 la_ki_1 ?_
    refine la_isub K dX5_addRoad_22 ?_
    refine la_i2l K dX5_addRoad_23 rfl ?_
    refine la_callSp K ok_X5_in q937 (lm_in _ _ _ _) rfl rfl rfl (Nat.le_of_ble_eq_true rfl) ⟨Nat.le_of_ble_eq_true rfl, Nat.le_of_ble_eq_true rfl⟩ ⟨Nat.zero_le _, Nat.zero_le _⟩ dX5_addRoad_24 ?_
    refine la_if_eqC K 48 dX5_addRoad_27 rfl (fun h27 => ?_) (fun h27 => ?_)
    · refine la_iconst K dX5_addRoad_48 la_ki_m1 ?_
      exact hret _ _ _ _ dX5_addRoad_49 ⟨by unfold lp_rdA; rw [if_neg (fun z => h27 ((lp_longP b hP).mpr z.2.1))], Or.inl ⟨fun z => (fun z => h27 ((lp_longP b hP).mpr z.2.1)) z.1, rfl⟩⟩
    · refine la_lload_n K dX5_addRoad_30 rfl ?_
      refine la_lload_n K dX5_addRoad_31 rfl ?_
      refine la_lcmp K dX5_addRoad_32 ?_
      refine la_if_eq K 48 dX5_addRoad_33 rfl (fun h33 => ?_) (fun h33 => ?_)
      · refine la_iconst K dX5_addRoad_48 la_ki_m1 ?_
        exact hret _ _ _ _ dX5_addRoad_49 ⟨by unfold lp_rdA; rw [if_neg (fun z => z.2.2.1 ((lg_cmp_eq _ _).mp h33))], Or.inl ⟨fun z => (fun z => z.2.2.1 ((lg_cmp_eq _ _).mp h33)) z.1, rfl⟩⟩
      · refine la_lload K dX5_addRoad_36 rfl ?_
        refine la_lconst K dX5_addRoad_38 la_kn_1 ?_
        refine la_ldc2 K q940 la_kL_100 dX5_addRoad_39 ?_
        refine la_callSp K ok_X5_in q937 (lm_in _ _ _ _) rfl rfl rfl (Nat.le_of_ble_eq_true rfl) ⟨Nat.le_of_ble_eq_true rfl, Nat.le_of_ble_eq_true rfl⟩ ⟨Nat.zero_le _, Nat.zero_le _⟩ dX5_addRoad_42 ?_
        refine la_if_neC K 50 dX5_addRoad_45 rfl (fun h45 => ?_) (fun h45 => ?_)
        · have hok : lp_rdOk P a b d := ⟨(lp_longP a hP).mp h12, (lp_longP b hP).mp h27, fun e => h33 ((lg_cmp_eq _ _).mpr e), (lp_longs d (by decide) (by decide)).mp h45⟩
          refine la_aload_n K dX5_addRoad_50 rfl ?_
          refine lm_g_L K q836 dX5_addRoad_51 ?_
          refine la_if_leN K 60 dX5_addRoad_54 rfl (by omega) (fun h54 => ?_) (fun h54 => ?_)
          · refine la_aload_n K dX5_addRoad_60 rfl ?_
            refine lm_g_R K q831 dX5_addRoad_61 ?_
            refine la_bipush K dX5_addRoad_64 la_kb_15 ?_
            refine la_icmp_neN K 72 dX5_addRoad_66 rfl (by omega) (by omega) (fun h66 => ?_) (fun h66 => ?_)
            · obtain ⟨ka, kb, kd, rfl, rfl, rfl, g1, g2, g3, g4, g5⟩ := lp_rdOk_N hok hP
              refine la_aload_n K dX5_addRoad_72 rfl ?_
              refine lm_g_ra K q832 dX5_addRoad_73 ?_
              refine la_aload_n K dX5_addRoad_76 rfl ?_
              refine lm_g_R K q831 dX5_addRoad_77 ?_
              refine la_lload_n K dX5_addRoad_80 rfl ?_
              refine la_l2i K dX5_addRoad_81 rfl ?_
              refine la_top (lN_i _) ?_
              refine lm_st_ra K (by omega) dX5_addRoad_82 ?_
              refine la_aload_n K dX5_addRoad_83 rfl ?_
              refine lm_g_rb K q833 dX5_addRoad_84 ?_
              refine la_aload_n K dX5_addRoad_87 rfl ?_
              refine lm_g_R K q831 dX5_addRoad_88 ?_
              refine la_lload_n K dX5_addRoad_91 rfl ?_
              refine la_l2i K dX5_addRoad_92 rfl ?_
              refine la_top (lN_i _) ?_
              refine lm_st_rb K (by omega) dX5_addRoad_93 ?_
              refine la_aload_n K dX5_addRoad_94 rfl ?_
              refine lm_g_rl K q834 dX5_addRoad_95 ?_
              refine la_aload_n K dX5_addRoad_98 rfl ?_
              refine lm_g_R K q831 dX5_addRoad_99 ?_
              refine la_lload K dX5_addRoad_102 rfl ?_
              refine la_l2i K dX5_addRoad_104 rfl ?_
              refine la_top (lN_i _) ?_
              refine lm_st_rl K (by omega) dX5_addRoad_105 ?_
              refine la_aload_n K dX5_addRoad_106 rfl ?_
              refine la_dup K dX5_addRoad_107 rfl ?_
              refine lm_g_R K q831 dX5_addRoad_108 ?_
              refine la_iconst K dX5_addRoad_111 la_ki_1 ?_
              refine la_iaddN K dX5_addRoad_112 ?_
              refine lm_p_R K q831 dX5_addRoad_113 ?_
              refine la_aload_n K dX5_addRoad_116 rfl ?_
              refine lm_g_R K q831 dX5_addRoad_117 ?_
              exact hret _ _ _ _ dX5_addRoad_120 ⟨by unfold lp_rdA; rw [if_pos hok, if_neg (by omega), if_neg h66], Or.inr ⟨⟨hok, by omega, by omega⟩, by rw [lp_lN_nat (by omega), lp_lN_nat (by omega), lp_lN_nat (by omega)]⟩⟩
            · refine la_bipush K dX5_addRoad_69 la_kb_m3 ?_
              exact hret _ _ _ _ dX5_addRoad_71 ⟨by unfold lp_rdA; rw [if_pos hok, if_neg (by omega), if_pos h66], Or.inl ⟨fun z => by have := z.2.2; omega, rfl⟩⟩
          · refine la_bipush K dX5_addRoad_57 la_kb_m2 ?_
            exact hret _ _ _ _ dX5_addRoad_59 ⟨by unfold lp_rdA; rw [if_pos hok, if_pos h54], Or.inl ⟨fun z => by have := z.2.1; omega, rfl⟩⟩
        · refine la_iconst K dX5_addRoad_48 la_ki_m1 ?_
          exact hret _ _ _ _ dX5_addRoad_49 ⟨by unfold lp_rdA; rw [if_neg (fun z => h45 ((lp_longs d (by decide) (by decide)).mpr z.2.2.2))], Or.inl ⟨fun z => (fun z => h45 ((lp_longs d (by decide) (by decide)).mpr z.2.2.2)) z.1, rfl⟩⟩
theorem lm_road (a b d : Int32) (hP : P ≤ 6) (hL : L ≤ 3) (hR : R ≤ 15) : la_CI ω yX5_road cX5_road 4 (some .int) (la_rm 2) [.ref (ad 0), .int a, .int b, .int d] (lm_W ω.2.2 ad ((th, S, T, P, R, L, B, Kd, lt, C), (ra, rb, rl, fa), (aa, su), (cp, cl, cf, ck, cm, ct), (le, tr, re), (bh, so, br, rs, ce), (wh, wy))) (lm_W ω.2.2 ad) (fun (r : Int32) (u : lm_S) => (r = lp_rdA P R L a.toInt64 b.toInt64 d.toInt64 ∧ ((¬ lp_rdGo P R L a.toInt64 b.toInt64 d.toInt64 ∧ u = ((nI 0, S, T, P, R, L, B, Kd, lt, C), (ra, rb, rl, fa), (aa, su), (cp, cl, cf, ck, cm, ct), (le, tr, re), (bh, so, br, rs, ce), (wh, wy))) ∨ (lp_rdGo P R L a.toInt64 b.toInt64 d.toInt64 ∧ u = ((nI 0, S, T, P, R + 1, L, B, Kd, lt, C), (va_up ra R a.toInt64.toInt.toNat, va_up rb R b.toInt64.toInt.toNat, va_up rl R d.toInt64.toInt.toNat, fa), (aa, su), (cp, cl, cf, ck, cm, ct), (le, tr, re), (bh, so, br, rs, ce), (wh, wy)))))) := by
  refine la_CI_of (by decide) [some (.ref (ad 0)), some (.int (a)), some (.int (b)), some (.int (d))] rfl rfl (Nat.le_of_ble_eq_true rfl) ?_
  intro κ K hret
  refine la_aload_n K dX5_road_0 rfl ?_
  refine la_iconst K dX5_road_1 la_ki_0 ?_
  refine lm_p_th K q827 dX5_road_2 ?_
  refine la_aload_n K dX5_road_5 rfl ?_
  refine la_iload_n K dX5_road_6 rfl ?_
  refine la_i2l K dX5_road_7 rfl ?_
  refine la_iload_n K dX5_road_8 rfl ?_
  refine la_i2l K dX5_road_9 rfl ?_
  refine la_iload_n K dX5_road_10 rfl ?_
  refine la_i2l K dX5_road_11 rfl ?_
  refine la_callVi0 K ok_X5_addRoad q933 (lm_addRoad _ _ _ hP hL hR) 0 rfl rfl rfl rfl rfl (Nat.le_of_ble_eq_true rfl) ⟨Nat.le_of_ble_eq_true rfl, Nat.le_of_ble_eq_true rfl⟩ ⟨Nat.zero_le _, Nat.zero_le _⟩ dX5_road_12 (fun r12 u12 p12 => ?_)
  exact hret _ _ _ _ dX5_road_15 p12
theorem lm_apart (a b : Int32) (hP : P ≤ 6) (hR : R ≤ 15) (hro : ∀ k, k < R → ra k < 6 ∧ rb k < 6 ∧ ¬ ra k = rb k ∧ rl k ≤ 100) : la_CI ω yX5_apart cX5_apart 3 (some .int) (la_rm 2) [.ref (ad 0), .int a, .int b] (lm_W ω.2.2 ad ((th, S, T, P, R, L, B, Kd, lt, C), (ra, rb, rl, fa), (aa, su), (cp, cl, cf, ck, cm, ct), (le, tr, re), (bh, so, br, rs, ce), (wh, wy))) (lm_W ω.2.2 ad) (fun (r : Int32) (u : lm_S) => r = lp_apA 100000000 P (lp_ds 100000000 ra rb rl R 6) a b ∧ ∃ fa', u = ((nI 0, S, T, P, R, L, B, Kd, lt, C), (ra, rb, rl, fa'), (aa, su), (cp, cl, cf, ck, cm, ct), (le, tr, re), (bh, so, br, rs, ce), (wh, wy)) ∧ (fa' = fa ∨ ∀ a b, a < 6 → b < 6 → fa' (6 * a + b) = (lp_ds 100000000 ra rb rl R 6) a b)) := by
  refine la_CI_of (by decide) [some (.ref (ad 0)), some (.int (a)), some (.int (b))] rfl rfl (Nat.le_of_ble_eq_true rfl) ?_
  intro κ K hret
  refine la_aload_n K dX5_apart_0 rfl ?_
  refine la_iconst K dX5_apart_1 la_ki_0 ?_
  refine lm_p_th K q827 dX5_apart_2 ?_
  refine la_aload_n K dX5_apart_5 rfl ?_
  refine la_iload_n K dX5_apart_6 rfl ?_
  refine la_callVp K ok_X5_isPlace q945 (lm_isPlace _ hP) 0 rfl rfl rfl rfl rfl (Nat.le_of_ble_eq_true rfl) ⟨Nat.le_of_ble_eq_true rfl, Nat.le_of_ble_eq_true rfl⟩ ⟨Nat.zero_le _, Nat.zero_le _⟩ dX5_apart_7 ?_
  refine la_if_eqC K 21 dX5_apart_10 rfl (fun h10 => ?_) (fun h10 => ?_)
  · refine la_iconst K dX5_apart_21 la_ki_m1 ?_
    exact hret _ _ _ _ dX5_apart_22 ⟨by unfold lp_apA; rw [if_neg (fun z => h10 z.1)], _, rfl, Or.inl rfl⟩
  · refine la_aload_n K dX5_apart_13 rfl ?_
    refine la_iload_n K dX5_apart_14 rfl ?_
    refine la_callVp K ok_X5_isPlace q945 (lm_isPlace _ hP) 0 rfl rfl rfl rfl rfl (Nat.le_of_ble_eq_true rfl) ⟨Nat.le_of_ble_eq_true rfl, Nat.le_of_ble_eq_true rfl⟩ ⟨Nat.zero_le _, Nat.zero_le _⟩ dX5_apart_15 ?_
    refine la_if_neC K 23 dX5_apart_18 rfl (fun h18 => ?_) (fun h18 => ?_)
    · obtain ⟨a, ha, rfl⟩ := lp_in_N h10 (by omega)
      obtain ⟨b, hb, rfl⟩ := lp_in_N h18 (by omega)
      refine la_aload_n K dX5_apart_23 rfl ?_
      refine la_callVv0 K ok_X5_measures q949 (lm_measures hR hro) 0 rfl rfl rfl rfl rfl (Nat.le_of_ble_eq_true rfl) ⟨Nat.le_of_ble_eq_true rfl, Nat.le_of_ble_eq_true rfl⟩ ⟨Nat.zero_le _, Nat.zero_le _⟩ dX5_apart_24 (fun u24 p24 => ?_)
      obtain ⟨fa1, rfl, hfa⟩ := p24
      refine la_aload_n K dX5_apart_27 rfl ?_
      refine lm_g_fa K q835 dX5_apart_28 ?_
      refine la_bipush K dX5_apart_31 la_kb_6 ?_
      refine la_iload_n K dX5_apart_33 rfl ?_
      refine la_imulN K dX5_apart_34 ?_
      refine la_iload_n K dX5_apart_35 rfl ?_
      refine la_iaddN K dX5_apart_36 ?_
      refine lm_ld_fa K (by omega) dX5_apart_37 ?_
      refine la_ldc K q953 la_kl_100000000 dX5_apart_38 ?_
      refine la_icmp_ltN K 48 dX5_apart_40 rfl (by have := hfa a b (by omega) (by omega); have := lp_ds_le (I := 100000000) (fr := ra) (to := rb) (ln := rl) (R := R) 6 a b; omega) (by have := hfa a b (by omega) (by omega); have := lp_ds_le (I := 100000000) (fr := ra) (to := rb) (ln := rl) (R := R) 6 a b; omega) (fun h40 => ?_) (fun h40 => ?_)
      · refine la_aload_n K dX5_apart_48 rfl ?_
        refine lm_g_fa K q835 dX5_apart_49 ?_
        refine la_bipush K dX5_apart_52 la_kb_6 ?_
        refine la_iload_n K dX5_apart_54 rfl ?_
        refine la_imulN K dX5_apart_55 ?_
        refine la_iload_n K dX5_apart_56 rfl ?_
        refine la_iaddN K dX5_apart_57 ?_
        refine lm_ld_fa K (by omega) dX5_apart_58 ?_
        exact hret _ _ _ _ dX5_apart_59 ⟨by unfold lp_apA; rw [if_pos ⟨h10, h18⟩, nI_clamp (by omega), nI_clamp (by omega), ← hfa a b (by omega) (by omega), if_neg (by omega)], _, rfl, Or.inr hfa⟩
      · refine la_bipush K dX5_apart_43 la_kb_m9 ?_
        refine la_goto K 59 dX5_apart_45 rfl ?_
        exact hret _ _ _ _ dX5_apart_59 ⟨by unfold lp_apA; rw [if_pos ⟨h10, h18⟩, nI_clamp (by omega), nI_clamp (by omega), ← hfa a b (by omega) (by omega), if_pos (by omega)], _, rfl, Or.inr hfa⟩
    · refine la_iconst K dX5_apart_21 la_ki_m1 ?_
      exact hret _ _ _ _ dX5_apart_22 ⟨by unfold lp_apA; rw [if_neg (fun z => h18 z.2)], _, rfl, Or.inl rfl⟩
end LM2
