/-! THE MODEL's METHODS, part 6: begin, cruel, ask, what would be least. Printed by m6.py. -/
section LM6
variable {ω : la_O} {ad : Nat → Nat} {th S lt : Int32} {T : Int64} {P R L B Kd C : Nat} {ra rb rl fa aa su cp cl cf ck cm le tr re bh so br wh wy : Nat → Nat} {ct rs : Nat → Int32} {ce : Nat → Int64}
set_option maxHeartbeats 4000000 in
theorem lm_begin (n s : Int32) (hJ : lm_J ((th, S, T, P, R, L, B, Kd, lt, C), (ra, rb, rl, fa), (aa, su), (cp, cl, cf, ck, cm, ct), (le, tr, re), (bh, so, br, rs, ce), (wh, wy))) : la_CI ω yX5_begin cX5_begin 4 (some .int) (la_rm 2) [.ref (ad 0), .int n, .int s] (lm_W ω.2.2 ad ((th, S, T, P, R, L, B, Kd, lt, C), (ra, rb, rl, fa), (aa, su), (cp, cl, cf, ck, cm, ct), (le, tr, re), (bh, so, br, rs, ce), (wh, wy))) (lm_W ω.2.2 ad) (fun (r : Int32) (u : lm_S) => (¬ lp_bgOk P n s ∧ r = -1 ∧ u = ((nI 0, S, T, P, R, L, B, Kd, lt, C), (ra, rb, rl, fa), (aa, su), (cp, cl, cf, ck, cm, ct), (le, tr, re), (bh, so, br, rs, ce), (wh, wy))) ∨ (lp_bgOk P n s ∧ (lp_torn 100000000 P (lp_ds 100000000 ra rb rl R 6)) ∧ r = -2 ∧ ∃ fa', u = ((nI 0, S, T, P, R, L, B, Kd, lt, C), (ra, rb, rl, fa'), (aa, su), (cp, cl, cf, ck, cm, ct), (le, tr, re), (bh, so, br, rs, ce), (wh, wy)) ∧ lm_J u) ∨ (∃ k x, n = nI k ∧ 1 ≤ k ∧ k ≤ 3 ∧ s = nI x ∧ x < 2 ^ 31 ∧ lp_sd P k x ∧ ¬ (lp_torn 100000000 P (lp_ds 100000000 ra rb rl R 6)) ∧ r = nI 1 ∧ ∃ (lt' : Int32) (fa' aa' su' le' : Nat → Nat), u = ((nI 0, S, T, P, R, k, x, Kd, lt', 0), (ra, rb, rl, fa'), (aa', su'), (cp, cl, cf, ck, cm, ct), (le', tr, re), (bh, so, br, rs, ce), (wh, wy)) ∧ lm_J u)) := by
  refine la_CI_of (by decide) [some (.ref (ad 0)), some (.int (n)), some (.int (s)), none] rfl rfl (Nat.le_of_ble_eq_true rfl) ?_
  intro κ K hret
  have hJx : lm_Jx P R L B C Kd lt ra rb rl fa aa su cp cl cf ck cm ct le tr := hJ
  have hJ2 := hJx
  obtain ⟨hP, hR, hro, hL3, hC12, hKd, hLC, hle, htr, hDay⟩ := hJ2
  refine la_aload_n K dX5_begin_0 rfl ?_
  refine la_iconst K dX5_begin_1 la_ki_0 ?_
  refine lm_p_th K q827 dX5_begin_2 ?_
  refine la_iload_n K dX5_begin_5 rfl ?_
  refine la_i2l K dX5_begin_6 rfl ?_
  refine la_lconst K dX5_begin_7 la_kn_1 ?_
  refine la_ldc2 K q962 la_kL_3 dX5_begin_8 ?_
  refine la_callSp K ok_X5_in q937 (lm_in _ _ _ _) rfl rfl rfl (Nat.le_of_ble_eq_true rfl) ⟨Nat.le_of_ble_eq_true rfl, Nat.le_of_ble_eq_true rfl⟩ ⟨Nat.zero_le _, Nat.zero_le _⟩ dX5_begin_11 ?_
  refine la_if_eqC K 26 dX5_begin_14 rfl (fun h14 => ?_) (fun h14 => ?_)
  · refine la_iconst K dX5_begin_26 la_ki_m1 ?_
    exact hret _ _ _ _ dX5_begin_27 (Or.inl ⟨fun ⟨k, x, e1, e2, e3, _⟩ => h14 ((lp_ints n (by decide) (by decide)).mpr (by rw [e1]; exact (lp_inI_nI (by omega)).mpr ⟨e2, e3⟩)), rfl, rfl⟩)
  · obtain ⟨k, hk1, hk3, rfl⟩ := lp_inI_N ((lp_ints n (by decide) (by decide)).mp h14) (by decide)
    refine la_aload_n K dX5_begin_17 rfl ?_
    refine la_iload_n K dX5_begin_18 rfl ?_
    refine la_iload_n K dX5_begin_19 rfl ?_
    refine la_callVp K ok_X5_isStand q963 (lm_isStand _ hk3 hP) 0 rfl rfl rfl rfl rfl (Nat.le_of_ble_eq_true rfl) ⟨Nat.le_of_ble_eq_true rfl, Nat.le_of_ble_eq_true rfl⟩ ⟨Nat.zero_le _, Nat.zero_le _⟩ dX5_begin_20 ?_
    refine la_if_neB K 28 dX5_begin_23 rfl (fun h23 => ?_) (fun h23 => ?_)
    · obtain ⟨x, rfl, hx2, hx3⟩ := h23
      refine la_aload_n K dX5_begin_28 rfl ?_
      refine la_callVi0 K ok_X5_isTorn q967 (lm_isTorn hP hR (lm_roads hJx)) 0 rfl rfl rfl rfl rfl (Nat.le_of_ble_eq_true rfl) ⟨Nat.le_of_ble_eq_true rfl, Nat.le_of_ble_eq_true rfl⟩ ⟨Nat.zero_le _, Nat.zero_le _⟩ dX5_begin_29 (fun r29 u29 p29 => ?_)
      obtain ⟨fa1, rfl, hfa1, rfl⟩ := p29
      refine la_if_eqB K 38 dX5_begin_32 rfl (fun h32 => ?_) (fun h32 => ?_)
      · refine la_aload_n K dX5_begin_38 rfl ?_
        refine la_iload_n K dX5_begin_39 rfl ?_
        refine lm_p_L K q836 dX5_begin_40 ?_
        refine la_aload_n K dX5_begin_43 rfl ?_
        refine la_iload_n K dX5_begin_44 rfl ?_
        refine lm_p_B K q837 dX5_begin_45 ?_
        refine la_aload_n K dX5_begin_48 rfl ?_
        refine la_iconst K dX5_begin_49 la_ki_0 ?_
        refine lm_p_C K q842 dX5_begin_50 ?_
        refine la_aload_n K dX5_begin_53 rfl ?_
        refine la_iconst K dX5_begin_54 la_ki_m1 ?_
        refine lm_p_lt K q841 dX5_begin_55 ?_
        refine la_iconst K dX5_begin_58 la_ki_0 ?_
        refine la_istore3 K dX5_begin_59 rfl ?_
        have lp : ¬ (lp_torn 100000000 P (lp_ds 100000000 ra rb rl R 6)) → ∀ (j i : Nat) (aa1 su1 : Nat → Nat), i ≤ 3 → 3 < i + j → (∀ q, q < i → aa1 q = lp_dg x q) → (∀ q, q < i → su1 q = 0) → la_At ω κ (0, 0) 60 [some (.ref (ad 0)), some (.int (nI (k))), some (.int (nI (x))), some (.int (nI (i)))] [] (lm_W ω.2.2 ad ((nI 0, S, T, P, R, k, x, Kd, (-1), 0), (ra, rb, rl, fa1), (aa1, su1), (cp, cl, cf, ck, cm, ct), (le, tr, re), (bh, so, br, rs, ce), (wh, wy))) := by
          intro h32 j
          induction j with
          | zero => intro i aa1 su1 h1 h2; omega
          | succ j ih =>
            intro i aa1 su1 h1 h2 ha hs
            refine la_iload_n K dX5_begin_60 rfl ?_
            refine la_iconst K dX5_begin_61 la_ki_3 ?_
            refine la_icmp_geN K 92 dX5_begin_62 rfl (by omega) (by omega) (fun h62 => ?_) (fun h62 => ?_)
            · refine la_aload_n K dX5_begin_92 rfl ?_
              refine la_aload_n K dX5_begin_93 rfl ?_
              refine lm_g_le K q849 dX5_begin_94 ?_
              refine la_callVv0 K ok_X5_starts q971 (lm_startsL (by have := lp_sd_lt hx3 hk3; omega)) 0 rfl rfl rfl rfl rfl (Nat.le_of_ble_eq_true rfl) ⟨Nat.le_of_ble_eq_true rfl, Nat.le_of_ble_eq_true rfl⟩ ⟨Nat.zero_le _, Nat.zero_le _⟩ dX5_begin_97 (fun u97 p97 => ?_)
              obtain ⟨f, rfl, hl1, hl2⟩ := p97
              refine la_iconst K dX5_begin_100 la_ki_1 ?_
              exact hret _ _ _ _ dX5_begin_101 (Or.inr (Or.inr ⟨k, x, rfl, hk1, hk3, rfl, hx2, hx3, h32, rfl, _, _, _, _, _, rfl, lm_J_new hJx hfa1 h32 hk1 hk3 hx3 (fun q hq => ha q (by omega)) (fun q hq => hs q (by omega)) hl1 hl2⟩))
            · refine la_aload_n K dX5_begin_65 rfl ?_
              refine lm_g_aa K q839 dX5_begin_66 ?_
              refine la_iload_n K dX5_begin_69 rfl ?_
              refine la_iload_n K dX5_begin_70 rfl ?_
              refine la_iconst K dX5_begin_71 la_ki_3 ?_
              refine la_iload_n K dX5_begin_72 rfl ?_
              refine la_imulN K dX5_begin_73 ?_
              refine la_ishrN K dX5_begin_74 (by omega) (by omega) ?_
              refine la_bipush K dX5_begin_75 la_kb_7 ?_
              refine la_iand7 K dX5_begin_77 (by have := Nat.div_le_self x (2 ^ (3 * i)); omega) ?_
              refine lm_st_aa K (by omega) dX5_begin_78 ?_
              refine la_aload_n K dX5_begin_79 rfl ?_
              refine lm_g_su K q840 dX5_begin_80 ?_
              refine la_iload_n K dX5_begin_83 rfl ?_
              refine la_iconst K dX5_begin_84 la_ki_0 ?_
              refine lm_st_su K (by omega) dX5_begin_85 ?_
              refine la_iinc3 K dX5_begin_86 (la_inc_N _) rfl ?_
              refine la_goto K 60 dX5_begin_89 rfl ?_
              exact ih (i + 1) _ _ (by omega) (by omega) (lt_s (fun q hq => by rw [va_up_ne _ _ (by omega)]; exact ha q hq) (by rw [va_up_self]; rfl)) (lt_s (fun q hq => by rw [va_up_ne _ _ (by omega)]; exact hs q hq) (by rw [va_up_self]))
        exact lp h32 4 0 _ _ (by omega) (by omega) (fun q hq => by omega) (fun q hq => by omega)
      · refine la_bipush K dX5_begin_35 la_kb_m2 ?_
        exact hret _ _ _ _ dX5_begin_37 (Or.inr (Or.inl ⟨⟨k, x, rfl, hk1, hk3, rfl, hx2, hx3⟩, h32, rfl, _, rfl, lm_J_fa hJx hfa1⟩))
    · refine la_iconst K dX5_begin_26 la_ki_m1 ?_
      exact hret _ _ _ _ dX5_begin_27 (Or.inl ⟨fun ⟨k', x, e1, e2, e3, e4, e5, e6⟩ => h23 ⟨x, e4, e5, by rw [(nI_eq (by omega) (by omega)).mp e1]; exact e6⟩, rfl, rfl⟩)
theorem lp_nn {p : Nat} (h : p < 2 ^ 31) : ¬ nI p = -9 := fun e => by
  have a := nI_toInt h
  rw [e] at a
  have b : (-9 : Int32).toInt = -9 := by decide
  omega
theorem la_dec_R (a : Nat) : nI a + Int32.ofInt (-1) = nI a - nI 1 := by
  rw [show Int32.ofInt (-1) = -nI 1 by decide +kernel, Int32.sub_eq_add_neg]
set_option maxHeartbeats 4000000 in
theorem lm_cruel (hJ : lm_J ((th, S, T, P, R, L, B, Kd, lt, C), (ra, rb, rl, fa), (aa, su), (cp, cl, cf, ck, cm, ct), (le, tr, re), (bh, so, br, rs, ce), (wh, wy))) : la_CI ω yX5_cruel cX5_cruel 3 (some .int) (la_rm 5) [.ref (ad 0)] (lm_W ω.2.2 ad ((th, S, T, P, R, L, B, Kd, lt, C), (ra, rb, rl, fa), (aa, su), (cp, cl, cf, ck, cm, ct), (le, tr, re), (bh, so, br, rs, ce), (wh, wy))) (lm_W ω.2.2 ad) (fun (r : Int32) (u : lm_S) => ((L = 0 ∨ ∀ p, p < P → lp_hs L (lp_sn B cp cl C) p) ∧ r = -2 ∧ u = ((nI 0, S, T, P, R, L, B, Kd, lt, C), (ra, rb, rl, fa), (aa, su), (cp, cl, cf, ck, cm, ct), (le, tr, re), (bh, so, br, rs, ce), (wh, wy))) ∨ (1 ≤ L ∧ ∃ p, lp_free P L (lp_sn B cp cl C) p ∧ ((C = 12 ∧ r = -3 ∧ u = ((nI 0, S, T, P, R, L, B, Kd, lt, C), (ra, rb, rl, fa), (aa, su), (cp, cl, cf, ck, cm, ct), (le, tr, re), (bh, so, br, rs, ce), (wh, wy))) ∨ (C < 12 ∧ r = nI p ∧ ∃ (lt' : Int32) (aa' su' cf' cm' : Nat → Nat) (ct' : Nat → Int32) (le' : Nat → Nat), u = ((nI 0, S, (lp_trc Kd L (lp_hs L (lp_sn B cp cl C) p) T), P, R, L, B, Kd, lt', C + 1), (ra, rb, rl, fa), (aa', su'), (va_up cp C p, va_up cl C (lp_cho L fa B cp cl ck C Kd p), cf', va_up ck C Kd, cm', ct'), (le', tr, re), (bh, so, br, rs, ce), (wh, wy)) ∧ lm_J u)))) := by
  refine la_CI_of (by decide) [some (.ref (ad 0)), none, none] rfl rfl (Nat.le_of_ble_eq_true rfl) ?_
  intro κ K hret
  have hJx : lm_Jx P R L B C Kd lt ra rb rl fa aa su cp cl cf ck cm ct le tr := hJ
  have hJ2 := hJx
  obtain ⟨hP, hR, hro, hL3, hC12, hKd, hLC, hle, htr, hDay⟩ := hJ2
  by_cases hL1 : 1 ≤ L
  · skip
    have hD := hDay hL1
    have hg : ∀ s, s < 512 → le (512 * C + s) = lp_rw L fa B cp C s := fun s hs => hD.2.2.2.2.2.2.2.2.2.2.2.2 C (Nat.le_refl C) s hs
    have hS := lm_aaP hJx hD
    have hw : ∀ k, k < L → aa k < P := fun k hk => by rw [hD.2.2.2.2.2.2.1 k hk]; exact hS.2 k hk
    have hfa := lm_fa36 hD
    have htm := lp_tm_le (L := L) (B := B) (cp := cp) (cl := cl) (ck := ck) hL3 hD.2.2.1 C (Nat.le_refl C)
    have hsu : ∀ k, k < L → su k ≤ 100000000 := fun k hk => by
      rw [hD.2.2.2.2.2.2.2.1 k hk]
      have := lp_sm_le hP hL3 hD.1 hD.2.1 hD.2.2.1 (lm_fa6 hJx hD) k C (Nat.le_refl C)
      omega
    have lp : ∀ (j : Nat) (x1 : Int32), j ≤ P → ((x1 = -9 ∧ ∀ p, j ≤ p → p < P → lp_hs L (lp_sn B cp cl C) p) ∨ (∃ p, x1 = nI p ∧ j ≤ p ∧ p < P ∧ ¬ lp_hs L (lp_sn B cp cl C) p ∧ ∀ q, j ≤ q → q < p → lp_hs L (lp_sn B cp cl C) q)) → la_At ω κ (0, 0) 15 [some (.ref (ad 0)), some (.int x1), some (.int (nI j - nI 1))] [] (lm_W ω.2.2 ad ((nI 0, S, T, P, R, L, B, Kd, lt, C), (ra, rb, rl, fa), (aa, su), (cp, cl, cf, ck, cm, ct), (le, tr, re), (bh, so, br, rs, ce), (wh, wy))) := by
      intro j
      induction j with
      | zero =>
        intro x1 hj hI
        have e : nI 0 - nI 1 = -1 := by decide +kernel
        rw [e]
        refine la_iload_n K dX5_cruel_15 rfl ?_
        refine la_if_lt K 50 dX5_cruel_16 rfl (fun _ => ?_) (fun h => absurd (by decide) h)
        rcases hI with ⟨rfl, h0⟩ | ⟨p, rfl, h1, h2, h3, h4⟩
        · skip
          refine la_iload_n K dX5_cruel_50 rfl ?_
          refine la_bipush K dX5_cruel_51 la_kb_m9 ?_
          refine la_icmp_ne K 59 dX5_cruel_53 rfl (fun h53 => absurd rfl h53) (fun h53 => ?_)
          refine la_bipush K dX5_cruel_56 la_kb_m2 ?_
          exact hret _ _ _ _ dX5_cruel_58 (Or.inl ⟨Or.inr (fun p hp => h0 p (by omega) hp), rfl, rfl⟩)
        · have hf : lp_free P L (lp_sn B cp cl C) p := ⟨h2, h3, fun q hq => h4 q (by omega) hq⟩
          refine la_iload_n K dX5_cruel_50 rfl ?_
          refine la_bipush K dX5_cruel_51 la_kb_m9 ?_
          refine la_icmp_ne K 59 dX5_cruel_53 rfl (fun h53 => ?_) (fun h53 => absurd h53 (lp_nn (by omega)))
          refine la_aload_n K dX5_cruel_59 rfl ?_
          refine lm_g_C K q842 dX5_cruel_60 ?_
          refine la_bipush K dX5_cruel_63 la_kb_12 ?_
          refine la_icmp_neN K 71 dX5_cruel_65 rfl (by omega) (by omega) (fun h65 => ?_) (fun h65 => ?_)
          · refine la_aload_n K dX5_cruel_71 rfl ?_
            refine la_iload_n K dX5_cruel_72 rfl ?_
            refine la_callVi0 K ok_X5_comes q987 (lm_comes hJ hL1 (by omega) hf.1) 0 rfl rfl rfl rfl rfl (Nat.le_of_ble_eq_true rfl) ⟨Nat.le_of_ble_eq_true rfl, Nat.le_of_ble_eq_true rfl⟩ ⟨Nat.zero_le _, Nat.zero_le _⟩ dX5_cruel_73 (fun r73 u73 p73 => ?_)
            obtain ⟨-, hcom⟩ := p73
            refine la_istore2 K dX5_cruel_76 rfl ?_
            refine la_iload_n K dX5_cruel_77 rfl ?_
            exact hret _ _ _ _ dX5_cruel_78 (Or.inr ⟨hL1, p, hf, Or.inr ⟨by omega, rfl, hcom⟩⟩)
          · refine la_bipush K dX5_cruel_68 la_kb_m3 ?_
            exact hret _ _ _ _ dX5_cruel_70 (Or.inr ⟨hL1, p, hf, Or.inl ⟨h65, rfl, rfl⟩⟩)
      | succ j ih =>
        intro x1 hj hI
        rw [pk_sub (by omega), show j + 1 - 1 = j by omega]
        refine la_iload_n K dX5_cruel_15 rfl ?_
        refine la_if_ltN K 50 dX5_cruel_16 rfl (by omega) ?_
        refine la_aload_n K dX5_cruel_19 rfl ?_
        refine lm_g_L K q836 dX5_cruel_20 ?_
        refine la_if_leN K 50 dX5_cruel_23 rfl (by omega) (fun h23 => absurd h23 (by omega)) (fun h23 => ?_)
        refine la_aload_n K dX5_cruel_26 rfl ?_
        refine la_aload_n K dX5_cruel_27 rfl ?_
        refine lm_g_aa K q839 dX5_cruel_28 ?_
        refine la_iload_n K dX5_cruel_31 rfl ?_
        refine la_callVp K ok_X5_isThere q995 (lm_isThereA hP hL3 (by omega) hw) 0 rfl rfl rfl rfl rfl (Nat.le_of_ble_eq_true rfl) ⟨Nat.le_of_ble_eq_true rfl, Nat.le_of_ble_eq_true rfl⟩ ⟨Nat.zero_le _, Nat.zero_le _⟩ dX5_cruel_32 ?_
        refine la_if_eqB K 42 dX5_cruel_35 rfl (fun h35 => ?_) (fun h35 => ?_)
        · refine la_iload_n K dX5_cruel_42 rfl ?_
          refine la_istore1 K dX5_cruel_43 rfl ?_
          refine la_iinc2 K dX5_cruel_44 (la_dec_R _) rfl ?_
          refine la_goto K 15 dX5_cruel_47 rfl ?_
          exact ih _ (by omega) (Or.inr ⟨j, rfl, Nat.le_refl j, by omega, fun z => h35 ((lm_there hD j).mpr z), fun q h5 h6 => by omega⟩)
        · refine la_iload_n K dX5_cruel_38 rfl ?_
          refine la_goto K 43 dX5_cruel_39 rfl ?_
          refine la_istore1 K dX5_cruel_43 rfl ?_
          refine la_iinc2 K dX5_cruel_44 (la_dec_R _) rfl ?_
          refine la_goto K 15 dX5_cruel_47 rfl ?_
          refine ih _ (by omega) ?_
          rcases hI with ⟨e, h0⟩ | ⟨p, e, h1, h2, h3, h4⟩
          · refine Or.inl ⟨e, fun p h5 h6 => ?_⟩
            by_cases q : p = j
            · rw [q]; exact (lm_there hD j).mp h35
            · exact h0 p (by omega) h6
          · refine Or.inr ⟨p, e, by omega, h2, h3, fun q h5 h6 => ?_⟩
            by_cases z : q = j
            · rw [z]; exact (lm_there hD j).mp h35
            · exact h4 q (by omega) h6
    refine la_aload_n K dX5_cruel_0 rfl ?_
    refine la_iconst K dX5_cruel_1 la_ki_0 ?_
    refine lm_p_th K q827 dX5_cruel_2 ?_
    refine la_bipush K dX5_cruel_5 la_kb_m9 ?_
    refine la_istore1 K dX5_cruel_7 rfl ?_
    refine la_aload_n K dX5_cruel_8 rfl ?_
    refine lm_g_P K q830 dX5_cruel_9 ?_
    refine la_iconst K dX5_cruel_12 la_ki_1 ?_
    refine la_isub K dX5_cruel_13 ?_
    refine la_istore2 K dX5_cruel_14 rfl ?_
    exact lp P _ (by omega) (Or.inl ⟨rfl, fun p h1 h2 => by omega⟩)
  · have h0 : L = 0 := by omega
    subst h0
    refine la_aload_n K dX5_cruel_0 rfl ?_
    refine la_iconst K dX5_cruel_1 la_ki_0 ?_
    refine lm_p_th K q827 dX5_cruel_2 ?_
    refine la_bipush K dX5_cruel_5 la_kb_m9 ?_
    refine la_istore1 K dX5_cruel_7 rfl ?_
    refine la_aload_n K dX5_cruel_8 rfl ?_
    refine lm_g_P K q830 dX5_cruel_9 ?_
    refine la_iconst K dX5_cruel_12 la_ki_1 ?_
    refine la_isub K dX5_cruel_13 ?_
    refine la_istore2 K dX5_cruel_14 rfl ?_
    refine la_iload_n K dX5_cruel_15 rfl ?_
    refine la_if_lt K 50 dX5_cruel_16 rfl (fun h16 => ?_) (fun h16 => ?_)
    · refine la_iload_n K dX5_cruel_50 rfl ?_
      refine la_bipush K dX5_cruel_51 la_kb_m9 ?_
      refine la_icmp_ne K 59 dX5_cruel_53 rfl (fun h53 => absurd rfl h53) (fun h53 => ?_)
      refine la_bipush K dX5_cruel_56 la_kb_m2 ?_
      exact hret _ _ _ _ dX5_cruel_58 (Or.inl ⟨Or.inl rfl, rfl, rfl⟩)
    · refine la_aload_n K dX5_cruel_19 rfl ?_
      refine lm_g_L K q836 dX5_cruel_20 ?_
      refine la_if_leN K 50 dX5_cruel_23 rfl (by omega) (fun h23 => ?_) (fun h23 => absurd h23 (by omega))
      refine la_iload_n K dX5_cruel_50 rfl ?_
      refine la_bipush K dX5_cruel_51 la_kb_m9 ?_
      refine la_icmp_ne K 59 dX5_cruel_53 rfl (fun h53 => absurd rfl h53) (fun h53 => ?_)
      refine la_bipush K dX5_cruel_56 la_kb_m2 ?_
      exact hret _ _ _ _ dX5_cruel_58 (Or.inl ⟨Or.inl rfl, rfl, rfl⟩)
set_option maxHeartbeats 4000000 in
theorem lm_ask (x : Int32) (hJ : lm_J ((th, S, T, P, R, L, B, Kd, lt, C), (ra, rb, rl, fa), (aa, su), (cp, cl, cf, ck, cm, ct), (le, tr, re), (bh, so, br, rs, ce), (wh, wy))) : la_CI ω yX5_ask cX5_ask 3 (some .int) (la_rm 4) [.ref (ad 0), .int x] (lm_W ω.2.2 ad ((th, S, T, P, R, L, B, Kd, lt, C), (ra, rb, rl, fa), (aa, su), (cp, cl, cf, ck, cm, ct), (le, tr, re), (bh, so, br, rs, ce), (wh, wy))) (lm_W ω.2.2 ad) (fun (r : Int32) (u : lm_S) => (¬ lp_in x P ∧ r = -1 ∧ u = ((nI 0, S, T, P, R, L, B, Kd, lt, C), (ra, rb, rl, fa), (aa, su), (cp, cl, cf, ck, cm, ct), (le, tr, re), (bh, so, br, rs, ce), (wh, wy))) ∨ (lp_in x P ∧ L = 0 ∧ r = -2 ∧ u = ((nI 0, S, T, P, R, L, B, Kd, lt, C), (ra, rb, rl, fa), (aa, su), (cp, cl, cf, ck, cm, ct), (le, tr, re), (bh, so, br, rs, ce), (wh, wy))) ∨ (∃ p, x = nI p ∧ p < P ∧ 1 ≤ L ∧ r = nI (lp_cho L fa B cp cl ck C Kd p) ∧ ∃ tr', u = ((nI 0, S, (lp_trc Kd L (lp_hs L (lp_sn B cp cl C) p) T), P, R, L, B, Kd, lt, C), (ra, rb, rl, fa), (aa, su), (cp, cl, cf, ck, cm, ct), (le, tr', re), (bh, so, br, rs, ce), (wh, wy)) ∧ lm_J u)) := by
  refine la_CI_of (by decide) [some (.ref (ad 0)), some (.int (x)), none] rfl rfl (Nat.le_of_ble_eq_true rfl) ?_
  intro κ K hret
  have hJx : lm_Jx P R L B C Kd lt ra rb rl fa aa su cp cl cf ck cm ct le tr := hJ
  have hJ2 := hJx
  obtain ⟨hP, hR, hro, hL3, hC12, hKd, hLC, hle, htr, hDay⟩ := hJ2
  refine la_aload_n K dX5_ask_0 rfl ?_
  refine la_iconst K dX5_ask_1 la_ki_0 ?_
  refine lm_p_th K q827 dX5_ask_2 ?_
  refine la_aload_n K dX5_ask_5 rfl ?_
  refine la_iload_n K dX5_ask_6 rfl ?_
  refine la_callVp K ok_X5_isPlace q945 (lm_isPlace _ hP) 0 rfl rfl rfl rfl rfl (Nat.le_of_ble_eq_true rfl) ⟨Nat.le_of_ble_eq_true rfl, Nat.le_of_ble_eq_true rfl⟩ ⟨Nat.zero_le _, Nat.zero_le _⟩ dX5_ask_7 ?_
  refine la_if_neC K 15 dX5_ask_10 rfl (fun h10 => ?_) (fun h10 => ?_)
  · refine la_aload_n K dX5_ask_15 rfl ?_
    refine lm_g_L K q836 dX5_ask_16 ?_
    refine la_if_neN K 25 dX5_ask_19 rfl (by omega) (fun h19 => ?_) (fun h19 => ?_)
    · obtain ⟨p, hp, rfl⟩ := lp_in_N h10 (by omega)
      have hL1 : 1 ≤ L := by omega
      have hD := hDay hL1
      have hg : ∀ s, s < 512 → le (512 * C + s) = lp_rw L fa B cp C s := fun s hs => hD.2.2.2.2.2.2.2.2.2.2.2.2 C (Nat.le_refl C) s hs
      have hS := lm_aaP hJx hD
      have hw : ∀ k, k < L → aa k < P := fun k hk => by rw [hD.2.2.2.2.2.2.1 k hk]; exact hS.2 k hk
      have hfa := lm_fa36 hD
      have htm := lp_tm_le (L := L) (B := B) (cp := cp) (cl := cl) (ck := ck) hL3 hD.2.2.1 C (Nat.le_refl C)
      have hsu : ∀ k, k < L → su k ≤ 100000000 := fun k hk => by
        rw [hD.2.2.2.2.2.2.2.1 k hk]
        have := lp_sm_le hP hL3 hD.1 hD.2.1 hD.2.2.1 (lm_fa6 hJx hD) k C (Nat.le_refl C)
        omega
      refine la_iconst K dX5_ask_25 la_ki_0 ?_
      refine la_istore2 K dX5_ask_26 rfl ?_
      have lp : ∀ (j s : Nat) (f : Nat → Nat), s ≤ 512 → 512 < s + j → (∀ i, i < s → f i = le (512 * C + i)) → (∀ i, f i ≤ 100000000) → la_At ω κ (0, 0) 27 [some (.ref (ad 0)), some (.int (nI (p))), some (.int (nI (s)))] [] (lm_W ω.2.2 ad ((nI 0, S, T, P, R, L, B, Kd, lt, C), (ra, rb, rl, fa), (aa, su), (cp, cl, cf, ck, cm, ct), (le, f, re), (bh, so, br, rs, ce), (wh, wy))) := by
        intro j
        induction j with
        | zero => intro s f h1 h2; omega
        | succ j ih =>
          intro s f h1 h2 ha hb
          refine la_iload_n K dX5_ask_27 rfl ?_
          refine la_sipush K dX5_ask_28 la_ks_512 ?_
          refine la_icmp_geN K 61 dX5_ask_31 rfl (by omega) (by omega) (fun h31 => ?_) (fun h31 => ?_)
          · have hg2 : ∀ i, i < 512 → f (0 + i) = lp_rw L fa B cp C i := fun i hi => by rw [Nat.zero_add, ha i (by omega)]; exact hg i hi
            have hst : ∀ i, i < 512 → f (0 + i) < 100000000 → lp_sd P L i := fun i hi h => lp_rw_stand hP hL3 hD.1 hD.2.1 C (Nat.le_refl C) i (by rw [← hg2 i hi]; exact h)
            refine la_aload_n K dX5_ask_61 rfl ?_
            refine la_aload_n K dX5_ask_62 rfl ?_
            refine lm_g_aa K q839 dX5_ask_63 ?_
            refine la_aload_n K dX5_ask_66 rfl ?_
            refine lm_g_su K q840 dX5_ask_67 ?_
            refine la_aload_n K dX5_ask_70 rfl ?_
            refine lm_g_lt K q841 dX5_ask_71 ?_
            refine la_aload_n K dX5_ask_74 rfl ?_
            refine lm_g_tr K q850 dX5_ask_75 ?_
            refine la_iconst K dX5_ask_78 la_ki_0 ?_
            refine la_iload_n K dX5_ask_79 rfl ?_
            refine la_callVi0 K ok_X5_chosen q991 (lm_chosenAT (x := lp_sn B cp cl C) hP hL1 hL3 hp hfa hw hsu hKd hD.2.2.2.2.2.2.2.2.1 (by omega) (by omega) hb hst hS hD.2.2.2.2.2.2.1 (fun _ _ _ => lm_hah hJx hL1 hD hp hg2)) 0 rfl rfl rfl rfl rfl (Nat.le_of_ble_eq_true rfl) ⟨Nat.le_of_ble_eq_true rfl, Nat.le_of_ble_eq_true rfl⟩ ⟨Nat.zero_le _, Nat.zero_le _⟩ dX5_ask_80 (fun r80 u80 p80 => ?_)
            obtain ⟨hr, f, T1, hT1, rfl, hk1, hf1⟩ := p80
            rw [lm_cho hD p hg2] at hr
            rw [propext (lm_there hD p)] at hT1
            subst hT1
            subst hr
            exact hret _ _ _ _ dX5_ask_83 (Or.inr (Or.inr ⟨p, rfl, hp, hL1, rfl, _, rfl, ⟨hP, hR, hro, hL3, hC12, hKd, hLC, hle, hf1, hDay⟩⟩))
          · refine la_aload_n K dX5_ask_34 rfl ?_
            refine lm_g_tr K q850 dX5_ask_35 ?_
            refine la_iload_n K dX5_ask_38 rfl ?_
            refine la_aload_n K dX5_ask_39 rfl ?_
            refine lm_g_le K q849 dX5_ask_40 ?_
            refine la_sipush K dX5_ask_43 la_ks_512 ?_
            refine la_aload_n K dX5_ask_46 rfl ?_
            refine lm_g_C K q842 dX5_ask_47 ?_
            refine la_imulN K dX5_ask_50 ?_
            refine la_iload_n K dX5_ask_51 rfl ?_
            refine la_iaddN K dX5_ask_52 ?_
            refine lm_ld_le K (by omega) dX5_ask_53 ?_
            refine lm_st_tr K (by omega) dX5_ask_54 ?_
            refine la_iinc2 K dX5_ask_55 (la_inc_N _) rfl ?_
            refine la_goto K 27 dX5_ask_58 rfl ?_
            have hb2 : ∀ i, va_up f s (le (512 * C + s)) i ≤ 100000000 := by
              intro i
              by_cases e : i = s
              · subst e; rw [va_up_self]; exact hle _
              · rw [va_up_ne _ _ e]; exact hb i
            exact ih (s + 1) _ (by omega) (by omega) (lt_s (fun q hq => by rw [va_up_ne _ _ (by omega)]; exact ha q hq) (by rw [va_up_self])) hb2
      exact lp 513 0 _ (by omega) (by omega) (fun i hi => by omega) htr
    · refine la_bipush K dX5_ask_22 la_kb_m2 ?_
      exact hret _ _ _ _ dX5_ask_24 (Or.inr (Or.inl ⟨h10, h19, rfl, rfl⟩))
  · refine la_iconst K dX5_ask_13 la_ki_m1 ?_
    exact hret _ _ _ _ dX5_ask_14 (Or.inl ⟨h10, rfl, rfl⟩)
set_option maxHeartbeats 4000000 in
theorem lm_moves (s t : Int32) (hJ : lm_J ((th, S, T, P, R, L, B, Kd, lt, C), (ra, rb, rl, fa), (aa, su), (cp, cl, cf, ck, cm, ct), (le, tr, re), (bh, so, br, rs, ce), (wh, wy))) : la_CI ω yX5_moves cX5_moves 3 (some .int) (la_rm 2) [.ref (ad 0), .int s, .int t] (lm_W ω.2.2 ad ((th, S, T, P, R, L, B, Kd, lt, C), (ra, rb, rl, fa), (aa, su), (cp, cl, cf, ck, cm, ct), (le, tr, re), (bh, so, br, rs, ce), (wh, wy))) (lm_W ω.2.2 ad) (fun (r : Int32) (u : lm_S) => r = lp_mvA P L fa s t ∧ u = ((nI 0, S, T, P, R, L, B, Kd, lt, C), (ra, rb, rl, fa), (aa, su), (cp, cl, cf, ck, cm, ct), (le, tr, re), (bh, so, br, rs, ce), (wh, wy))) := by
  refine la_CI_of (by decide) [some (.ref (ad 0)), some (.int (s)), some (.int (t))] rfl rfl (Nat.le_of_ble_eq_true rfl) ?_
  intro κ K hret
  have hJx : lm_Jx P R L B C Kd lt ra rb rl fa aa su cp cl cf ck cm ct le tr := hJ
  have hJ2 := hJx
  obtain ⟨hP, hR, hro, hL3, hC12, hKd, hLC, hle, htr, hDay⟩ := hJ2
  refine la_aload_n K dX5_moves_0 rfl ?_
  refine la_iconst K dX5_moves_1 la_ki_0 ?_
  refine lm_p_th K q827 dX5_moves_2 ?_
  refine la_aload_n K dX5_moves_5 rfl ?_
  refine lm_g_L K q836 dX5_moves_6 ?_
  refine la_if_neN K 15 dX5_moves_9 rfl (by omega) (fun h9 => ?_) (fun h9 => ?_)
  · refine la_aload_n K dX5_moves_15 rfl ?_
    refine la_aload_n K dX5_moves_16 rfl ?_
    refine lm_g_L K q836 dX5_moves_17 ?_
    refine la_iload_n K dX5_moves_20 rfl ?_
    refine la_callVp K ok_X5_isStand q963 (lm_isStand _ hL3 hP) 0 rfl rfl rfl rfl rfl (Nat.le_of_ble_eq_true rfl) ⟨Nat.le_of_ble_eq_true rfl, Nat.le_of_ble_eq_true rfl⟩ ⟨Nat.zero_le _, Nat.zero_le _⟩ dX5_moves_21 ?_
    refine la_if_eqB K 48 dX5_moves_24 rfl (fun h24 => ?_) (fun h24 => ?_)
    · refine la_iconst K dX5_moves_48 la_ki_m1 ?_
      exact hret _ _ _ _ dX5_moves_49 ⟨by unfold lp_mvA; rw [if_neg h9, if_neg (fun z => h24 z.1)], rfl⟩
    · refine la_aload_n K dX5_moves_27 rfl ?_
      refine la_aload_n K dX5_moves_28 rfl ?_
      refine lm_g_L K q836 dX5_moves_29 ?_
      refine la_iload_n K dX5_moves_32 rfl ?_
      refine la_callVp K ok_X5_isStand q963 (lm_isStand _ hL3 hP) 0 rfl rfl rfl rfl rfl (Nat.le_of_ble_eq_true rfl) ⟨Nat.le_of_ble_eq_true rfl, Nat.le_of_ble_eq_true rfl⟩ ⟨Nat.zero_le _, Nat.zero_le _⟩ dX5_moves_33 ?_
      refine la_if_eqB K 48 dX5_moves_36 rfl (fun h36 => ?_) (fun h36 => ?_)
      · refine la_iconst K dX5_moves_48 la_ki_m1 ?_
        exact hret _ _ _ _ dX5_moves_49 ⟨by unfold lp_mvA; rw [if_neg h9, if_neg (fun z => h36 z.2)], rfl⟩
      · have hL1 : 1 ≤ L := by omega
        obtain ⟨a, rfl, ha, g1⟩ := id h24
        obtain ⟨b, rfl, hb, g2⟩ := id h36
        refine la_aload_n K dX5_moves_39 rfl ?_
        refine la_iload_n K dX5_moves_40 rfl ?_
        refine la_iload_n K dX5_moves_41 rfl ?_
        refine la_callVp K ok_X5_movesOf q1020 (lm_movesOf hP hL1 hL3 (lm_fa36 (hDay hL1)) g1 g2) 0 rfl rfl rfl rfl rfl (Nat.le_of_ble_eq_true rfl) ⟨Nat.le_of_ble_eq_true rfl, Nat.le_of_ble_eq_true rfl⟩ ⟨Nat.zero_le _, Nat.zero_le _⟩ dX5_moves_42 ?_
        refine la_goto K 49 dX5_moves_45 rfl ?_
        exact hret _ _ _ _ dX5_moves_49 ⟨by unfold lp_mvA; rw [if_neg h9, if_pos ⟨h24, h36⟩, nI_clamp ha, nI_clamp hb], rfl⟩
  · refine la_bipush K dX5_moves_12 la_kb_m2 ?_
    exact hret _ _ _ _ dX5_moves_14 ⟨by unfold lp_mvA; rw [if_pos h9], rfl⟩
set_option maxHeartbeats 4000000 in
theorem lm_work (n s : Int32) (hJ : lm_J ((th, S, T, P, R, L, B, Kd, lt, C), (ra, rb, rl, fa), (aa, su), (cp, cl, cf, ck, cm, ct), (le, tr, re), (bh, so, br, rs, ce), (wh, wy))) : la_CI ω yX5_work cX5_work 3 (some .int) (la_rm 3) [.ref (ad 0), .int n, .int s] (lm_W ω.2.2 ad ((th, S, T, P, R, L, B, Kd, lt, C), (ra, rb, rl, fa), (aa, su), (cp, cl, cf, ck, cm, ct), (le, tr, re), (bh, so, br, rs, ce), (wh, wy))) (lm_W ω.2.2 ad) (fun (r : Int32) (u : lm_S) => r = lp_wkA P L C B fa cp n s ∧ u = ((nI 0, S, T, P, R, L, B, Kd, lt, C), (ra, rb, rl, fa), (aa, su), (cp, cl, cf, ck, cm, ct), (le, tr, re), (bh, so, br, rs, ce), (wh, wy))) := by
  refine la_CI_of (by decide) [some (.ref (ad 0)), some (.int (n)), some (.int (s))] rfl rfl (Nat.le_of_ble_eq_true rfl) ?_
  intro κ K hret
  have hJx : lm_Jx P R L B C Kd lt ra rb rl fa aa su cp cl cf ck cm ct le tr := hJ
  have hJ2 := hJx
  obtain ⟨hP, hR, hro, hL3, hC12, hKd, hLC, hle, htr, hDay⟩ := hJ2
  refine la_aload_n K dX5_work_0 rfl ?_
  refine la_iconst K dX5_work_1 la_ki_0 ?_
  refine lm_p_th K q827 dX5_work_2 ?_
  refine la_aload_n K dX5_work_5 rfl ?_
  refine lm_g_L K q836 dX5_work_6 ?_
  refine la_if_neN K 15 dX5_work_9 rfl (by omega) (fun h9 => ?_) (fun h9 => ?_)
  · refine la_iload_n K dX5_work_15 rfl ?_
    refine la_i2l K dX5_work_16 rfl ?_
    refine la_lconst K dX5_work_17 la_kn_0 ?_
    refine la_aload_n K dX5_work_18 rfl ?_
    refine lm_g_C K q842 dX5_work_19 ?_
    refine la_i2l K dX5_work_22 rfl ?_
    refine la_callSp K ok_X5_in q937 (lm_in _ _ _ _) rfl rfl rfl (Nat.le_of_ble_eq_true rfl) ⟨Nat.le_of_ble_eq_true rfl, Nat.le_of_ble_eq_true rfl⟩ ⟨Nat.zero_le _, Nat.zero_le _⟩ dX5_work_23 ?_
    refine la_if_eqC K 58 dX5_work_26 rfl (fun h26 => ?_) (fun h26 => ?_)
    · refine la_iconst K dX5_work_58 la_ki_m1 ?_
      exact hret _ _ _ _ dX5_work_59 ⟨by unfold lp_wkA; rw [if_neg h9, if_neg (fun z => h26 ((lp_intC n (by omega)).mpr z.1))], rfl⟩
    · refine la_aload_n K dX5_work_29 rfl ?_
      refine la_aload_n K dX5_work_30 rfl ?_
      refine lm_g_L K q836 dX5_work_31 ?_
      refine la_iload_n K dX5_work_34 rfl ?_
      refine la_callVp K ok_X5_isStand q963 (lm_isStand _ hL3 hP) 0 rfl rfl rfl rfl rfl (Nat.le_of_ble_eq_true rfl) ⟨Nat.le_of_ble_eq_true rfl, Nat.le_of_ble_eq_true rfl⟩ ⟨Nat.zero_le _, Nat.zero_le _⟩ dX5_work_35 ?_
      refine la_if_eqB K 58 dX5_work_38 rfl (fun h38 => ?_) (fun h38 => ?_)
      · refine la_iconst K dX5_work_58 la_ki_m1 ?_
        exact hret _ _ _ _ dX5_work_59 ⟨by unfold lp_wkA; rw [if_neg h9, if_neg (fun z => h38 z.2)], rfl⟩
      · have hL1 : 1 ≤ L := by omega
        have hD := hDay hL1
        have hn0 := (lp_intC n (by omega)).mp h26
        obtain ⟨n, -, hn, rfl⟩ := lp_inI_N hn0 (by omega)
        obtain ⟨b, rfl, hb, g2⟩ := id h38
        have hrw : ∀ s, s < 512 → le (512 * n + s) = lp_rw L fa B cp n s := fun s hs => hD.2.2.2.2.2.2.2.2.2.2.2.2 n (by omega) s hs
        refine la_aload_n K dX5_work_41 rfl ?_
        refine la_aload_n K dX5_work_42 rfl ?_
        refine lm_g_le K q849 dX5_work_43 ?_
        refine la_sipush K dX5_work_46 la_ks_512 ?_
        refine la_iload_n K dX5_work_49 rfl ?_
        refine la_imulN K dX5_work_50 ?_
        refine la_iload_n K dX5_work_51 rfl ?_
        refine la_callVp K ok_X5_workOf q1016 (lm_workOfL hP hL1 hL3 (lm_fa36 hD) (by omega) hle (fun s hs h => lp_rw_stand hP hL3 hD.1 hD.2.1 n (by omega) s (by rw [← hrw s hs]; exact h)) g2) 0 rfl rfl rfl rfl rfl (Nat.le_of_ble_eq_true rfl) ⟨Nat.le_of_ble_eq_true rfl, Nat.le_of_ble_eq_true rfl⟩ ⟨Nat.zero_le _, Nat.zero_le _⟩ dX5_work_52 ?_
        refine la_goto K 59 dX5_work_55 rfl ?_
        exact hret _ _ _ _ dX5_work_59 ⟨by unfold lp_wkA; rw [if_neg h9, if_pos ⟨hn0, h38⟩, nI_clamp (by omega), nI_clamp hb]; exact congrArg nI (lp_wm_congr hrw), rfl⟩
  · refine la_bipush K dX5_work_12 la_kb_m2 ?_
    exact hret _ _ _ _ dX5_work_14 ⟨by unfold lp_wkA; rw [if_pos h9], rfl⟩
set_option maxHeartbeats 4000000 in
theorem lm_least (n : Int32) (hJ : lm_J ((th, S, T, P, R, L, B, Kd, lt, C), (ra, rb, rl, fa), (aa, su), (cp, cl, cf, ck, cm, ct), (le, tr, re), (bh, so, br, rs, ce), (wh, wy))) : la_CI ω yX5_least cX5_least 2 (some .int) (la_rm 1) [.ref (ad 0), .int n] (lm_W ω.2.2 ad ((th, S, T, P, R, L, B, Kd, lt, C), (ra, rb, rl, fa), (aa, su), (cp, cl, cf, ck, cm, ct), (le, tr, re), (bh, so, br, rs, ce), (wh, wy))) (lm_W ω.2.2 ad) (fun (r : Int32) (u : lm_S) => r = lp_leA L C B fa cp n ∧ u = ((nI 0, S, T, P, R, L, B, Kd, lt, C), (ra, rb, rl, fa), (aa, su), (cp, cl, cf, ck, cm, ct), (le, tr, re), (bh, so, br, rs, ce), (wh, wy))) := by
  refine la_CI_of (by decide) [some (.ref (ad 0)), some (.int (n))] rfl rfl (Nat.le_of_ble_eq_true rfl) ?_
  intro κ K hret
  have hJx : lm_Jx P R L B C Kd lt ra rb rl fa aa su cp cl cf ck cm ct le tr := hJ
  have hJ2 := hJx
  obtain ⟨hP, hR, hro, hL3, hC12, hKd, hLC, hle, htr, hDay⟩ := hJ2
  refine la_aload_n K dX5_least_0 rfl ?_
  refine la_iconst K dX5_least_1 la_ki_0 ?_
  refine lm_p_th K q827 dX5_least_2 ?_
  refine la_aload_n K dX5_least_5 rfl ?_
  refine lm_g_L K q836 dX5_least_6 ?_
  refine la_if_neN K 15 dX5_least_9 rfl (by omega) (fun h9 => ?_) (fun h9 => ?_)
  · refine la_iload_n K dX5_least_15 rfl ?_
    refine la_i2l K dX5_least_16 rfl ?_
    refine la_lconst K dX5_least_17 la_kn_0 ?_
    refine la_aload_n K dX5_least_18 rfl ?_
    refine lm_g_C K q842 dX5_least_19 ?_
    refine la_i2l K dX5_least_22 rfl ?_
    refine la_callSp K ok_X5_in q937 (lm_in _ _ _ _) rfl rfl rfl (Nat.le_of_ble_eq_true rfl) ⟨Nat.le_of_ble_eq_true rfl, Nat.le_of_ble_eq_true rfl⟩ ⟨Nat.zero_le _, Nat.zero_le _⟩ dX5_least_23 ?_
    refine la_if_eqC K 44 dX5_least_26 rfl (fun h26 => ?_) (fun h26 => ?_)
    · refine la_iconst K dX5_least_44 la_ki_m1 ?_
      exact hret _ _ _ _ dX5_least_45 ⟨by unfold lp_leA; rw [if_neg h9, if_neg (fun z => h26 ((lp_intC n (by omega)).mpr z))], rfl⟩
    · have hL1 : 1 ≤ L := by omega
      have hD := hDay hL1
      have hn0 := (lp_intC n (by omega)).mp h26
      obtain ⟨n, -, hn, rfl⟩ := lp_inI_N hn0 (by omega)
      have hrw : ∀ s, s < 512 → le (512 * n + s) = lp_rw L fa B cp n s := fun s hs => hD.2.2.2.2.2.2.2.2.2.2.2.2 n (by omega) s hs
      refine la_aload_n K dX5_least_29 rfl ?_
      refine lm_g_le K q849 dX5_least_30 ?_
      refine la_sipush K dX5_least_33 la_ks_512 ?_
      refine la_iload_n K dX5_least_36 rfl ?_
      refine la_imulN K dX5_least_37 ?_
      refine la_callSp K ok_X5_leastOf q1068 (lm_leastOfL (by omega) hle) rfl rfl rfl (Nat.le_of_ble_eq_true rfl) ⟨Nat.le_of_ble_eq_true rfl, Nat.le_of_ble_eq_true rfl⟩ ⟨Nat.zero_le _, Nat.zero_le _⟩ dX5_least_38 ?_
      refine la_goto K 45 dX5_least_41 rfl ?_
      exact hret _ _ _ _ dX5_least_45 ⟨by unfold lp_leA; rw [if_neg h9, if_pos hn0, nI_clamp (by omega)]; exact congrArg nI (lp_LQ_congr hrw), rfl⟩
  · refine la_bipush K dX5_least_12 la_kb_m2 ?_
    exact hret _ _ _ _ dX5_least_14 ⟨by unfold lp_leA; rw [if_pos h9], rfl⟩
set_option maxHeartbeats 4000000 in
theorem lm_ratio (hJ : lm_J ((th, S, T, P, R, L, B, Kd, lt, C), (ra, rb, rl, fa), (aa, su), (cp, cl, cf, ck, cm, ct), (le, tr, re), (bh, so, br, rs, ce), (wh, wy))) : la_CI ω yX5_ratio cX5_ratio 2 (some .int) (la_rm 1) [.ref (ad 0)] (lm_W ω.2.2 ad ((th, S, T, P, R, L, B, Kd, lt, C), (ra, rb, rl, fa), (aa, su), (cp, cl, cf, ck, cm, ct), (le, tr, re), (bh, so, br, rs, ce), (wh, wy))) (lm_W ω.2.2 ad) (fun (r : Int32) (u : lm_S) => r = lp_raA L C B fa cp su ∧ u = ((nI 0, S, T, P, R, L, B, Kd, lt, C), (ra, rb, rl, fa), (aa, su), (cp, cl, cf, ck, cm, ct), (le, tr, re), (bh, so, br, rs, ce), (wh, wy))) := by
  refine la_CI_of (by decide) [some (.ref (ad 0)), none] rfl rfl (Nat.le_of_ble_eq_true rfl) ?_
  intro κ K hret
  have hJx : lm_Jx P R L B C Kd lt ra rb rl fa aa su cp cl cf ck cm ct le tr := hJ
  have hJ2 := hJx
  obtain ⟨hP, hR, hro, hL3, hC12, hKd, hLC, hle, htr, hDay⟩ := hJ2
  refine la_aload_n K dX5_ratio_0 rfl ?_
  refine la_iconst K dX5_ratio_1 la_ki_0 ?_
  refine lm_p_th K q827 dX5_ratio_2 ?_
  refine la_aload_n K dX5_ratio_5 rfl ?_
  refine lm_g_L K q836 dX5_ratio_6 ?_
  refine la_if_neN K 15 dX5_ratio_9 rfl (by omega) (fun h9 => ?_) (fun h9 => ?_)
  · refine la_aload_n K dX5_ratio_15 rfl ?_
    refine lm_g_le K q849 dX5_ratio_16 ?_
    refine la_sipush K dX5_ratio_19 la_ks_512 ?_
    refine la_aload_n K dX5_ratio_22 rfl ?_
    refine lm_g_C K q842 dX5_ratio_23 ?_
    refine la_imulN K dX5_ratio_26 ?_
    refine la_callSp K ok_X5_leastOf q1068 (lm_leastOfL (by omega) hle) rfl rfl rfl (Nat.le_of_ble_eq_true rfl) ⟨Nat.le_of_ble_eq_true rfl, Nat.le_of_ble_eq_true rfl⟩ ⟨Nat.zero_le _, Nat.zero_le _⟩ dX5_ratio_27 ?_
    have hL1 : 1 ≤ L := by omega
    have hD := hDay hL1
    have elo : lp_min 100000000 (lp_LQ (fun s => le (512 * C + s)) 512) = lp_lo L fa B cp C := lp_LQ_congr (fun s hs => hD.2.2.2.2.2.2.2.2.2.2.2.2 C (Nat.le_refl C) s hs)
    rw [elo]
    have hlo : lp_lo L fa B cp C ≤ 100000000 := lp_min_le _ _
    have hto : lp_tot su L ≤ 76800 * L := lp_tot_le L (fun k hk => by rw [hD.2.2.2.2.2.2.2.1 k hk]; have := lp_sm_le hP hL3 hD.1 hD.2.1 hD.2.2.1 (lm_fa6 hJx hD) k C (Nat.le_refl C); omega)
    refine la_istore1 K dX5_ratio_30 rfl ?_
    refine la_iload_n K dX5_ratio_31 rfl ?_
    refine la_if_neN K 40 dX5_ratio_32 rfl (by omega) (fun h32 => ?_) (fun h32 => ?_)
    · refine la_sipush K dX5_ratio_40 la_ks_1000 ?_
      refine la_aload_n K dX5_ratio_43 rfl ?_
      refine la_callVp K ok_X5_costOf q1052 (lm_costOf hL3) 0 rfl rfl rfl rfl rfl (Nat.le_of_ble_eq_true rfl) ⟨Nat.le_of_ble_eq_true rfl, Nat.le_of_ble_eq_true rfl⟩ ⟨Nat.zero_le _, Nat.zero_le _⟩ dX5_ratio_44 ?_
      refine la_imulN K dX5_ratio_47 ?_
      refine la_iload_n K dX5_ratio_48 rfl ?_
      refine la_idivN K dX5_ratio_49 (by omega) (by omega) (by omega) ?_
      exact hret _ _ _ _ dX5_ratio_50 ⟨by unfold lp_raA; rw [if_neg h9, if_neg h32], rfl⟩
    · refine la_bipush K dX5_ratio_35 la_kb_m9 ?_
      refine la_goto K 50 dX5_ratio_37 rfl ?_
      exact hret _ _ _ _ dX5_ratio_50 ⟨by unfold lp_raA; rw [if_neg h9, if_pos h32], rfl⟩
  · refine la_bipush K dX5_ratio_12 la_kb_m2 ?_
    exact hret _ _ _ _ dX5_ratio_14 ⟨by unfold lp_raA; rw [if_pos h9], rfl⟩
theorem lm_trace : la_CL ω yX5_trace cX5_trace 1 (some .long) (la_rm 0) [.ref (ad 0)] (lm_W ω.2.2 ad ((th, S, T, P, R, L, B, Kd, lt, C), (ra, rb, rl, fa), (aa, su), (cp, cl, cf, ck, cm, ct), (le, tr, re), (bh, so, br, rs, ce), (wh, wy))) (lm_W ω.2.2 ad) (fun (r : Int64) (u : lm_S) => r = T ∧ u = ((nI 0, S, T, P, R, L, B, Kd, lt, C), (ra, rb, rl, fa), (aa, su), (cp, cl, cf, ck, cm, ct), (le, tr, re), (bh, so, br, rs, ce), (wh, wy))) := by
  refine la_CL_of (by decide) [some (.ref (ad 0))] rfl rfl (Nat.le_of_ble_eq_true rfl) ?_
  intro κ K hret
  refine la_aload_n K dX5_trace_0 rfl ?_
  refine la_iconst K dX5_trace_1 la_ki_0 ?_
  refine lm_p_th K q827 dX5_trace_2 ?_
  refine la_aload_n K dX5_trace_5 rfl ?_
  refine lm_g_T K q829 dX5_trace_6 ?_
  exact hret _ _ _ _ dX5_trace_9 ⟨rfl, rfl⟩
theorem lm_status : la_CI ω yX5_status cX5_status 1 (some .int) (la_rm 0) [.ref (ad 0)] (lm_W ω.2.2 ad ((th, S, T, P, R, L, B, Kd, lt, C), (ra, rb, rl, fa), (aa, su), (cp, cl, cf, ck, cm, ct), (le, tr, re), (bh, so, br, rs, ce), (wh, wy))) (lm_W ω.2.2 ad) (fun (r : Int32) (u : lm_S) => r = S ∧ u = ((nI 0, S, T, P, R, L, B, Kd, lt, C), (ra, rb, rl, fa), (aa, su), (cp, cl, cf, ck, cm, ct), (le, tr, re), (bh, so, br, rs, ce), (wh, wy))) := by
  refine la_CI_of (by decide) [some (.ref (ad 0))] rfl rfl (Nat.le_of_ble_eq_true rfl) ?_
  intro κ K hret
  refine la_aload_n K dX5_status_0 rfl ?_
  refine la_iconst K dX5_status_1 la_ki_0 ?_
  refine lm_p_th K q827 dX5_status_2 ?_
  refine la_aload_n K dX5_status_5 rfl ?_
  refine lm_g_S K q828 dX5_status_6 ?_
  exact hret _ _ _ _ dX5_status_9 ⟨rfl, rfl⟩
theorem la_nnI (a b : Nat) : (nI a = nI b) = (a % 2 ^ 32 = b % 2 ^ 32) := propext ⟨fun h => by
  have := congrArg (fun x : Int32 => x.toBitVec.toNat) h
  exact this, fun h => by
  have e : (nI a).toBitVec = (nI b).toBitVec := BitVec.eq_of_toNat_eq h
  exact Int32.toBitVec_inj.mp e⟩
set_option maxHeartbeats 4000000 in
theorem lm_about (x : Int32) (hJ : lm_J ((th, S, T, P, R, L, B, Kd, lt, C), (ra, rb, rl, fa), (aa, su), (cp, cl, cf, ck, cm, ct), (le, tr, re), (bh, so, br, rs, ce), (wh, wy))) : la_CI ω yX5_about cX5_about 2 (some .int) (la_rm 2) [.ref (ad 0), .int x] (lm_W ω.2.2 ad ((th, S, T, P, R, L, B, Kd, lt, C), (ra, rb, rl, fa), (aa, su), (cp, cl, cf, ck, cm, ct), (le, tr, re), (bh, so, br, rs, ce), (wh, wy))) (lm_W ω.2.2 ad) (fun (r : Int32) (u : lm_S) => r = lp_abA P R L C Kd (lp_b (lp_torn 100000000 P (lp_ds 100000000 ra rb rl R 6))) x ∧ ∃ fa', u = ((nI 0, S, T, P, R, L, B, Kd, lt, C), (ra, rb, rl, fa'), (aa, su), (cp, cl, cf, ck, cm, ct), (le, tr, re), (bh, so, br, rs, ce), (wh, wy)) ∧ lm_J u) := by
  refine la_CI_of (by decide) [some (.ref (ad 0)), some (.int (x))] rfl rfl (Nat.le_of_ble_eq_true rfl) ?_
  intro κ K hret
  have hJx : lm_Jx P R L B C Kd lt ra rb rl fa aa su cp cl cf ck cm ct le tr := hJ
  have hJ2 := hJx
  obtain ⟨hP, hR, hro, hL3, hC12, hKd, hLC, hle, htr, hDay⟩ := hJ2
  refine la_aload_n K dX5_about_0 rfl ?_
  refine la_iconst K dX5_about_1 la_ki_0 ?_
  refine lm_p_th K q827 dX5_about_2 ?_
  refine la_iload_n K dX5_about_5 rfl ?_
  by_cases hx : lp_inI x 0 5
  · obtain ⟨k, -, hk, rfl⟩ := lp_inI_N hx (by decide)
    have hk6 : k = 0 ∨ k = 1 ∨ k = 2 ∨ k = 3 ∨ k = 4 ∨ k = 5 := by omega
    rcases hk6 with rfl | rfl | rfl | rfl | rfl | rfl
    · refine la_tabIn K 44 dX5_about_6 (by decide +kernel) (by decide +kernel) rfl rfl ?_
      refine la_aload_n K dX5_about_44 rfl ?_
      refine lm_g_P K q830 dX5_about_45 ?_
      exact hret _ _ _ _ dX5_about_48 ⟨by unfold lp_abA; simp [la_nnI], _, rfl, hJ⟩
    · refine la_tabIn K 49 dX5_about_6 (by decide +kernel) (by decide +kernel) rfl rfl ?_
      refine la_aload_n K dX5_about_49 rfl ?_
      refine lm_g_R K q831 dX5_about_50 ?_
      exact hret _ _ _ _ dX5_about_53 ⟨by unfold lp_abA; simp [la_nnI], _, rfl, hJ⟩
    · refine la_tabIn K 54 dX5_about_6 (by decide +kernel) (by decide +kernel) rfl rfl ?_
      refine la_aload_n K dX5_about_54 rfl ?_
      refine lm_g_L K q836 dX5_about_55 ?_
      exact hret _ _ _ _ dX5_about_58 ⟨by unfold lp_abA; simp [la_nnI], _, rfl, hJ⟩
    · refine la_tabIn K 59 dX5_about_6 (by decide +kernel) (by decide +kernel) rfl rfl ?_
      refine la_aload_n K dX5_about_59 rfl ?_
      refine lm_g_C K q842 dX5_about_60 ?_
      exact hret _ _ _ _ dX5_about_63 ⟨by unfold lp_abA; simp [la_nnI], _, rfl, hJ⟩
    · refine la_tabIn K 64 dX5_about_6 (by decide +kernel) (by decide +kernel) rfl rfl ?_
      refine la_aload_n K dX5_about_64 rfl ?_
      refine lm_g_Kd K q838 dX5_about_65 ?_
      exact hret _ _ _ _ dX5_about_68 ⟨by unfold lp_abA; simp [la_nnI], _, rfl, hJ⟩
    · refine la_tabIn K 69 dX5_about_6 (by decide +kernel) (by decide +kernel) rfl rfl ?_
      refine la_aload_n K dX5_about_69 rfl ?_
      refine la_callVi0 K ok_X5_isTorn q967 (lm_isTorn hP hR (lm_roads hJx)) 0 rfl rfl rfl rfl rfl (Nat.le_of_ble_eq_true rfl) ⟨Nat.le_of_ble_eq_true rfl, Nat.le_of_ble_eq_true rfl⟩ ⟨Nat.zero_le _, Nat.zero_le _⟩ dX5_about_70 (fun r70 u70 p70 => ?_)
      obtain ⟨fa1, rfl, hfa1, rfl⟩ := p70
      refine la_if_eqB K 80 dX5_about_73 rfl (fun h73 => ?_) (fun h73 => ?_)
      · refine la_iconst K dX5_about_80 la_ki_0 ?_
        exact hret _ _ _ _ dX5_about_81 ⟨by rw [lp_b_f h73]; unfold lp_abA; simp [la_nnI], _, rfl, lm_J_fa hJx hfa1⟩
      · refine la_iconst K dX5_about_76 la_ki_1 ?_
        refine la_goto K 81 dX5_about_77 rfl ?_
        exact hret _ _ _ _ dX5_about_81 ⟨by rw [lp_b_t h73]; unfold lp_abA; simp [la_nnI], _, rfl, lm_J_fa hJx hfa1⟩
  · refine la_tabOut K 82 dX5_about_6 (by unfold lp_inI at hx; omega) rfl ?_
    refine la_iconst K dX5_about_82 la_ki_m1 ?_
    exact hret _ _ _ _ dX5_about_83 ⟨(lp_abA_out hx).symm, _, rfl, hJ⟩
end LM6
