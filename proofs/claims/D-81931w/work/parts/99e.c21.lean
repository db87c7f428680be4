/-! THE COMPONENT's METHODS, part 21: item, roadFrom, roads, calls. Printed by c21.py. -/
section LC21
variable {ω : la_O} {ad : Nat → Nat} {S : Int32} {T : Int64} {P R L B Nw U C Kd : Nat} {fr to ln aw su ca we fa sb tb wk nw wo k0 k1 k2 k3 k4 k5 : Nat → Nat} {RE : Nat → Nat → Nat} {BF : Nat → Option Nat} {BK : va_W}
variable {bk : lp_Bk}
set_option maxHeartbeats 4000000 in
theorem lb_item (hoff : lt_off ω.1) (hB : lb_BR ω.2.2 bk BF BK) (k o x1 i : Int32) : lt_C ω yX0_item cX0_item 8 (some .long) [(19, 41, 42, 261), (19, 41, 51, 281), (19, 41, 60, 263)] (lt_rm 1 3 1010) lt_Zs [.ref (ad 0), .int k, .int o, .int x1, .int i] (lb_W ω.2.2 ad ((P, R, T, S, L, B, Nw, U, C, Kd), (fr, to, ln, aw), (su, ca, we, fa, sb, tb), (wk, nw, wo), (k0, k1, k2, k3, k4, k5), RE, BF, BK)) (lb_W ω.2.2 ad) (fun r u => (¬ lp_wrA bk k o x1 i = nI 0 ∧ r = .inl (some (.long (lN 0))) ∧ u = ((P, R, T, lp_wrA bk k o x1 i, L, B, Nw, U, C, Kd), (fr, to, ln, aw), (su, ca, we, fa, sb, tb), (wk, nw, wo), (k0, k1, k2, k3, k4, k5), RE, BF, BK)) ∨ ∃ (kk s n kr m ki : Nat) (rows : Nat → lp_Row) (c : Nat → Int64), lp_Acc bk k o x1 i kk s n kr m ki rows c ∧ r = .inl (some (.long (c ki))) ∧ u = ((P, R, T, nI 0, L, B, Nw, U, C, Kd), (fr, to, ln, aw), (su, ca, we, fa, sb, tb), (wk, nw, wo), (k0, k1, k2, k3, k4, k5), RE, BF, BK)) := by
  obtain ⟨ℓ, hBl⟩ := hB
  refine lt_C_of [some (.ref (ad 0)), some (.int k), some (.int o), some (.int x1), some (.int i), none, none, none] rfl rfl (Nat.le_of_ble_eq_true rfl) ?_
  intro κ K hz hAs hnm htab hE
  refine la_iconst K dX0_item_0 la_ki_m1 ?_
  refine la_istore5 K dX0_item_1 rfl ?_
  refine la_iload_n K dX0_item_3 rfl ?_
  refine la_callSp K ok_X0_isBook q587 (lb_isBook _) rfl rfl rfl (Nat.le_of_ble_eq_true rfl) ⟨Nat.le_of_ble_eq_true rfl, Nat.le_of_ble_eq_true rfl⟩ ⟨Nat.zero_le _, Nat.zero_le _⟩ dX0_item_4 ?_
  refine la_if_eqC K 66 dX0_item_7 rfl (fun h7 => ?_) (fun h7 => ?_)
  · refine la_aload_n K dX0_item_66 rfl ?_
    refine la_iload K dX0_item_67 rfl ?_
    refine lb_p_S K q135 dX0_item_69 ?_
    refine la_lconst K dX0_item_72 la_kn_0 ?_
    exact hE.2.1 _ _ _ _ _ (Nat.zero_le _) (Nat.zero_le _) rfl dX0_item_73 (Or.inl ⟨by rw [lp_wrA_bad (Or.inl h7)]; decide, rfl, by rw [lp_wrA_bad (Or.inl h7)]⟩)
  · refine la_iload_n K dX0_item_10 rfl ?_
    refine la_iconst K dX0_item_11 la_ki_0 ?_
    refine la_iconst K dX0_item_12 la_ki_3 ?_
    refine la_callSp K ok_X0_in q258 (lb_in _ _ _ _) rfl rfl rfl (Nat.le_of_ble_eq_true rfl) ⟨Nat.le_of_ble_eq_true rfl, Nat.le_of_ble_eq_true rfl⟩ ⟨Nat.zero_le _, Nat.zero_le _⟩ dX0_item_13 ?_
    refine la_if_eqC K 66 dX0_item_16 rfl (fun h16 => ?_) (fun h16 => ?_)
    · refine la_aload_n K dX0_item_66 rfl ?_
      refine la_iload K dX0_item_67 rfl ?_
      refine lb_p_S K q135 dX0_item_69 ?_
      refine la_lconst K dX0_item_72 la_kn_0 ?_
      exact hE.2.1 _ _ _ _ _ (Nat.zero_le _) (Nat.zero_le _) rfl dX0_item_73 (Or.inl ⟨by rw [lp_wrA_bad (Or.inr (fun z => h16 ((lp_intsC0 o (by decide)).mpr z)))]; decide, rfl, by rw [lp_wrA_bad (Or.inr (fun z => h16 ((lp_intsC0 o (by decide)).mpr z)))]⟩)
    · obtain ⟨kk, -, hkk, rfl⟩ := lp_inI_N h7 (by decide)
      obtain ⟨s, -, hs, rfl⟩ := lp_inI_N ((lp_intsC0 o (by decide)).mp h16) (by decide)
      refine la_aload_n K dX0_item_19 rfl ?_
      refine lb_g_c39 K q170 dX0_item_20 ?_
      refine la_iload_n K dX0_item_23 rfl ?_
      refine la_aaldR (f := BF) K 39 6 rfl rfl rfl (by decide) (by omega) dX0_item_24 ?_
      refine la_iload_n K dX0_item_25 rfl ?_
      refine la_iload_n K dX0_item_26 rfl ?_
      refine la_iload K dX0_item_27 rfl ?_
      rcases hbk : bk kk with _ | ⟨s', N, rows⟩
      · rw [(hBl.1 kk (by omega)).1 hbk]
        refine lt_at K (lb_itemOf0 hoff hs x1 i) lt_Zs_b (by decide) (lt_codeC K ok_X0_itemOf.2.2.1) (lt_invS (As := [.null, .int (nI s), .int x1, .int i]) (rest := []) K ok_X0_itemOf q745 rfl dX0_item_29) dX0_item_29 rfl (Nat.zero_le _) ⟨Nat.le_of_ble_eq_true rfl, Nat.le_of_ble_eq_true rfl⟩ ⟨Nat.le_of_ble_eq_true rfl, by show 0 + 1010 ≤ 1010; omega⟩ (lt_Zs_at hz hAs) (fun v9 u h => ?_) (fun X u h => ?_)
        · cases h
        · cases h
          refine la_Th_catch K htab ["java/lang/NullPointerException", "java/lang/ClassCastException", "java/lang/ArrayIndexOutOfBoundsException"] 0 rfl (by decide) rfl (fun i q nm h1 h2 => by
              rcases i with _ | i
              · cases h1; cases h2; exact q659
              rcases i with _ | i
              · cases h1; cases h2; exact q724
              rcases i with _ | i
              · cases h1; cases h2; exact q684
              cases h1) (fun i nm hi h2 => by
              omega) ⟨_, rfl, q681⟩ (fun a => ?_)
          refine la_astore6 K dX0_item_42 rfl ?_
          refine la_bipush (v := -11) K dX0_item_44 (by decide +kernel) ?_
          refine la_istore5 K dX0_item_46 rfl ?_
          refine la_goto K 66 dX0_item_48 rfl ?_
          have e9 := lp_wrA_none (r := x1) (i := i) rfl (by omega) ((lp_intsC0 _ (by decide)).mp h16) hbk
          refine la_aload_n K dX0_item_66 rfl ?_
          refine la_iload K dX0_item_67 rfl ?_
          refine lb_p_S K q135 dX0_item_69 ?_
          refine la_lconst K dX0_item_72 la_kn_0 ?_
          exact hE.2.1 _ _ _ _ _ (Nat.le_of_ble_eq_true rfl) (by show 0 + 1010 ≤ 1010; omega) rfl dX0_item_73 (Or.inl ⟨by rw [e9]; decide, rfl, by rw [e9]⟩)
      · obtain ⟨hbf, hB1⟩ := (hBl.1 kk (by omega)).2 s' N rows hbk
        rw [hbf]
        refine lt_at K (lb_itemOf1 hoff hs (lb_B1_W (ℓ := ℓ kk) hB1) x1 i) lt_Zs_b (by decide) (lt_codeC K ok_X0_itemOf.2.2.1) (lt_invS (As := [.ref (ℓ kk).1.2, .int (nI s), .int x1, .int i]) (rest := []) K ok_X0_itemOf q745 rfl dX0_item_29) dX0_item_29 rfl (Nat.zero_le _) ⟨Nat.le_of_ble_eq_true rfl, Nat.le_of_ble_eq_true rfl⟩ ⟨Nat.le_of_ble_eq_true rfl, by show 0 + 1010 ≤ 1010; omega⟩ (lt_Zs_at hz hAs) (fun v9 u h => ?_) (fun X u h => ?_)
        · rcases h with ⟨-, h⟩ | ⟨-, X, -, h⟩ | ⟨rfl, v, hv, h⟩
          · cases h
          · cases h
          · cases h
            obtain ⟨kq, m1, ki, c1, rfl, e1, e2, e3, rfl, e4, rfl⟩ := lp_gtA_N hB1.2.1 (fun k m c hk hr => (hB1.2.2.2.2 k m c hk hr).1) hv
            refine la_lstore6 K dX0_item_32 rfl ?_
            refine la_aload_n K dX0_item_34 rfl ?_
            refine la_iconst K dX0_item_35 la_ki_0 ?_
            refine lb_p_S K q135 dX0_item_36 ?_
            refine la_lload K dX0_item_39 rfl ?_
            exact hE.2.1 _ _ _ _ _ (Nat.le_of_ble_eq_true rfl) (by show 0 + 1010 ≤ 1010; omega) rfl dX0_item_41 (Or.inr ⟨kk, s', N, kq, m1, ki, rows, c1, ⟨rfl, by omega, rfl, hs, hbk, hB1.2.1, rfl, e1, e2, e3, rfl, e4⟩, rfl, rfl⟩)
        · rcases h with ⟨hne, h⟩ | ⟨rfl, X', hx, h⟩ | ⟨rfl, v, hv, h⟩
          · cases h
            refine la_Th_catch K htab ["java/lang/NullPointerException", "java/lang/ClassCastException", "java/lang/ArrayIndexOutOfBoundsException"] 1 rfl (by decide) rfl (fun i q nm h1 h2 => by
                rcases i with _ | i
                · cases h1; cases h2; exact q659
                rcases i with _ | i
                · cases h1; cases h2; exact q724
                rcases i with _ | i
                · cases h1; cases h2; exact q684
                cases h1) (fun i nm hi h2 => by
                rcases i with _ | i
                · cases h2; exact ln_CCE_NPE
                omega) ⟨_, rfl, q736⟩ (fun a => ?_)
            refine la_astore6 K dX0_item_51 rfl ?_
            refine la_bipush (v := -13) K dX0_item_53 (by decide +kernel) ?_
            refine la_istore5 K dX0_item_55 rfl ?_
            refine la_goto K 66 dX0_item_57 rfl ?_
            have e9 := lp_wrA_cast (r := x1) (i := i) (by omega) hs hB1.1 hbk hne
            refine la_aload_n K dX0_item_66 rfl ?_
            refine la_iload K dX0_item_67 rfl ?_
            refine lb_p_S K q135 dX0_item_69 ?_
            refine la_lconst K dX0_item_72 la_kn_0 ?_
            exact hE.2.1 _ _ _ _ _ (Nat.le_of_ble_eq_true rfl) (by show 0 + 1010 ≤ 1010; omega) rfl dX0_item_73 (Or.inl ⟨by rw [e9]; decide, rfl, by rw [e9]⟩)
          · cases h
            rcases lp_wrA_thr (by omega) hs hbk hx with ⟨rfl, e9⟩ | ⟨rfl, e9⟩
            · skip
              refine la_Th_catch K htab ["java/lang/NullPointerException", "java/lang/ClassCastException", "java/lang/ArrayIndexOutOfBoundsException"] 0 rfl (by decide) rfl (fun i q nm h1 h2 => by
                  rcases i with _ | i
                  · cases h1; cases h2; exact q659
                  rcases i with _ | i
                  · cases h1; cases h2; exact q724
                  rcases i with _ | i
                  · cases h1; cases h2; exact q684
                  cases h1) (fun i nm hi h2 => by
                  omega) ⟨_, rfl, q681⟩ (fun a => ?_)
              refine la_astore6 K dX0_item_42 rfl ?_
              refine la_bipush (v := -11) K dX0_item_44 (by decide +kernel) ?_
              refine la_istore5 K dX0_item_46 rfl ?_
              refine la_goto K 66 dX0_item_48 rfl ?_
              have e9 := e9
              refine la_aload_n K dX0_item_66 rfl ?_
              refine la_iload K dX0_item_67 rfl ?_
              refine lb_p_S K q135 dX0_item_69 ?_
              refine la_lconst K dX0_item_72 la_kn_0 ?_
              exact hE.2.1 _ _ _ _ _ (Nat.le_of_ble_eq_true rfl) (by show 0 + 1010 ≤ 1010; omega) rfl dX0_item_73 (Or.inl ⟨by rw [e9]; decide, rfl, by rw [e9]⟩)
            · skip
              refine la_Th_catch K htab ["java/lang/NullPointerException", "java/lang/ClassCastException", "java/lang/ArrayIndexOutOfBoundsException"] 2 rfl (by decide) rfl (fun i q nm h1 h2 => by
                  rcases i with _ | i
                  · cases h1; cases h2; exact q659
                  rcases i with _ | i
                  · cases h1; cases h2; exact q724
                  rcases i with _ | i
                  · cases h1; cases h2; exact q684
                  cases h1) (fun i nm hi h2 => by
                  rcases i with _ | i
                  · cases h2; exact ln_IDX_NPE
                  rcases i with _ | i
                  · cases h2; exact ln_IDX_CCE
                  omega) ⟨_, rfl, q699⟩ (fun a => ?_)
              refine la_astore6 K dX0_item_60 rfl ?_
              refine la_bipush (v := -12) K dX0_item_62 (by decide +kernel) ?_
              refine la_istore5 K dX0_item_64 rfl ?_
              have e9 := e9
              refine la_aload_n K dX0_item_66 rfl ?_
              refine la_iload K dX0_item_67 rfl ?_
              refine lb_p_S K q135 dX0_item_69 ?_
              refine la_lconst K dX0_item_72 la_kn_0 ?_
              exact hE.2.1 _ _ _ _ _ (Nat.le_of_ble_eq_true rfl) (by show 0 + 1010 ≤ 1010; omega) rfl dX0_item_73 (Or.inl ⟨by rw [e9]; decide, rfl, by rw [e9]⟩)
          · cases h
theorem lp_i64_int {a : Int64} {P : Nat} (h : 0 ≤ a.toInt ∧ a.toInt < (P : Int)) (hP : P ≤ 200) : a.toInt32.toInt64 = a := by
  apply Int64.toInt_inj.mp
  rw [Int32.toInt_toInt64, Int64.toInt_toInt32]
  rw [Int.bmod_def]
  omega
theorem lp_rdOk_int {P : Nat} {a b d : Int64} (hP : P ≤ 6) (h : lp_rdOk P a b d) : a = a.toInt32.toInt64 ∧ b = b.toInt32.toInt64 ∧ d = d.toInt32.toInt64 := by
  obtain ⟨h1, h2, -, h3⟩ := h
  refine ⟨(lp_i64_int h1 (by omega)).symm, (lp_i64_int h2 (by omega)).symm, (lp_i64_int (P := 101) ?_ (by omega)).symm⟩
  unfold lp_inL at h3
  exact ⟨by omega, by omega⟩
set_option maxHeartbeats 4000000 in
theorem lb_roadFrom (hoff : lt_off ω.1) {s N r0 : Nat} {rows : Nat → lp_Row} {ℓ : lb_L} (hJ : lb_J ((P, R, T, S, L, B, Nw, U, C, Kd), (fr, to, ln, aw), (su, ca, we, fa, sb, tb), (wk, nw, wo), (k0, k1, k2, k3, k4, k5), RE, BF, BK)) (hB1 : lb_B1 ω.2.2 BK s N rows ℓ) (hr0 : r0 < N) : lt_C ω yX0_roadFrom cX0_roadFrom 10 (some .int) [] (lt_rm 1 9 720) lt_Zs [.ref (ad 0), .ref ℓ.1.2, .int (nI r0)] (lb_W ω.2.2 ad ((P, R, T, S, L, B, Nw, U, C, Kd), (fr, to, ln, aw), (su, ca, we, fa, sb, tb), (wk, nw, wo), (k0, k1, k2, k3, k4, k5), RE, BF, BK)) (lb_W ω.2.2 ad) (fun r u => (rows r0 = none ∧ r = .inr lt_NPE ∧ u = ((P, R, T, S, L, B, Nw, U, C, Kd), (fr, to, ln, aw), (su, ca, we, fa, sb, tb), (wk, nw, wo), (k0, k1, k2, k3, k4, k5), RE, BF, BK)) ∨ ∃ m c, rows r0 = some (m, c) ∧ ((m < 3 ∧ r = .inr lt_idxN ∧ u = ((P, R, T, S, L, B, Nw, U, C, Kd), (fr, to, ln, aw), (su, ca, we, fa, sb, tb), (wk, nw, wo), (k0, k1, k2, k3, k4, k5), RE, BF, BK)) ∨ (¬ m < 3 ∧ ((¬ lp_rdGo P R L (c 0) (c 1) (c 2) ∧ r = .inl (some (.int (lp_rdA P R L (c 0) (c 1) (c 2)))) ∧ u = ((P, R, T, S, L, B, Nw, U, C, Kd), (fr, to, ln, aw), (su, ca, we, fa, sb, tb), (wk, nw, wo), (k0, k1, k2, k3, k4, k5), RE, BF, BK)) ∨ (lp_rdGo P R L (c 0) (c 1) (c 2) ∧ r = .inl (some (.int (nI 0))) ∧ ∃ aw', u = ((P, R + 1, T, S, L, B, Nw, U, C, Kd), (va_up fr R (c 0).toInt.toNat, va_up to R (c 1).toInt.toNat, va_up ln R (c 2).toInt.toNat, aw'), (su, ca, we, fa, sb, tb), (wk, nw, wo), (k0, k1, k2, k3, k4, k5), RE, BF, BK) ∧ ∀ x y, x < P → y < P → aw' (6 * x + y) = lp_ds 1000000 (va_up fr R (c 0).toInt.toNat) (va_up to R (c 1).toInt.toNat) (va_up ln R (c 2).toInt.toNat) (R + 1) P x y))))) := by
  have hN := hB1.2.1
  refine lt_C_of [some (.ref (ad 0)), some (.ref ℓ.1.2), some (.int (nI r0)), none, none, none, none, none, none, none] rfl rfl (Nat.le_of_ble_eq_true rfl) ?_
  intro κ K hz hAs hnm htab hE
  refine la_aload_n K dX0_roadFrom_0 rfl ?_
  refine la_iload_n K dX0_roadFrom_1 rfl ?_
  refine la_iconst K dX0_roadFrom_2 la_ki_0 ?_
  refine lb_r_get (rest := []) K ⟨hz, hAs, hoff⟩ (lb_B1_W hB1) rfl (Nat.zero_le _) (nI r0) (nI 0) q771 ⟨Nat.le_of_ble_eq_true rfl, Nat.le_of_ble_eq_true rfl⟩ ⟨Nat.le_of_ble_eq_true rfl, Nat.le_of_ble_eq_true rfl⟩ dX0_roadFrom_3 (fun v0 hv0 => ?_) (fun X hX => ?_)
  rotate_left 1
  · rcases hr : rows r0 with _ | ⟨m, c⟩
    · rw [lp_gtA_npe hr0 hN hr] at hX
      cases hX
      exact hE.2.2.2.2 _ _ _ _ _ (by show 3 ≤ 9; omega) (by show 240 ≤ 720; omega) rfl (Or.inl ⟨hr, rfl, rfl⟩)
    · have h8 := (hB1.2.2.2.2 r0 m c hr0 hr).1
      by_cases h9 : 0 < m
      · rw [lp_gtA_v hr0 hN hr h8 h9] at hX
        cases hX
      · rw [lp_gtA_i hr0 hN hr (fun z => h9 ((lp_in_nI (by omega)).mp z))] at hX
        cases hX
        exact hE.2.2.2.2 _ _ _ _ _ (by show 3 ≤ 9; omega) (by show 240 ≤ 720; omega) rfl (Or.inr ⟨m, c, hr, Or.inl ⟨by omega, rfl, rfl⟩⟩)
  refine la_lstore3 K dX0_roadFrom_6 rfl ?_
  refine la_aload_n K dX0_roadFrom_7 rfl ?_
  refine la_iload_n K dX0_roadFrom_8 rfl ?_
  refine la_iconst K dX0_roadFrom_9 la_ki_1 ?_
  refine lb_r_get (rest := []) K ⟨hz, hAs, hoff⟩ (lb_B1_W hB1) rfl (Nat.zero_le _) (nI r0) (nI 1) q771 ⟨Nat.le_of_ble_eq_true rfl, Nat.le_of_ble_eq_true rfl⟩ ⟨Nat.le_of_ble_eq_true rfl, Nat.le_of_ble_eq_true rfl⟩ dX0_roadFrom_10 (fun v1 hv1 => ?_) (fun X hX => ?_)
  rotate_left 1
  · rcases hr : rows r0 with _ | ⟨m, c⟩
    · rw [lp_gtA_npe hr0 hN hr] at hX
      cases hX
      exact hE.2.2.2.2 _ _ _ _ _ (by show 6 ≤ 9; omega) (by show 480 ≤ 720; omega) rfl (Or.inl ⟨hr, rfl, rfl⟩)
    · have h8 := (hB1.2.2.2.2 r0 m c hr0 hr).1
      by_cases h9 : 1 < m
      · rw [lp_gtA_v hr0 hN hr h8 h9] at hX
        cases hX
      · rw [lp_gtA_i hr0 hN hr (fun z => h9 ((lp_in_nI (by omega)).mp z))] at hX
        cases hX
        exact hE.2.2.2.2 _ _ _ _ _ (by show 6 ≤ 9; omega) (by show 480 ≤ 720; omega) rfl (Or.inr ⟨m, c, hr, Or.inl ⟨by omega, rfl, rfl⟩⟩)
  refine la_lstore5 K dX0_roadFrom_13 rfl ?_
  refine la_aload_n K dX0_roadFrom_15 rfl ?_
  refine la_iload_n K dX0_roadFrom_16 rfl ?_
  refine la_iconst K dX0_roadFrom_17 la_ki_2 ?_
  refine lb_r_get (rest := []) K ⟨hz, hAs, hoff⟩ (lb_B1_W hB1) rfl (Nat.zero_le _) (nI r0) (nI 2) q771 ⟨Nat.le_of_ble_eq_true rfl, Nat.le_of_ble_eq_true rfl⟩ ⟨Nat.le_of_ble_eq_true rfl, Nat.le_of_ble_eq_true rfl⟩ dX0_roadFrom_18 (fun v2 hv2 => ?_) (fun X hX => ?_)
  rotate_left 1
  · rcases hr : rows r0 with _ | ⟨m, c⟩
    · rw [lp_gtA_npe hr0 hN hr] at hX
      cases hX
      exact hE.2.2.2.2 _ _ _ _ _ (by show 9 ≤ 9; omega) (by show 720 ≤ 720; omega) rfl (Or.inl ⟨hr, rfl, rfl⟩)
    · have h8 := (hB1.2.2.2.2 r0 m c hr0 hr).1
      by_cases h9 : 2 < m
      · rw [lp_gtA_v hr0 hN hr h8 h9] at hX
        cases hX
      · rw [lp_gtA_i hr0 hN hr (fun z => h9 ((lp_in_nI (by omega)).mp z))] at hX
        cases hX
        exact hE.2.2.2.2 _ _ _ _ _ (by show 9 ≤ 9; omega) (by show 720 ≤ 720; omega) rfl (Or.inr ⟨m, c, hr, Or.inl ⟨by omega, rfl, rfl⟩⟩)
  refine la_lstore7 K dX0_roadFrom_21 rfl ?_
  obtain ⟨kq, m, ki, c, e0, e1, e2, e3, e4, e5, rfl⟩ := lp_gtA_N hN (fun k m c hk hr => (hB1.2.2.2.2 k m c hk hr).1) hv0
  obtain rfl : r0 = kq := (nI_eq (by omega) (by omega)).mp e0
  obtain rfl : 0 = ki := (nI_eq (by omega) (by omega)).mp e4
  have hm3 : ¬ m < 3 := by
    intro hlt
    rw [lp_gtA_i (i := nI 2) hr0 hN e2 (fun z => by have := (lp_in_nI (by omega)).mp z; omega)] at hv2
    cases hv2
  rw [lp_gtA_v hr0 hN e2 e3 (show 1 < m by omega)] at hv1
  rw [lp_gtA_v hr0 hN e2 e3 (show 2 < m by omega)] at hv2
  cases hv1
  cases hv2
  obtain ⟨hP, hR, hro, hL, -⟩ := hJ
  have no : (¬ c 0 = (c 0).toInt32.toInt64 ∨ ¬ c 1 = (c 1).toInt32.toInt64 ∨ ¬ c 2 = (c 2).toInt32.toInt64) → ∀ lv, la_At ω κ (9, 720) 46 lv [] (lb_W ω.2.2 ad ((P, R, T, S, L, B, Nw, U, C, Kd), (fr, to, ln, aw), (su, ca, we, fa, sb, tb), (wk, nw, wo), (k0, k1, k2, k3, k4, k5), RE, BF, BK)) := by
    intro hno lv
    have hk : ¬ lp_rdOk P (c 0) (c 1) (c 2) := fun z => by have := lp_rdOk_int hP z; rcases hno with h | h | h; (· exact h this.1); (· exact h this.2.1); exact h this.2.2
    refine la_iconst K dX0_roadFrom_46 la_ki_m1 ?_
    exact hE.1 _ _ _ _ _ (Nat.le_of_ble_eq_true rfl) (Nat.le_of_ble_eq_true rfl) rfl dX0_roadFrom_47 (Or.inr ⟨m, c, e2, Or.inr ⟨hm3, Or.inl ⟨fun z => hk z.1, by unfold lp_rdA; rw [if_neg hk], rfl⟩⟩⟩)
  refine la_lload_n K dX0_roadFrom_23 rfl ?_
  refine la_callSp K ok_X0_isInt q786 (lb_isInt _) rfl rfl rfl (Nat.le_of_ble_eq_true rfl) ⟨Nat.le_of_ble_eq_true rfl, Nat.le_of_ble_eq_true rfl⟩ ⟨Nat.le_of_ble_eq_true rfl, Nat.le_of_ble_eq_true rfl⟩ dX0_roadFrom_24 ?_
  refine la_if_eqC K 46 dX0_roadFrom_27 rfl (fun h => no (Or.inl h) _) (fun h0 => ?_)
  refine la_lload K dX0_roadFrom_30 rfl ?_
  refine la_callSp K ok_X0_isInt q786 (lb_isInt _) rfl rfl rfl (Nat.le_of_ble_eq_true rfl) ⟨Nat.le_of_ble_eq_true rfl, Nat.le_of_ble_eq_true rfl⟩ ⟨Nat.le_of_ble_eq_true rfl, Nat.le_of_ble_eq_true rfl⟩ dX0_roadFrom_32 ?_
  refine la_if_eqC K 46 dX0_roadFrom_35 rfl (fun h => no (Or.inr (Or.inl h)) _) (fun h1 => ?_)
  refine la_lload K dX0_roadFrom_38 rfl ?_
  refine la_callSp K ok_X0_isInt q786 (lb_isInt _) rfl rfl rfl (Nat.le_of_ble_eq_true rfl) ⟨Nat.le_of_ble_eq_true rfl, Nat.le_of_ble_eq_true rfl⟩ ⟨Nat.le_of_ble_eq_true rfl, Nat.le_of_ble_eq_true rfl⟩ dX0_roadFrom_40 ?_
  refine la_if_neC K 48 dX0_roadFrom_43 rfl (fun h2 => ?_) (fun h => no (Or.inr (Or.inr h)) _)
  refine la_aload_n K dX0_roadFrom_48 rfl ?_
  refine la_lload_n K dX0_roadFrom_49 rfl ?_
  refine la_l2i K dX0_roadFrom_50 rfl ?_
  refine la_lload K dX0_roadFrom_51 rfl ?_
  refine la_l2i K dX0_roadFrom_53 rfl ?_
  refine la_lload K dX0_roadFrom_54 rfl ?_
  refine la_l2i K dX0_roadFrom_56 rfl ?_
  refine la_callVi0 K ok_X0_road q789 (lb_road _ _ _ hP hL hR (fun k hk => ⟨(hro k hk).1, (hro k hk).2.1, (hro k hk).2.2.1, (hro k hk).2.2.2.2⟩)) 0 rfl rfl rfl rfl rfl (Nat.le_of_ble_eq_true rfl) ⟨Nat.le_of_ble_eq_true rfl, Nat.le_of_ble_eq_true rfl⟩ ⟨Nat.le_of_ble_eq_true rfl, Nat.le_of_ble_eq_true rfl⟩ dX0_roadFrom_57 (fun r u p => ?_)
  rw [← h0, ← h1, ← h2] at p
  obtain ⟨rfl, hp⟩ := p
  refine la_istore9 K dX0_roadFrom_60 rfl ?_
  refine la_iload K dX0_roadFrom_62 rfl ?_
  refine la_iconst K dX0_roadFrom_64 la_ki_0 ?_
  rcases hp with ⟨hg, rfl⟩ | ⟨hg, aw', rfl, haw⟩
  · have hneg := lp_rdA_neg hR hg
    refine la_minR K (v := lp_rdA P R L (c 0) (c 1) (c 2)) (if_neg (fun z => hneg (Int32.le_of_lt z))) q243 rfl (Nat.le_of_ble_eq_true rfl) (Nat.le_of_ble_eq_true rfl) ⟨Nat.le_of_ble_eq_true rfl, Nat.le_of_ble_eq_true rfl⟩ dX0_roadFrom_65 ?_
    exact hE.1 _ _ _ _ _ (Nat.le_of_ble_eq_true rfl) (Nat.le_of_ble_eq_true rfl) rfl dX0_roadFrom_68 (Or.inr ⟨m, c, e2, Or.inr ⟨hm3, Or.inl ⟨hg, rfl, rfl⟩⟩⟩)
  · refine la_minR K (v := nI 0) (by rw [lp_rdA_pos hg]; exact if_pos ((nI_ltI (by omega) (by have := hg.2.2; omega)).mpr (by omega))) q243 rfl (Nat.le_of_ble_eq_true rfl) (Nat.le_of_ble_eq_true rfl) ⟨Nat.le_of_ble_eq_true rfl, Nat.le_of_ble_eq_true rfl⟩ dX0_roadFrom_65 ?_
    exact hE.1 _ _ _ _ _ (Nat.le_of_ble_eq_true rfl) (Nat.le_of_ble_eq_true rfl) rfl dX0_roadFrom_68 (Or.inr ⟨m, c, e2, Or.inr ⟨hm3, Or.inr ⟨hg, rfl, aw', rfl, haw⟩⟩⟩)
end LC21
