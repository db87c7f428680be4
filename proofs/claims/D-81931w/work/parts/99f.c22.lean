/-! THE COMPONENT's METHODS, part 22: roads, calls. Printed by c22.py. -/
section LC22
variable {ω : la_O} {ad : Nat → Nat} {S : Int32} {T : Int64} {P R L B Nw U C Kd : Nat} {fr to ln aw su ca we fa sb tb wk nw wo k0 k1 k2 k3 k4 k5 : Nat → Nat} {RE : Nat → Nat → Nat} {BF : Nat → Option Nat} {BK : va_W}
variable {bk : lp_Bk}
theorem lb_J_road {a b d : Int64} {aw' : Nat → Nat} (hJ : lb_Jx P R L B Nw U C Kd fr to ln aw su ca we fa sb tb) (hg : lp_rdGo P R L a b d) (haw : ∀ x y, x < P → y < P → aw' (6 * x + y) = lp_ds 1000000 (va_up fr R a.toInt.toNat) (va_up to R b.toInt.toNat) (va_up ln R d.toInt.toNat) (R + 1) P x y) : lb_Jx P (R + 1) L B Nw U C Kd (va_up fr R a.toInt.toNat) (va_up to R b.toInt.toNat) (va_up ln R d.toInt.toNat) aw' su ca we fa sb tb := by
  obtain ⟨hP, -, hro, hL3, hC12, hKd, hLC, -, -⟩ := hJ
  obtain ⟨⟨h1, h2, h3, h4⟩, hL, hR⟩ := hg
  refine ⟨hP, by omega, fun k hk => ?_, hL3, hC12, hKd, hLC, haw, fun h => by omega⟩
  by_cases e : k = R
  · subst e
    rw [va_up_self, va_up_self, va_up_self]
    have h5 : ¬ a.toInt = b.toInt := fun z => h3 (Int64.toInt_inj.mp z)
    unfold lp_inL at h4
    exact ⟨by omega, by omega, by omega, by omega, by omega⟩
  · rw [va_up_ne _ _ e, va_up_ne _ _ e, va_up_ne _ _ e]; exact hro k (by omega)
set_option maxHeartbeats 4000000 in
theorem lb_roads (hoff : lt_off ω.1) (hJ : lb_J ((P, R, T, S, L, B, Nw, U, C, Kd), (fr, to, ln, aw), (su, ca, we, fa, sb, tb), (wk, nw, wo), (k0, k1, k2, k3, k4, k5), RE, BF, BK)) (hB : lb_BR ω.2.2 bk BF BK) (k : Int32) : lt_C ω yX0_roads cX0_roads 5 (some .int) [(20, 74, 77, 261), (20, 74, 87, 263)] (lt_rm 2 36 2880) lt_Zs [.ref (ad 0), .int k] (lb_W ω.2.2 ad ((P, R, T, S, L, B, Nw, U, C, Kd), (fr, to, ln, aw), (su, ca, we, fa, sb, tb), (wk, nw, wo), (k0, k1, k2, k3, k4, k5), RE, BF, BK)) (lb_W ω.2.2 ad) (fun r u => (¬ lp_inI k 0 2 ∧ r = .inl (some (.int (-1))) ∧ u = ((P, R, T, -1, L, B, Nw, U, C, Kd), (fr, to, ln, aw), (su, ca, we, fa, sb, tb), (wk, nw, wo), (k0, k1, k2, k3, k4, k5), RE, BF, BK)) ∨ ∃ kk, k = nI kk ∧ kk < 3 ∧ ((bk kk = none ∧ r = .inl (some (.int (nI 0))) ∧ u = ((P, R, T, -11, L, B, Nw, U, C, Kd), (fr, to, ln, aw), (su, ca, we, fa, sb, tb), (wk, nw, wo), (k0, k1, k2, k3, k4, k5), RE, BF, BK)) ∨ ∃ s N rows, bk kk = some (s, N, rows) ∧ r = .inl (some (.int (nI (lp_rds P L rows N 0 R fr to ln).1))) ∧ ∃ aw', u = ((P, (lp_rds P L rows N 0 R fr to ln).2.2.1, T, (lp_rds P L rows N 0 R fr to ln).2.1, L, B, Nw, U, C, Kd), ((lp_rds P L rows N 0 R fr to ln).2.2.2.1, (lp_rds P L rows N 0 R fr to ln).2.2.2.2.1, (lp_rds P L rows N 0 R fr to ln).2.2.2.2.2, aw'), (su, ca, we, fa, sb, tb), (wk, nw, wo), (k0, k1, k2, k3, k4, k5), RE, BF, BK) ∧ lb_J ((P, (lp_rds P L rows N 0 R fr to ln).2.2.1, T, (lp_rds P L rows N 0 R fr to ln).2.1, L, B, Nw, U, C, Kd), ((lp_rds P L rows N 0 R fr to ln).2.2.2.1, (lp_rds P L rows N 0 R fr to ln).2.2.2.2.1, (lp_rds P L rows N 0 R fr to ln).2.2.2.2.2, aw'), (su, ca, we, fa, sb, tb), (wk, nw, wo), (k0, k1, k2, k3, k4, k5), RE, BF, BK))) := by
  obtain ⟨ℓ, hBl⟩ := hB
  refine lt_C_of [some (.ref (ad 0)), some (.int k), none, none, none] rfl rfl (Nat.le_of_ble_eq_true rfl) ?_
  intro κ K hz hAs hnm htab hE
  refine la_iload_n K dX0_roads_0 rfl ?_
  refine la_callSp K ok_X0_isBook q587 (lb_isBook _) rfl rfl rfl (Nat.le_of_ble_eq_true rfl) ⟨Nat.le_of_ble_eq_true rfl, Nat.le_of_ble_eq_true rfl⟩ ⟨Nat.zero_le _, Nat.zero_le _⟩ dX0_roads_1 ?_
  refine la_if_neC K 13 dX0_roads_4 rfl (fun h4 => ?_) (fun h4 => ?_)
  rotate_left 1
  · refine la_aload_n K dX0_roads_7 rfl ?_
    refine la_iconst K dX0_roads_8 la_ki_m1 ?_
    refine la_callVi0 K ok_X0_refused q590 (lb_refused _) 0 rfl rfl rfl rfl rfl (Nat.le_of_ble_eq_true rfl) ⟨Nat.le_of_ble_eq_true rfl, Nat.le_of_ble_eq_true rfl⟩ ⟨Nat.zero_le _, Nat.zero_le _⟩ dX0_roads_9 (fun r u p => ?_)
    obtain ⟨rfl, rfl⟩ := p
    exact hE.1 _ _ _ _ _ (Nat.zero_le _) (Nat.zero_le _) rfl dX0_roads_12 (Or.inl ⟨h4, rfl, rfl⟩)
  obtain ⟨kk, -, hkk, rfl⟩ := lp_inI_N h4 (by decide)
  refine la_iconst K dX0_roads_13 la_ki_0 ?_
  refine la_istore2 K dX0_roads_14 rfl ?_
  refine la_aload_n K dX0_roads_15 rfl ?_
  refine la_iconst K dX0_roads_16 la_ki_0 ?_
  refine lb_p_S K q135 dX0_roads_17 ?_
  refine la_aload_n K dX0_roads_20 rfl ?_
  refine lb_g_c39 K q170 dX0_roads_21 ?_
  refine la_iload_n K dX0_roads_24 rfl ?_
  refine la_aaldR (f := BF) K 39 6 rfl rfl rfl (by decide) (by omega) dX0_roads_25 ?_
  rcases hbk : bk kk with _ | ⟨s, N, rows⟩
  · rw [(hBl.1 kk (by omega)).1 hbk]
    refine la_astore_n0 K dX0_roads_26 (Nat.le_of_ble_eq_true rfl) rfl ?_
    refine la_aload_n0 K dX0_roads_27 rfl ?_
    refine la_xvirt0 (k := 0) (As := []) (rest := []) K ⟨hz, hAs, hoff⟩ rfl (Nat.zero_le _) (lt_rm_ok _ _ _) ⟨Nat.le_of_ble_eq_true rfl, Nat.le_of_ble_eq_true rfl⟩ q752 q754 q753 (by decide +kernel) rfl rfl dX0_roads_28 ?_
    refine la_Th_catch K htab ["java/lang/NullPointerException", "java/lang/ArrayIndexOutOfBoundsException"] 0 rfl (by decide) rfl (fun i q nm h1 h2 => by
      rcases i with _ | i
      · cases h1; cases h2; exact q659
      rcases i with _ | i
      · cases h1; cases h2; exact q684
      cases h1) (fun i nm hi h2 => by
      omega) ⟨_, rfl, q681⟩ (fun a => ?_)
    refine la_astore3 K dX0_roads_77 rfl ?_
    refine la_aload_n K dX0_roads_78 rfl ?_
    refine la_bipush (v := -11) K dX0_roads_79 (by decide +kernel) ?_
    refine lb_p_S K q135 dX0_roads_81 ?_
    refine la_goto K 94 dX0_roads_84 rfl ?_
    refine la_iload_n K dX0_roads_94 rfl ?_
    exact hE.1 _ _ _ _ _ (Nat.le_of_ble_eq_true rfl) (Nat.le_of_ble_eq_true rfl) rfl dX0_roads_95 (Or.inr ⟨kk, rfl, by omega, Or.inl ⟨hbk, rfl, rfl⟩⟩)
  · obtain ⟨hbf, hB1⟩ := (hBl.1 kk (by omega)).2 s N rows hbk
    have hN := hB1.2.1
    rw [hbf]
    have lp : ∀ (j i R1 : Nat) (fr1 to1 ln1 aw1 : Nat → Nat), i + j = N → lb_J ((P, R1, T, nI 0, L, B, Nw, U, C, Kd), (fr1, to1, ln1, aw1), (su, ca, we, fa, sb, tb), (wk, nw, wo), (k0, k1, k2, k3, k4, k5), RE, BF, BK) → lp_rds P L rows N 0 R fr to ln = lp_rds P L rows j i R1 fr1 to1 ln1 → la_At ω κ (9 * i, 720 * i) 33 [some (.ref (ad 0)), some (.int (nI kk)), some (.int (nI (i))), some (.ref (ℓ kk).1.2), some (.int (nI N))] [] (lb_W ω.2.2 ad ((P, R1, T, nI 0, L, B, Nw, U, C, Kd), (fr1, to1, ln1, aw1), (su, ca, we, fa, sb, tb), (wk, nw, wo), (k0, k1, k2, k3, k4, k5), RE, BF, BK)) := by
      intro j
      induction j with
      | zero =>
        intro i R1 fr1 to1 ln1 aw1 hij hJ1 htot
        refine la_iload_n K dX0_roads_33 rfl ?_
        refine la_iload K dX0_roads_34 rfl ?_
        refine la_icmp_geN K 74 dX0_roads_36 rfl (by omega) (by omega) (fun _ => ?_) (fun h => absurd h (by omega))
        refine la_goto K 94 dX0_roads_74 rfl ?_
        have hT : lp_rds P L rows N 0 R fr to ln = (i, nI 0, R1, fr1, to1, ln1) := by rw [htot, lp_rds]
        refine la_iload_n K dX0_roads_94 rfl ?_
        exact hE.1 _ _ _ _ _ (by show 9 * i ≤ 36; omega) (by show 720 * i ≤ 2880; omega) rfl dX0_roads_95 (Or.inr ⟨kk, rfl, by omega, Or.inr ⟨s, N, rows, hbk, (by rw [hT]; try rfl), aw1, by rw [hT], by rw [hT]; exact hJ1⟩⟩)
      | succ j ih =>
        intro i R1 fr1 to1 ln1 aw1 hij hJ1 htot
        refine la_iload_n K dX0_roads_33 rfl ?_
        refine la_iload K dX0_roads_34 rfl ?_
        refine la_icmp_geN K 74 dX0_roads_36 rfl (by omega) (by omega) (fun h => absurd h (by omega)) (fun _ => ?_)
        refine la_aload_n K dX0_roads_39 rfl ?_
        refine lb_g_S K q135 dX0_roads_40 ?_
        refine la_if_ne K 74 dX0_roads_43 rfl (fun h => absurd rfl h) (fun _ => ?_)
        refine la_aload_n K dX0_roads_46 rfl ?_
        refine la_aload_n K dX0_roads_47 rfl ?_
        refine la_aload_n K dX0_roads_48 rfl ?_
        refine la_iload_n K dX0_roads_49 rfl ?_
        refine lt_at K (lb_roadFrom hoff hJ1 hB1 (by omega)) lt_Zs_b (by decide) (lt_codeC K ok_X0_roadFrom.2.2.2.1) (lt_invV (k := 2) (As := [.ref (ℓ kk).1.2, .int (nI i)]) (rest := [.ref (ad 0)]) K (lt_sigC K ok_X0_roadFrom.2.2.2.1) q767 ok_X0_roadFrom.1 ok_X0_roadFrom.2.1 (by decide +kernel) 0 rfl rfl rfl dX0_roads_50) dX0_roads_50 rfl (Nat.le_of_ble_eq_true rfl) ⟨Nat.le_of_ble_eq_true rfl, Nat.le_of_ble_eq_true rfl⟩ ⟨by show 9 * i + 9 ≤ 36; omega, by show 720 * i + 720 ≤ 2880; omega⟩ (lt_Zs_at hz hAs) (fun v u h => ?_) (fun X u h => ?_)
        · rcases h with ⟨-, h, -⟩ | ⟨m, c, hr, ⟨-, h, -⟩ | ⟨hm, ⟨hg, h, rfl⟩ | ⟨hg, h, aw2, rfl, haw⟩⟩⟩
          · cases h
          · cases h
          · cases h
            have hneg := lp_rdA_neg hJ1.2.1 hg
            have hne : ¬ lp_rdA P R1 L (c 0) (c 1) (c 2) = 0 := fun z => hneg (by rw [z]; decide)
            refine lb_p_S K q135 dX0_roads_53 ?_
            refine la_iload_n K dX0_roads_56 rfl ?_
            refine la_aload_n K dX0_roads_57 rfl ?_
            refine lb_g_S K q135 dX0_roads_58 ?_
            refine la_if_ne K 68 dX0_roads_61 rfl (fun _ => ?_) (fun z => absurd z hne)
            refine la_iconst K dX0_roads_68 la_ki_0 ?_
            refine la_iaddN K dX0_roads_69 ?_
            refine la_istore2 K dX0_roads_70 rfl ?_
            refine la_goto K 33 dX0_roads_71 rfl ?_
            refine la_iload_n K dX0_roads_33 rfl ?_
            refine la_iload K dX0_roads_34 rfl ?_
            refine la_icmp_geN K 74 dX0_roads_36 rfl (by omega) (by omega) (fun h => absurd h (by omega)) (fun _ => ?_)
            refine la_aload_n K dX0_roads_39 rfl ?_
            refine lb_g_S K q135 dX0_roads_40 ?_
            refine la_if_ne K 74 dX0_roads_43 rfl (fun _ => ?_) (fun z => absurd z hne)
            refine la_goto K 94 dX0_roads_74 rfl ?_
            have hT : lp_rds P L rows N 0 R fr to ln = (i, lp_rdA P R1 L (c 0) (c 1) (c 2), R1, fr1, to1, ln1) := by rw [htot, lp_rds_no hr hm hg]
            refine la_iload_n K dX0_roads_94 rfl ?_
            exact hE.1 _ _ _ _ _ (by show 9 * i + 9 ≤ 36; omega) (by show 720 * i + 720 ≤ 2880; omega) rfl dX0_roads_95 (Or.inr ⟨kk, rfl, by omega, Or.inr ⟨s, N, rows, hbk, (by rw [hT]; try rfl), aw1, by rw [hT], by rw [hT]; exact hJ1⟩⟩)
          · cases h
            refine lb_p_S K q135 dX0_roads_53 ?_
            refine la_iload_n K dX0_roads_56 rfl ?_
            refine la_aload_n K dX0_roads_57 rfl ?_
            refine lb_g_S K q135 dX0_roads_58 ?_
            refine la_if_ne K 68 dX0_roads_61 rfl (fun h => absurd rfl h) (fun _ => ?_)
            refine la_iconst K dX0_roads_64 la_ki_1 ?_
            refine la_goto K 69 dX0_roads_65 rfl ?_
            refine la_iaddN K dX0_roads_69 ?_
            refine la_istore2 K dX0_roads_70 rfl ?_
            refine la_goto K 33 dX0_roads_71 rfl ?_
            exact ih (i + 1) _ _ _ _ _ (by omega) (lb_J_road hJ1 hg haw) (by rw [htot]; exact lp_rds_go hr hm hg)
        · rcases h with ⟨hr, h, rfl⟩ | ⟨m, c, hr, ⟨hm, h, rfl⟩ | ⟨-, ⟨-, h, -⟩ | ⟨-, h, -⟩⟩⟩
          · cases h
            have hT : lp_rds P L rows N 0 R fr to ln = (i, -11, R1, fr1, to1, ln1) := by rw [htot, lp_rds_none hr]
            refine la_Th_catch K htab ["java/lang/NullPointerException", "java/lang/ArrayIndexOutOfBoundsException"] 0 rfl (by decide) rfl (fun i q nm h1 h2 => by
            rcases i with _ | i
            · cases h1; cases h2; exact q659
            rcases i with _ | i
            · cases h1; cases h2; exact q684
            cases h1) (fun i nm hi h2 => by
            omega) ⟨_, rfl, q681⟩ (fun a => ?_)
            refine la_astore3 K dX0_roads_77 rfl ?_
            refine la_aload_n K dX0_roads_78 rfl ?_
            refine la_bipush (v := -11) K dX0_roads_79 (by decide +kernel) ?_
            refine lb_p_S K q135 dX0_roads_81 ?_
            refine la_goto K 94 dX0_roads_84 rfl ?_
            refine la_iload_n K dX0_roads_94 rfl ?_
            exact hE.1 _ _ _ _ _ (by show 9 * i + 9 ≤ 36; omega) (by show 720 * i + 720 ≤ 2880; omega) rfl dX0_roads_95 (Or.inr ⟨kk, rfl, by omega, Or.inr ⟨s, N, rows, hbk, (by rw [hT]; try rfl), aw1, by rw [hT], by rw [hT]; exact hJ1⟩⟩)
          · cases h
            have hT : lp_rds P L rows N 0 R fr to ln = (i, -12, R1, fr1, to1, ln1) := by rw [htot, lp_rds_short hr hm]
            refine la_Th_catch K htab ["java/lang/NullPointerException", "java/lang/ArrayIndexOutOfBoundsException"] 1 rfl (by decide) rfl (fun i q nm h1 h2 => by
            rcases i with _ | i
            · cases h1; cases h2; exact q659
            rcases i with _ | i
            · cases h1; cases h2; exact q684
            cases h1) (fun i nm hi h2 => by
            rcases i with _ | i
            · cases h2; exact ln_IDX_NPE
            omega) ⟨_, rfl, q699⟩ (fun a => ?_)
            refine la_astore3 K dX0_roads_87 rfl ?_
            refine la_aload_n K dX0_roads_88 rfl ?_
            refine la_bipush (v := -12) K dX0_roads_89 (by decide +kernel) ?_
            refine lb_p_S K q135 dX0_roads_91 ?_
            refine la_iload_n K dX0_roads_94 rfl ?_
            exact hE.1 _ _ _ _ _ (by show 9 * i + 9 ≤ 36; omega) (by show 720 * i + 720 ≤ 2880; omega) rfl dX0_roads_95 (Or.inr ⟨kk, rfl, by omega, Or.inr ⟨s, N, rows, hbk, (by rw [hT]; try rfl), aw1, by rw [hT], by rw [hT]; exact hJ1⟩⟩)
          · cases h
          · cases h
    refine la_astore3 K dX0_roads_26 rfl ?_
    refine la_aload_n K dX0_roads_27 rfl ?_
    refine lb_r_rows (ws := (lb_W ω.2.2 ad ((P, R, T, nI 0, L, B, Nw, U, C, Kd), (fr, to, ln, aw), (su, ca, we, fa, sb, tb), (wk, nw, wo), (k0, k1, k2, k3, k4, k5), RE, BF, BK))) (ℓ := lb_sh (ℓ kk)) (rest := []) K ⟨hz, hAs, hoff⟩ (lb_B1_W hB1) rfl (Nat.zero_le _) q752 ⟨Nat.le_of_ble_eq_true rfl, Nat.le_of_ble_eq_true rfl⟩ ⟨Nat.le_of_ble_eq_true rfl, Nat.le_of_ble_eq_true rfl⟩ dX0_roads_28 ?_
    refine la_istore4 K dX0_roads_31 rfl ?_
    exact lp N 0 R fr to ln aw (by omega) hJ rfl
end LC22
