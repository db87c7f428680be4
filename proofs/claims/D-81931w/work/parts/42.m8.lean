/-! THE MODEL's METHODS, part 8: roads and calls out of books. Printed by m8.py. -/
section LM8
variable {ω : la_O} {ad : Nat → Nat} {th S lt : Int32} {T : Int64} {P R L B Kd C : Nat} {ra rb rl fa aa su cp cl cf ck cm le tr re bh so br wh wy : Nat → Nat} {ct rs : Nat → Int32} {ce : Nat → Int64} {bk : lp_Bk}
set_option maxHeartbeats 4000000 in
theorem lm_roadsB (k : Int32) (hJ : lm_J ((th, S, T, P, R, L, B, Kd, lt, C), (ra, rb, rl, fa), (aa, su), (cp, cl, cf, ck, cm, ct), (le, tr, re), (bh, so, br, rs, ce), (wh, wy))) (hB : lm_BR bk bh so br rs ce) : la_CI ω yX5_roads cX5_roads 7 (some .int) (la_rm 2) [.ref (ad 0), .int k] (lm_W ω.2.2 ad ((th, S, T, P, R, L, B, Kd, lt, C), (ra, rb, rl, fa), (aa, su), (cp, cl, cf, ck, cm, ct), (le, tr, re), (bh, so, br, rs, ce), (wh, wy))) (lm_W ω.2.2 ad) (fun (r : Int32) (u : lm_S) => (¬ lp_inI k 0 2 ∧ r = -1 ∧ u = ((nI 0, (-1), T, P, R, L, B, Kd, lt, C), (ra, rb, rl, fa), (aa, su), (cp, cl, cf, ck, cm, ct), (le, tr, re), (bh, so, br, rs, ce), (wh, wy))) ∨ (∃ kk, k = nI kk ∧ kk < 3 ∧ ((bk kk = none ∧ r = nI 0 ∧ u = ((nI 0, (-11), T, P, R, L, B, Kd, lt, C), (ra, rb, rl, fa), (aa, su), (cp, cl, cf, ck, cm, ct), (le, tr, re), (bh, so, br, rs, ce), (wh, wy))) ∨ (∃ s m rows, bk kk = some (s, m, rows) ∧ r = nI (lp_rds P L rows m 0 R ra rb rl).1 ∧ u = ((nI 0, (lp_rds P L rows m 0 R ra rb rl).2.1, T, P, (lp_rds P L rows m 0 R ra rb rl).2.2.1, L, B, Kd, lt, C), ((lp_rds P L rows m 0 R ra rb rl).2.2.2.1, (lp_rds P L rows m 0 R ra rb rl).2.2.2.2.1, (lp_rds P L rows m 0 R ra rb rl).2.2.2.2.2, fa), (aa, su), (cp, cl, cf, ck, cm, ct), (le, tr, re), (bh, so, br, rs, ce), (wh, wy)) ∧ lm_J u)))) := by
  refine la_CI_of (by decide) [some (.ref (ad 0)), some (.int (k)), none, none, none, none, none] rfl rfl (Nat.le_of_ble_eq_true rfl) ?_
  intro κ K hret
  have hJx : lm_Jx P R L B C Kd lt ra rb rl fa aa su cp cl cf ck cm ct le tr := hJ
  have hJ2 := hJx
  obtain ⟨hP, hR, hro, hL3, hC12, hKd, hLC, hle, htr, hDay⟩ := hJ2
  refine la_aload_n K dX5_roads_0 rfl ?_
  refine la_iconst K dX5_roads_1 la_ki_0 ?_
  refine lm_p_th K q827 dX5_roads_2 ?_
  refine la_aload_n K dX5_roads_5 rfl ?_
  refine la_iconst K dX5_roads_6 la_ki_0 ?_
  refine lm_p_S K q828 dX5_roads_7 ?_
  refine la_iload_n K dX5_roads_10 rfl ?_
  refine la_i2l K dX5_roads_11 rfl ?_
  refine la_lconst K dX5_roads_12 la_kn_0 ?_
  refine la_ldc2 K q1083 la_kL_2 dX5_roads_13 ?_
  refine la_callSp K ok_X5_in q937 (lm_in _ _ _ _) rfl rfl rfl (Nat.le_of_ble_eq_true rfl) ⟨Nat.le_of_ble_eq_true rfl, Nat.le_of_ble_eq_true rfl⟩ ⟨Nat.zero_le _, Nat.zero_le _⟩ dX5_roads_16 ?_
  refine la_if_neC K 28 dX5_roads_19 rfl (fun h19 => ?_) (fun h19 => ?_)
  · obtain ⟨kk, -, hkk, rfl⟩ := lp_inI_N ((lp_ints k (by decide) (by decide)).mp h19) (by decide)
    rcases hbk : bk kk with _ | ⟨s, m, rows⟩
    · skip
      refine la_aload_n K dX5_roads_28 rfl ?_
      refine lm_g_hb K q851 dX5_roads_29 ?_
      refine la_iload_n K dX5_roads_32 rfl ?_
      refine lm_ld_hb K (by omega) dX5_roads_33 ?_
      rw [(hB kk (by omega)).1 hbk]
      refine la_if_neN K 45 dX5_roads_34 rfl (by omega) (fun h34 => absurd rfl h34) (fun h34 => ?_)
      refine la_aload_n K dX5_roads_37 rfl ?_
      refine la_bipush K dX5_roads_38 la_kb_m11 ?_
      refine lm_p_S K q828 dX5_roads_40 ?_
      refine la_iconst K dX5_roads_43 la_ki_0 ?_
      exact hret _ _ _ _ dX5_roads_44 (Or.inr ⟨kk, rfl, by omega, Or.inl ⟨hbk, rfl, rfl⟩⟩)
    obtain ⟨b1, b2, b3, b4, b5, b6⟩ := (hB kk (by omega)).2 s m rows hbk
    refine la_aload_n K dX5_roads_28 rfl ?_
    refine lm_g_hb K q851 dX5_roads_29 ?_
    refine la_iload_n K dX5_roads_32 rfl ?_
    refine lm_ld_hb K (by omega) dX5_roads_33 ?_
    rw [b1]
    refine la_if_neN K 45 dX5_roads_34 rfl (by omega) (fun h34 => ?_) (fun h34 => absurd h34 (by decide))
    refine la_iconst K dX5_roads_45 la_ki_0 ?_
    refine la_istore2 K dX5_roads_46 rfl ?_
    refine la_iconst K dX5_roads_47 la_ki_0 ?_
    refine la_istore3 K dX5_roads_48 rfl ?_
    have lp : ∀ (j q : Nat) (R1 : Nat) (ra1 rb1 rl1 : Nat → Nat) (x4 x5 x6 : Option Value), q ≤ m → m < q + j → lp_rds P L rows (m - q) q R1 ra1 rb1 rl1 = (lp_rds P L rows m 0 R ra rb rl) → lm_Jx P (R1) L B C Kd lt (ra1) (rb1) (rl1) fa aa su cp cl cf ck cm ct le tr → la_At ω κ (0, 0) 49 [some (.ref (ad 0)), some (.int (nI (kk))), some (.int (nI (q))), some (.int (nI (q))), x4, x5, x6] [] (lm_W ω.2.2 ad ((nI 0, nI 0, T, P, R1, L, B, Kd, lt, C), (ra1, rb1, rl1, fa), (aa, su), (cp, cl, cf, ck, cm, ct), (le, tr, re), (bh, so, br, rs, ce), (wh, wy))) := by
      intro j
      induction j with
      | zero => intro q R1 ra1 rb1 rl1 x4 x5 x6 h1 h2; omega
      | succ j ih =>
        intro q R1 ra1 rb1 rl1 x4 x5 x6 h1 h2 hX hJ1
        by_cases hqm : q = m
        · rw [show m - q = 0 by omega] at hX
          refine la_iload_n K dX5_roads_49 rfl ?_
          refine la_aload_n K dX5_roads_50 rfl ?_
          refine lm_g_br K q853 dX5_roads_51 ?_
          refine la_iload_n K dX5_roads_54 rfl ?_
          refine lm_ld_br K (by omega) dX5_roads_55 ?_
          rw [b4]
          refine la_icmp_geN K 158 dX5_roads_56 rfl (by omega) (by omega) (fun h56 => ?_) (fun h56 => absurd h56 (by omega))
          refine la_iload_n K dX5_roads_158 rfl ?_
          exact hret _ _ _ _ dX5_roads_159 (Or.inr ⟨kk, rfl, by omega, Or.inr ⟨s, m, rows, hbk, by rw [← hX]; rfl, by rw [← hX]; rfl, hJ1⟩⟩)
        obtain ⟨mq, hmq⟩ : ∃ mq, m - q = mq + 1 := ⟨m - q - 1, by omega⟩
        rw [hmq] at hX
        rcases hro : rows q with _ | ⟨sz, cc⟩
        · skip
          refine la_iload_n K dX5_roads_49 rfl ?_
          refine la_aload_n K dX5_roads_50 rfl ?_
          refine lm_g_br K q853 dX5_roads_51 ?_
          refine la_iload_n K dX5_roads_54 rfl ?_
          refine lm_ld_br K (by omega) dX5_roads_55 ?_
          rw [b4]
          refine la_icmp_geN K 158 dX5_roads_56 rfl (by omega) (by omega) (fun h56 => absurd h56 (by omega)) (fun h56 => ?_)
          refine la_aload_n K dX5_roads_59 rfl ?_
          refine lm_g_rs K q854 dX5_roads_60 ?_
          refine la_iconst K dX5_roads_63 la_ki_4 ?_
          refine la_iload_n K dX5_roads_64 rfl ?_
          refine la_imulN K dX5_roads_65 ?_
          refine la_iload_n K dX5_roads_66 rfl ?_
          refine la_iaddN K dX5_roads_67 ?_
          refine lm_ld_rs K (by omega) dX5_roads_68 ?_
          rw [(b6 q (by omega)).1 hro]
          refine la_istore4 K dX5_roads_69 rfl ?_
          refine la_bipush K dX5_roads_71 la_kb_32 ?_
          refine la_iload_n K dX5_roads_73 rfl ?_
          refine la_imulN K dX5_roads_74 ?_
          refine la_bipush K dX5_roads_75 la_kb_8 ?_
          refine la_iload_n K dX5_roads_77 rfl ?_
          refine la_imulN K dX5_roads_78 ?_
          refine la_iaddN K dX5_roads_79 ?_
          refine la_istore5 K dX5_roads_80 rfl ?_
          refine la_iload K dX5_roads_82 rfl ?_
          refine la_bipush K dX5_roads_84 la_kb_m9 ?_
          refine la_icmp_ne K 94 dX5_roads_86 rfl (fun h86 => absurd rfl h86) (fun h86 => ?_)
          refine la_bipush K dX5_roads_89 la_kb_m11 ?_
          refine la_goto K 134 dX5_roads_91 rfl ?_
          refine la_istore6 K dX5_roads_134 rfl ?_
          refine la_iload K dX5_roads_136 rfl ?_
          refine la_if_ge K 149 dX5_roads_138 rfl (fun h138 => absurd h138 (by decide)) (fun h138 => ?_)
          refine la_aload_n K dX5_roads_141 rfl ?_
          refine la_iload K dX5_roads_142 rfl ?_
          refine lm_p_S K q828 dX5_roads_144 ?_
          refine la_iload_n K dX5_roads_147 rfl ?_
          exact hret _ _ _ _ dX5_roads_148 (Or.inr ⟨kk, rfl, by omega, Or.inr ⟨s, m, rows, hbk, by rw [← hX, lp_rds_none hro], by rw [← hX, lp_rds_none hro], hJ1⟩⟩)
        obtain ⟨d1, d2, d3⟩ := (b6 q (by omega)).2 sz cc hro
        refine la_iload_n K dX5_roads_49 rfl ?_
        refine la_aload_n K dX5_roads_50 rfl ?_
        refine lm_g_br K q853 dX5_roads_51 ?_
        refine la_iload_n K dX5_roads_54 rfl ?_
        refine lm_ld_br K (by omega) dX5_roads_55 ?_
        rw [b4]
        refine la_icmp_geN K 158 dX5_roads_56 rfl (by omega) (by omega) (fun h56 => absurd h56 (by omega)) (fun h56 => ?_)
        refine la_aload_n K dX5_roads_59 rfl ?_
        refine lm_g_rs K q854 dX5_roads_60 ?_
        refine la_iconst K dX5_roads_63 la_ki_4 ?_
        refine la_iload_n K dX5_roads_64 rfl ?_
        refine la_imulN K dX5_roads_65 ?_
        refine la_iload_n K dX5_roads_66 rfl ?_
        refine la_iaddN K dX5_roads_67 ?_
        refine lm_ld_rs K (by omega) dX5_roads_68 ?_
        rw [d1]
        refine la_istore4 K dX5_roads_69 rfl ?_
        refine la_bipush K dX5_roads_71 la_kb_32 ?_
        refine la_iload_n K dX5_roads_73 rfl ?_
        refine la_imulN K dX5_roads_74 ?_
        refine la_bipush K dX5_roads_75 la_kb_8 ?_
        refine la_iload_n K dX5_roads_77 rfl ?_
        refine la_imulN K dX5_roads_78 ?_
        refine la_iaddN K dX5_roads_79 ?_
        refine la_istore5 K dX5_roads_80 rfl ?_
        refine la_iload K dX5_roads_82 rfl ?_
        refine la_bipush K dX5_roads_84 la_kb_m9 ?_
        refine la_icmp_ne K 94 dX5_roads_86 rfl (fun h86 => ?_) (fun h86 => absurd h86 (lp_nn (by omega)))
        refine la_iload K dX5_roads_94 rfl ?_
        refine la_iconst K dX5_roads_96 la_ki_3 ?_
        refine la_icmp_geN K 105 dX5_roads_97 rfl (by omega) (by omega) (fun h97 => ?_) (fun h97 => ?_)
        · refine la_aload_n K dX5_roads_105 rfl ?_
          refine la_aload_n K dX5_roads_106 rfl ?_
          refine lm_g_ce K q855 dX5_roads_107 ?_
          refine la_iload K dX5_roads_110 rfl ?_
          refine lm_ld_ce K (by omega) dX5_roads_112 ?_
          have d30 := d3 0 (by omega)
          rw [Nat.add_zero] at d30
          rw [d30]
          refine la_aload_n K dX5_roads_113 rfl ?_
          refine lm_g_ce K q855 dX5_roads_114 ?_
          refine la_iload K dX5_roads_117 rfl ?_
          refine la_iconst K dX5_roads_119 la_ki_1 ?_
          refine la_iaddN K dX5_roads_120 ?_
          refine lm_ld_ce K (by omega) dX5_roads_121 ?_
          rw [d3 1 (by omega)]
          refine la_aload_n K dX5_roads_122 rfl ?_
          refine lm_g_ce K q855 dX5_roads_123 ?_
          refine la_iload K dX5_roads_126 rfl ?_
          refine la_iconst K dX5_roads_128 la_ki_2 ?_
          refine la_iaddN K dX5_roads_129 ?_
          refine lm_ld_ce K (by omega) dX5_roads_130 ?_
          rw [d3 2 (by omega)]
          refine la_callVi0 K ok_X5_addRoad q933 (lm_addRoad _ _ _ hJ1.1 hJ1.2.2.2.1 hJ1.2.1) 0 rfl rfl rfl rfl rfl (Nat.le_of_ble_eq_true rfl) ⟨Nat.le_of_ble_eq_true rfl, Nat.le_of_ble_eq_true rfl⟩ ⟨Nat.zero_le _, Nat.zero_le _⟩ dX5_roads_131 (fun r131 u131 p131 => ?_)
          obtain ⟨hr131, hc131⟩ := p131
          subst hr131
          rcases hc131 with ⟨hng, rfl⟩ | ⟨hgo, rfl⟩
          · skip
            refine la_istore6 K dX5_roads_134 rfl ?_
            refine la_iload K dX5_roads_136 rfl ?_
            refine la_if_ge K 149 dX5_roads_138 rfl (fun h138 => absurd h138 (lp_rdA_neg hJ1.2.1 hng)) (fun h138 => ?_)
            refine la_aload_n K dX5_roads_141 rfl ?_
            refine la_iload K dX5_roads_142 rfl ?_
            refine lm_p_S K q828 dX5_roads_144 ?_
            refine la_iload_n K dX5_roads_147 rfl ?_
            exact hret _ _ _ _ dX5_roads_148 (Or.inr ⟨kk, rfl, by omega, Or.inr ⟨s, m, rows, hbk, by rw [← hX, lp_rds_no hro (by omega) hng], by rw [← hX, lp_rds_no hro (by omega) hng], hJ1⟩⟩)
          rw [lp_rdA_pos hgo]
          have hR15 := hgo.2.2
          refine la_istore6 K dX5_roads_134 rfl ?_
          refine la_iload K dX5_roads_136 rfl ?_
          refine la_if_geN K 149 dX5_roads_138 rfl (by omega) ?_
          refine la_iinc2 K dX5_roads_149 (la_inc_N _) rfl ?_
          refine la_iinc3 K dX5_roads_152 (la_inc_N _) rfl ?_
          refine la_goto K 49 dX5_roads_155 rfl ?_
          exact ih (q + 1) _ _ _ _ _ _ _ (by omega) (by omega) (by rw [lp_rds_go hro (by omega) hgo] at hX; rw [show m - (q + 1) = mq by omega]; exact hX) (lm_J_road hJ1 hgo)
        · refine la_bipush K dX5_roads_100 la_kb_m12 ?_
          refine la_goto K 134 dX5_roads_102 rfl ?_
          refine la_istore6 K dX5_roads_134 rfl ?_
          refine la_iload K dX5_roads_136 rfl ?_
          refine la_if_ge K 149 dX5_roads_138 rfl (fun h138 => absurd h138 (by decide)) (fun h138 => ?_)
          refine la_aload_n K dX5_roads_141 rfl ?_
          refine la_iload K dX5_roads_142 rfl ?_
          refine lm_p_S K q828 dX5_roads_144 ?_
          refine la_iload_n K dX5_roads_147 rfl ?_
          exact hret _ _ _ _ dX5_roads_148 (Or.inr ⟨kk, rfl, by omega, Or.inr ⟨s, m, rows, hbk, by rw [← hX, lp_rds_short hro h97], by rw [← hX, lp_rds_short hro h97], hJ1⟩⟩)
    exact lp (m + 1) 0 _ _ _ _ _ _ _ (by omega) (by omega) rfl hJ
  · refine la_aload_n K dX5_roads_22 rfl ?_
    refine la_iconst K dX5_roads_23 la_ki_m1 ?_
    refine la_callVi0 K ok_X5_no q1088 (lm_no _) 0 rfl rfl rfl rfl rfl (Nat.le_of_ble_eq_true rfl) ⟨Nat.le_of_ble_eq_true rfl, Nat.le_of_ble_eq_true rfl⟩ ⟨Nat.zero_le _, Nat.zero_le _⟩ dX5_roads_24 (fun r24 u24 p24 => ?_)
    obtain ⟨rfl, rfl⟩ := p24
    exact hret _ _ _ _ dX5_roads_27 (Or.inl ⟨fun z => h19 ((lp_ints k (by decide) (by decide)).mpr z), rfl, rfl⟩)
set_option maxHeartbeats 4000000 in
theorem lm_callsB (k q : Int32) (hJ : lm_J ((th, S, T, P, R, L, B, Kd, lt, C), (ra, rb, rl, fa), (aa, su), (cp, cl, cf, ck, cm, ct), (le, tr, re), (bh, so, br, rs, ce), (wh, wy))) (hB : lm_BR bk bh so br rs ce) : la_CI ω yX5_calls cX5_calls 8 (some .int) (la_rm 5) [.ref (ad 0), .int k, .int q] (lm_W ω.2.2 ad ((th, S, T, P, R, L, B, Kd, lt, C), (ra, rb, rl, fa), (aa, su), (cp, cl, cf, ck, cm, ct), (le, tr, re), (bh, so, br, rs, ce), (wh, wy))) (lm_W ω.2.2 ad) (fun (r : Int32) (u : lm_S) => (¬ lp_inI k 0 2 ∧ r = -1 ∧ u = ((nI 0, (-1), T, P, R, L, B, Kd, lt, C), (ra, rb, rl, fa), (aa, su), (cp, cl, cf, ck, cm, ct), (le, tr, re), (bh, so, br, rs, ce), (wh, wy))) ∨ (∃ kk, k = nI kk ∧ kk < 3 ∧ ((bk kk = none ∧ r = nI 0 ∧ u = ((nI 0, (-11), T, P, R, L, B, Kd, lt, C), (ra, rb, rl, fa), (aa, su), (cp, cl, cf, ck, cm, ct), (le, tr, re), (bh, so, br, rs, ce), (wh, wy))) ∨ (∃ s m rows, bk kk = some (s, m, rows) ∧ ((¬ lp_in q m ∧ r = nI 0 ∧ u = ((nI 0, (-12), T, P, R, L, B, Kd, lt, C), (ra, rb, rl, fa), (aa, su), (cp, cl, cf, ck, cm, ct), (le, tr, re), (bh, so, br, rs, ce), (wh, wy))) ∨ (∃ kq, q = nI kq ∧ kq < m ∧ ((rows kq = none ∧ r = nI 0 ∧ u = ((nI 0, (-11), T, P, R, L, B, Kd, lt, C), (ra, rb, rl, fa), (aa, su), (cp, cl, cf, ck, cm, ct), (le, tr, re), (bh, so, br, rs, ce), (wh, wy))) ∨ (∃ sz cc, rows kq = some (sz, cc) ∧ r = nI (lp_cls P L fa B Kd cc sz 0 C cp cl ck T).1 ∧ ∃ (lt' : Int32) (aa' su' cf' cm' : Nat → Nat) (ct' : Nat → Int32) (le' : Nat → Nat), u = ((nI 0, (lp_cls P L fa B Kd cc sz 0 C cp cl ck T).2.1, (lp_cls P L fa B Kd cc sz 0 C cp cl ck T).2.2.2.2.2.2, P, R, L, B, Kd, lt', (lp_cls P L fa B Kd cc sz 0 C cp cl ck T).2.2.1), (ra, rb, rl, fa), (aa', su'), ((lp_cls P L fa B Kd cc sz 0 C cp cl ck T).2.2.2.1, (lp_cls P L fa B Kd cc sz 0 C cp cl ck T).2.2.2.2.1, cf', (lp_cls P L fa B Kd cc sz 0 C cp cl ck T).2.2.2.2.2.1, cm', ct'), (le', tr, re), (bh, so, br, rs, ce), (wh, wy)) ∧ lm_J u)))))))) := by
  refine la_CI_of (by decide) [some (.ref (ad 0)), some (.int (k)), some (.int (q)), none, none, none, none, none] rfl rfl (Nat.le_of_ble_eq_true rfl) ?_
  intro κ K hret
  have hJx : lm_Jx P R L B C Kd lt ra rb rl fa aa su cp cl cf ck cm ct le tr := hJ
  have hJ2 := hJx
  obtain ⟨hP, hR, hro, hL3, hC12, hKd, hLC, hle, htr, hDay⟩ := hJ2
  refine la_aload_n K dX5_calls_0 rfl ?_
  refine la_iconst K dX5_calls_1 la_ki_0 ?_
  refine lm_p_th K q827 dX5_calls_2 ?_
  refine la_aload_n K dX5_calls_5 rfl ?_
  refine la_iconst K dX5_calls_6 la_ki_0 ?_
  refine lm_p_S K q828 dX5_calls_7 ?_
  refine la_iload_n K dX5_calls_10 rfl ?_
  refine la_i2l K dX5_calls_11 rfl ?_
  refine la_lconst K dX5_calls_12 la_kn_0 ?_
  refine la_ldc2 K q1083 la_kL_2 dX5_calls_13 ?_
  refine la_callSp K ok_X5_in q937 (lm_in _ _ _ _) rfl rfl rfl (Nat.le_of_ble_eq_true rfl) ⟨Nat.le_of_ble_eq_true rfl, Nat.le_of_ble_eq_true rfl⟩ ⟨Nat.zero_le _, Nat.zero_le _⟩ dX5_calls_16 ?_
  refine la_if_neC K 28 dX5_calls_19 rfl (fun h19 => ?_) (fun h19 => ?_)
  · obtain ⟨kk, -, hkk, rfl⟩ := lp_inI_N ((lp_ints k (by decide) (by decide)).mp h19) (by decide)
    rcases hbk : bk kk with _ | ⟨s, m, rows⟩
    · skip
      refine la_aload_n K dX5_calls_28 rfl ?_
      refine lm_g_hb K q851 dX5_calls_29 ?_
      refine la_iload_n K dX5_calls_32 rfl ?_
      refine lm_ld_hb K (by omega) dX5_calls_33 ?_
      rw [(hB kk (by omega)).1 hbk]
      refine la_if_eqN K 70 dX5_calls_34 rfl (by omega) (fun h34 => ?_) (fun h34 => absurd rfl h34)
      refine la_aload_n K dX5_calls_70 rfl ?_
      refine la_bipush K dX5_calls_71 la_kb_m11 ?_
      refine lm_p_S K q828 dX5_calls_73 ?_
      refine la_iconst K dX5_calls_76 la_ki_0 ?_
      exact hret _ _ _ _ dX5_calls_77 (Or.inr ⟨kk, rfl, by omega, Or.inl ⟨hbk, rfl, rfl⟩⟩)
    obtain ⟨b1, b2, b3, b4, b5, b6⟩ := (hB kk (by omega)).2 s m rows hbk
    by_cases hin : lp_in q m
    · obtain ⟨kq, hkq, rfl⟩ := lp_in_N hin (by omega)
      rcases hro : rows kq with _ | ⟨sz, cc⟩
      · skip
        refine la_aload_n K dX5_calls_28 rfl ?_
        refine lm_g_hb K q851 dX5_calls_29 ?_
        refine la_iload_n K dX5_calls_32 rfl ?_
        refine lm_ld_hb K (by omega) dX5_calls_33 ?_
        rw [b1]
        refine la_if_eqN K 70 dX5_calls_34 rfl (by omega) (fun h34 => absurd h34 (by decide)) (fun h34 => ?_)
        refine la_iload_n K dX5_calls_37 rfl ?_
        refine la_i2l K dX5_calls_38 rfl ?_
        refine la_lconst K dX5_calls_39 la_kn_0 ?_
        refine la_aload_n K dX5_calls_40 rfl ?_
        refine lm_g_br K q853 dX5_calls_41 ?_
        refine la_iload_n K dX5_calls_44 rfl ?_
        refine lm_ld_br K (by omega) dX5_calls_45 ?_
        rw [b4]
        refine la_iconst K dX5_calls_46 la_ki_1 ?_
        refine la_isub K dX5_calls_47 ?_
        refine la_i2l K dX5_calls_48 rfl ?_
        refine la_callSp K ok_X5_in q937 (lm_in _ _ _ _) rfl rfl rfl (Nat.le_of_ble_eq_true rfl) ⟨Nat.le_of_ble_eq_true rfl, Nat.le_of_ble_eq_true rfl⟩ ⟨Nat.zero_le _, Nat.zero_le _⟩ dX5_calls_49 ?_
        refine la_if_eqC K 78 dX5_calls_52 rfl (fun h52 => absurd ((lp_intB (nI kq) (by omega)).mpr hin) h52) (fun h52 => ?_)
        refine la_aload_n K dX5_calls_55 rfl ?_
        refine lm_g_rs K q854 dX5_calls_56 ?_
        refine la_iconst K dX5_calls_59 la_ki_4 ?_
        refine la_iload_n K dX5_calls_60 rfl ?_
        refine la_imulN K dX5_calls_61 ?_
        refine la_iload_n K dX5_calls_62 rfl ?_
        refine la_iaddN K dX5_calls_63 ?_
        refine lm_ld_rs K (by omega) dX5_calls_64 ?_
        rw [(b6 kq hkq).1 hro]
        refine la_bipush K dX5_calls_65 la_kb_m9 ?_
        refine la_icmp_ne K 78 dX5_calls_67 rfl (fun h67 => absurd rfl h67) (fun h67 => ?_)
        refine la_aload_n K dX5_calls_70 rfl ?_
        refine la_bipush K dX5_calls_71 la_kb_m11 ?_
        refine lm_p_S K q828 dX5_calls_73 ?_
        refine la_iconst K dX5_calls_76 la_ki_0 ?_
        exact hret _ _ _ _ dX5_calls_77 (Or.inr ⟨kk, rfl, by omega, Or.inr ⟨s, m, rows, hbk, Or.inr ⟨kq, rfl, hkq, Or.inl ⟨hro, rfl, rfl⟩⟩⟩⟩)
      · obtain ⟨d1, d2, d3⟩ := (b6 kq hkq).2 sz cc hro
        have lp : ∀ (j q2 : Nat) (C1 : Nat) (cp1 cl1 ck1 : Nat → Nat) (T1 : Int64) (lt1 : Int32) (aa1 su1 cf1 cm1 : Nat → Nat) (ct1 : Nat → Int32) (le1 : Nat → Nat) (x5 x6 x7 : Option Value), q2 ≤ sz → sz < q2 + j → lp_cls P L fa B Kd cc (sz - q2) q2 C1 cp1 cl1 ck1 T1 = (lp_cls P L fa B Kd cc sz 0 C cp cl ck T) → lm_Jx P R L B (C1) Kd (lt1) ra rb rl fa (aa1) (su1) (cp1) (cl1) (cf1) (ck1) (cm1) (ct1) (le1) tr → la_At ω κ (0, 0) 109 [some (.ref (ad 0)), some (.int (nI (kk))), some (.int (nI (kq))), some (.int (nI (q2))), some (.int (nI (q2))), x5, x6, x7] [] (lm_W ω.2.2 ad ((nI 0, nI 0, T1, P, R, L, B, Kd, lt1, C1), (ra, rb, rl, fa), (aa1, su1), (cp1, cl1, cf1, ck1, cm1, ct1), (le1, tr, re), (bh, so, br, rs, ce), (wh, wy))) := by
          intro j
          induction j with
          | zero => intro q2 C1 cp1 cl1 ck1 T1 lt1 aa1 su1 cf1 cm1 ct1 le1 x5 x6 x7 h1 h2; omega
          | succ j ih =>
            intro q2 C1 cp1 cl1 ck1 T1 lt1 aa1 su1 cf1 cm1 ct1 le1 x5 x6 x7 h1 h2 hX hJ1
            have hC1 := hJ1.2.2.2.2.1
            by_cases hqm : q2 = sz
            · rw [show sz - q2 = 0 by omega] at hX
              refine la_iload K dX5_calls_109 rfl ?_
              refine la_aload_n K dX5_calls_111 rfl ?_
              refine lm_g_rs K q854 dX5_calls_112 ?_
              refine la_iconst K dX5_calls_115 la_ki_4 ?_
              refine la_iload_n K dX5_calls_116 rfl ?_
              refine la_imulN K dX5_calls_117 ?_
              refine la_iload_n K dX5_calls_118 rfl ?_
              refine la_iaddN K dX5_calls_119 ?_
              refine lm_ld_rs K (by omega) dX5_calls_120 ?_
              rw [d1]
              refine la_icmp_geN K 220 dX5_calls_121 rfl (by omega) (by omega) (fun h121 => ?_) (fun h121 => absurd h121 (by omega))
              refine la_iload_n K dX5_calls_220 rfl ?_
              exact hret _ _ _ _ dX5_calls_221 (Or.inr ⟨kk, rfl, by omega, Or.inr ⟨s, m, rows, hbk, Or.inr ⟨kq, rfl, hkq, Or.inr ⟨sz, cc, hro, by rw [← hX]; rfl, _, _, _, _, _, _, _, by rw [← hX]; rfl, hJ1⟩⟩⟩⟩)
            obtain ⟨mq, hmq⟩ : ∃ mq, sz - q2 = mq + 1 := ⟨sz - q2 - 1, by omega⟩
            rw [hmq] at hX
            refine la_iload K dX5_calls_109 rfl ?_
            refine la_aload_n K dX5_calls_111 rfl ?_
            refine lm_g_rs K q854 dX5_calls_112 ?_
            refine la_iconst K dX5_calls_115 la_ki_4 ?_
            refine la_iload_n K dX5_calls_116 rfl ?_
            refine la_imulN K dX5_calls_117 ?_
            refine la_iload_n K dX5_calls_118 rfl ?_
            refine la_iaddN K dX5_calls_119 ?_
            refine lm_ld_rs K (by omega) dX5_calls_120 ?_
            rw [d1]
            refine la_icmp_geN K 220 dX5_calls_121 rfl (by omega) (by omega) (fun h121 => absurd h121 (by omega)) (fun h121 => ?_)
            refine la_aload_n K dX5_calls_124 rfl ?_
            refine lm_g_ce K q855 dX5_calls_125 ?_
            refine la_bipush K dX5_calls_128 la_kb_32 ?_
            refine la_iload_n K dX5_calls_130 rfl ?_
            refine la_imulN K dX5_calls_131 ?_
            refine la_bipush K dX5_calls_132 la_kb_8 ?_
            refine la_iload_n K dX5_calls_134 rfl ?_
            refine la_imulN K dX5_calls_135 ?_
            refine la_iaddN K dX5_calls_136 ?_
            refine la_iload K dX5_calls_137 rfl ?_
            refine la_iaddN K dX5_calls_139 ?_
            refine lm_ld_ce K (by omega) dX5_calls_140 ?_
            rw [d3 q2 (by omega)]
            refine la_lstore5 K dX5_calls_141 rfl ?_
            refine la_lload K dX5_calls_143 rfl ?_
            refine la_lconst K dX5_calls_145 la_kn_0 ?_
            refine la_aload_n K dX5_calls_146 rfl ?_
            refine lm_g_P K q830 dX5_calls_147 ?_
            refine la_iconst K dX5_calls_150 la_ki_1 ?_
            refine la_isub K dX5_calls_151 ?_
            refine la_i2l K dX5_calls_152 rfl ?_
            refine la_callSp K ok_X5_in q937 (lm_in _ _ _ _) rfl rfl rfl (Nat.le_of_ble_eq_true rfl) ⟨Nat.le_of_ble_eq_true rfl, Nat.le_of_ble_eq_true rfl⟩ ⟨Nat.zero_le _, Nat.zero_le _⟩ dX5_calls_153 ?_
            refine la_if_neC K 166 dX5_calls_156 rfl (fun h156 => ?_) (fun h156 => ?_)
            · have hv := (lp_longP (cc q2) hP).mp h156
              refine la_aload_n K dX5_calls_166 rfl ?_
              refine lm_g_L K q836 dX5_calls_167 ?_
              refine la_if_eqN K 182 dX5_calls_170 rfl (by omega) (fun h170 => ?_) (fun h170 => ?_)
              · refine la_aload_n K dX5_calls_182 rfl ?_
                refine la_aload_n K dX5_calls_183 rfl ?_
                refine lm_g_L K q836 dX5_calls_184 ?_
                refine la_if_neN K 195 dX5_calls_187 rfl (by omega) (fun h187 => ?_) (fun h187 => ?_)
                · refine la_bipush K dX5_calls_195 la_kb_m3 ?_
                  refine lm_p_S K q828 dX5_calls_197 ?_
                  refine la_iload_n K dX5_calls_200 rfl ?_
                  exact absurd h170 h187
                · refine la_bipush K dX5_calls_190 la_kb_m2 ?_
                  refine la_goto K 197 dX5_calls_192 rfl ?_
                  refine lm_p_S K q828 dX5_calls_197 ?_
                  refine la_iload_n K dX5_calls_200 rfl ?_
                  exact hret _ _ _ _ dX5_calls_201 (Or.inr ⟨kk, rfl, by omega, Or.inr ⟨s, m, rows, hbk, Or.inr ⟨kq, rfl, hkq, Or.inr ⟨sz, cc, hro, by rw [← hX]; rw [lp_cls]; rw [if_pos hv, if_pos h170], _, _, _, _, _, _, _, by rw [← hX]; rw [lp_cls]; rw [if_pos hv, if_pos h170], hJ1⟩⟩⟩⟩)
              · refine la_aload_n K dX5_calls_173 rfl ?_
                refine lm_g_C K q842 dX5_calls_174 ?_
                refine la_bipush K dX5_calls_177 la_kb_12 ?_
                refine la_icmp_neN K 202 dX5_calls_179 rfl (by omega) (by omega) (fun h179 => ?_) (fun h179 => ?_)
                · obtain ⟨p, g1, g2⟩ := lp_long_N hv (by omega)
                  refine la_aload_n K dX5_calls_202 rfl ?_
                  refine la_lload K dX5_calls_203 rfl ?_
                  refine la_l2i K dX5_calls_205 rfl ?_
                  rw [g2]
                  refine la_top (lN_i _) ?_
                  refine la_callVi0 K ok_X5_comes q987 (lm_comes hJ1 (by omega) (by omega) g1) 0 rfl rfl rfl rfl rfl (Nat.le_of_ble_eq_true rfl) ⟨Nat.le_of_ble_eq_true rfl, Nat.le_of_ble_eq_true rfl⟩ ⟨Nat.zero_le _, Nat.zero_le _⟩ dX5_calls_206 (fun r206 u206 p206 => ?_)
                  obtain ⟨-, lt2, aa2, su2, cf2, cm2, ct2, le2, rfl, hJ2⟩ := p206
                  refine la_istore7 K dX5_calls_209 rfl ?_
                  refine la_iinc3 K dX5_calls_211 (la_inc_N _) rfl ?_
                  refine la_iinc4 K dX5_calls_214 (la_inc_N _) rfl ?_
                  refine la_goto K 109 dX5_calls_217 rfl ?_
                  exact ih (q2 + 1) _ _ _ _ _ _ _ _ _ _ _ _ _ _ _ (by omega) (by omega) (by rw [← hX, lp_cls, if_pos hv, if_neg h170, if_neg h179, g2, lp_lN_nat (by omega), show sz - (q2 + 1) = mq by omega]) hJ2
                · refine la_aload_n K dX5_calls_182 rfl ?_
                  refine la_aload_n K dX5_calls_183 rfl ?_
                  refine lm_g_L K q836 dX5_calls_184 ?_
                  refine la_if_neN K 195 dX5_calls_187 rfl (by omega) (fun h187 => ?_) (fun h187 => ?_)
                  · refine la_bipush K dX5_calls_195 la_kb_m3 ?_
                    refine lm_p_S K q828 dX5_calls_197 ?_
                    refine la_iload_n K dX5_calls_200 rfl ?_
                    exact hret _ _ _ _ dX5_calls_201 (Or.inr ⟨kk, rfl, by omega, Or.inr ⟨s, m, rows, hbk, Or.inr ⟨kq, rfl, hkq, Or.inr ⟨sz, cc, hro, by rw [← hX]; rw [lp_cls]; rw [if_pos hv, if_neg h170, if_pos h179], _, _, _, _, _, _, _, by rw [← hX]; rw [lp_cls]; rw [if_pos hv, if_neg h170, if_pos h179], hJ1⟩⟩⟩⟩)
                  · refine la_bipush K dX5_calls_190 la_kb_m2 ?_
                    refine la_goto K 197 dX5_calls_192 rfl ?_
                    refine lm_p_S K q828 dX5_calls_197 ?_
                    refine la_iload_n K dX5_calls_200 rfl ?_
                    exact absurd h187 h170
            · refine la_aload_n K dX5_calls_159 rfl ?_
              refine la_iconst K dX5_calls_160 la_ki_m1 ?_
              refine lm_p_S K q828 dX5_calls_161 ?_
              refine la_iload_n K dX5_calls_164 rfl ?_
              exact hret _ _ _ _ dX5_calls_165 (Or.inr ⟨kk, rfl, by omega, Or.inr ⟨s, m, rows, hbk, Or.inr ⟨kq, rfl, hkq, Or.inr ⟨sz, cc, hro, by rw [← hX]; rw [lp_cls]; rw [if_neg (fun z => h156 ((lp_longP (cc q2) hP).mpr z))], _, _, _, _, _, _, _, by rw [← hX]; rw [lp_cls]; rw [if_neg (fun z => h156 ((lp_longP (cc q2) hP).mpr z))], hJ1⟩⟩⟩⟩)
        refine la_aload_n K dX5_calls_28 rfl ?_
        refine lm_g_hb K q851 dX5_calls_29 ?_
        refine la_iload_n K dX5_calls_32 rfl ?_
        refine lm_ld_hb K (by omega) dX5_calls_33 ?_
        rw [b1]
        refine la_if_eqN K 70 dX5_calls_34 rfl (by omega) (fun h34 => absurd h34 (by decide)) (fun h34 => ?_)
        refine la_iload_n K dX5_calls_37 rfl ?_
        refine la_i2l K dX5_calls_38 rfl ?_
        refine la_lconst K dX5_calls_39 la_kn_0 ?_
        refine la_aload_n K dX5_calls_40 rfl ?_
        refine lm_g_br K q853 dX5_calls_41 ?_
        refine la_iload_n K dX5_calls_44 rfl ?_
        refine lm_ld_br K (by omega) dX5_calls_45 ?_
        rw [b4]
        refine la_iconst K dX5_calls_46 la_ki_1 ?_
        refine la_isub K dX5_calls_47 ?_
        refine la_i2l K dX5_calls_48 rfl ?_
        refine la_callSp K ok_X5_in q937 (lm_in _ _ _ _) rfl rfl rfl (Nat.le_of_ble_eq_true rfl) ⟨Nat.le_of_ble_eq_true rfl, Nat.le_of_ble_eq_true rfl⟩ ⟨Nat.zero_le _, Nat.zero_le _⟩ dX5_calls_49 ?_
        refine la_if_eqC K 78 dX5_calls_52 rfl (fun h52 => absurd ((lp_intB (nI kq) (by omega)).mpr hin) h52) (fun h52 => ?_)
        refine la_aload_n K dX5_calls_55 rfl ?_
        refine lm_g_rs K q854 dX5_calls_56 ?_
        refine la_iconst K dX5_calls_59 la_ki_4 ?_
        refine la_iload_n K dX5_calls_60 rfl ?_
        refine la_imulN K dX5_calls_61 ?_
        refine la_iload_n K dX5_calls_62 rfl ?_
        refine la_iaddN K dX5_calls_63 ?_
        refine lm_ld_rs K (by omega) dX5_calls_64 ?_
        rw [d1]
        refine la_bipush K dX5_calls_65 la_kb_m9 ?_
        refine la_icmp_ne K 78 dX5_calls_67 rfl (fun h67 => ?_) (fun h67 => absurd h67 (lp_nn (by omega)))
        refine la_iload_n K dX5_calls_78 rfl ?_
        refine la_i2l K dX5_calls_79 rfl ?_
        refine la_lconst K dX5_calls_80 la_kn_0 ?_
        refine la_aload_n K dX5_calls_81 rfl ?_
        refine lm_g_br K q853 dX5_calls_82 ?_
        refine la_iload_n K dX5_calls_85 rfl ?_
        refine lm_ld_br K (by omega) dX5_calls_86 ?_
        rw [b4]
        refine la_iconst K dX5_calls_87 la_ki_1 ?_
        refine la_isub K dX5_calls_88 ?_
        refine la_i2l K dX5_calls_89 rfl ?_
        refine la_callSp K ok_X5_in q937 (lm_in _ _ _ _) rfl rfl rfl (Nat.le_of_ble_eq_true rfl) ⟨Nat.le_of_ble_eq_true rfl, Nat.le_of_ble_eq_true rfl⟩ ⟨Nat.zero_le _, Nat.zero_le _⟩ dX5_calls_90 ?_
        refine la_if_neC K 104 dX5_calls_93 rfl (fun h93 => ?_) (fun h93 => absurd ((lp_intB (nI kq) (by omega)).mpr hin) h93)
        refine la_iconst K dX5_calls_104 la_ki_0 ?_
        refine la_istore3 K dX5_calls_105 rfl ?_
        refine la_iconst K dX5_calls_106 la_ki_0 ?_
        refine la_istore4 K dX5_calls_107 rfl ?_
        exact lp (sz + 1) 0 _ _ _ _ _ _ _ _ _ _ _ _ _ _ _ (by omega) (by omega) rfl hJ
    · skip
      refine la_aload_n K dX5_calls_28 rfl ?_
      refine lm_g_hb K q851 dX5_calls_29 ?_
      refine la_iload_n K dX5_calls_32 rfl ?_
      refine lm_ld_hb K (by omega) dX5_calls_33 ?_
      rw [b1]
      refine la_if_eqN K 70 dX5_calls_34 rfl (by omega) (fun h34 => absurd h34 (by decide)) (fun h34 => ?_)
      refine la_iload_n K dX5_calls_37 rfl ?_
      refine la_i2l K dX5_calls_38 rfl ?_
      refine la_lconst K dX5_calls_39 la_kn_0 ?_
      refine la_aload_n K dX5_calls_40 rfl ?_
      refine lm_g_br K q853 dX5_calls_41 ?_
      refine la_iload_n K dX5_calls_44 rfl ?_
      refine lm_ld_br K (by omega) dX5_calls_45 ?_
      rw [b4]
      refine la_iconst K dX5_calls_46 la_ki_1 ?_
      refine la_isub K dX5_calls_47 ?_
      refine la_i2l K dX5_calls_48 rfl ?_
      refine la_callSp K ok_X5_in q937 (lm_in _ _ _ _) rfl rfl rfl (Nat.le_of_ble_eq_true rfl) ⟨Nat.le_of_ble_eq_true rfl, Nat.le_of_ble_eq_true rfl⟩ ⟨Nat.zero_le _, Nat.zero_le _⟩ dX5_calls_49 ?_
      refine la_if_eqC K 78 dX5_calls_52 rfl (fun h52 => ?_) (fun h52 => absurd ((lp_intB q (by omega)).mp h52) hin)
      refine la_iload_n K dX5_calls_78 rfl ?_
      refine la_i2l K dX5_calls_79 rfl ?_
      refine la_lconst K dX5_calls_80 la_kn_0 ?_
      refine la_aload_n K dX5_calls_81 rfl ?_
      refine lm_g_br K q853 dX5_calls_82 ?_
      refine la_iload_n K dX5_calls_85 rfl ?_
      refine lm_ld_br K (by omega) dX5_calls_86 ?_
      rw [b4]
      refine la_iconst K dX5_calls_87 la_ki_1 ?_
      refine la_isub K dX5_calls_88 ?_
      refine la_i2l K dX5_calls_89 rfl ?_
      refine la_callSp K ok_X5_in q937 (lm_in _ _ _ _) rfl rfl rfl (Nat.le_of_ble_eq_true rfl) ⟨Nat.le_of_ble_eq_true rfl, Nat.le_of_ble_eq_true rfl⟩ ⟨Nat.zero_le _, Nat.zero_le _⟩ dX5_calls_90 ?_
      refine la_if_neC K 104 dX5_calls_93 rfl (fun h93 => absurd ((lp_intB q (by omega)).mp h93) hin) (fun h93 => ?_)
      refine la_aload_n K dX5_calls_96 rfl ?_
      refine la_bipush K dX5_calls_97 la_kb_m12 ?_
      refine lm_p_S K q828 dX5_calls_99 ?_
      refine la_iconst K dX5_calls_102 la_ki_0 ?_
      exact hret _ _ _ _ dX5_calls_103 (Or.inr ⟨kk, rfl, by omega, Or.inr ⟨s, m, rows, hbk, Or.inl ⟨hin, rfl, rfl⟩⟩⟩)
  · refine la_aload_n K dX5_calls_22 rfl ?_
    refine la_iconst K dX5_calls_23 la_ki_m1 ?_
    refine la_callVi0 K ok_X5_no q1088 (lm_no _) 0 rfl rfl rfl rfl rfl (Nat.le_of_ble_eq_true rfl) ⟨Nat.le_of_ble_eq_true rfl, Nat.le_of_ble_eq_true rfl⟩ ⟨Nat.zero_le _, Nat.zero_le _⟩ dX5_calls_24 (fun r24 u24 p24 => ?_)
    obtain ⟨rfl, rfl⟩ := p24
    exact hret _ _ _ _ dX5_calls_27 (Or.inl ⟨fun z => h19 ((lp_ints k (by decide) (by decide)).mpr z), rfl, rfl⟩)
end LM8
