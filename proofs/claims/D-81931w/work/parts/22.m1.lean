/-! THE MODEL's METHODS, part 1: places. Printed by m1.py. -/
section LM1
variable {ω : la_O} {ad : Nat → Nat} {th S lt : Int32} {T : Int64} {P R L B Kd C : Nat} {ra rb rl fa aa su cp cl cf ck cm le tr re hb so br wh wy : Nat → Nat} {ct rs : Nat → Int32} {ce : Nat → Int64}
theorem lm_in (v a b : Int64) (ws : va_W) : la_CP ω yX5_in cX5_in 6 (some .boolean) (la_rm 0) [.long v, .long a, .long b] ws (nI (if a ≤ v ∧ v ≤ b then 1 else 0)) := by
  refine la_CZ_of (by decide) [some (.long (v)), none, some (.long (a)), none, some (.long (b)), none] rfl rfl (Nat.le_of_ble_eq_true rfl) ?_
  intro κ K hret
  by_cases h1 : a ≤ v
  · by_cases h2 : v ≤ b
    · have e : (if a ≤ v ∧ v ≤ b then 1 else 0) = 1 := if_pos ⟨h1, h2⟩
      rw [e] at hret
      refine la_lload_n K dX5_in_0 rfl ?_
      refine la_lload_n K dX5_in_1 rfl ?_
      refine la_lcmp K dX5_in_2 ?_
      refine la_if_lt K 17 dX5_in_3 rfl (fun h3 => absurd ((lg_cmp_lt _ _).mp h3) (lg_le_not_lt h1)) (fun h3 => ?_)
      refine la_lload_n K dX5_in_6 rfl ?_
      refine la_lload K dX5_in_7 rfl ?_
      refine la_lcmp K dX5_in_9 ?_
      refine la_if_gt K 17 dX5_in_10 rfl (fun h10 => absurd ((lg_cmp_gt _ _).mp h10) (lg_le_not_lt h2)) (fun h10 => ?_)
      refine la_iconst K dX5_in_13 la_ki_1 ?_
      refine la_goto K 18 dX5_in_14 rfl ?_
      exact hret _ _ _ () (by decide) dX5_in_18 rfl
    · have e : (if a ≤ v ∧ v ≤ b then 1 else 0) = 0 := if_neg (fun z => h2 z.2)
      rw [e] at hret
      refine la_lload_n K dX5_in_0 rfl ?_
      refine la_lload_n K dX5_in_1 rfl ?_
      refine la_lcmp K dX5_in_2 ?_
      refine la_if_lt K 17 dX5_in_3 rfl (fun h3 => absurd ((lg_cmp_lt _ _).mp h3) (lg_le_not_lt h1)) (fun h3 => ?_)
      refine la_lload_n K dX5_in_6 rfl ?_
      refine la_lload K dX5_in_7 rfl ?_
      refine la_lcmp K dX5_in_9 ?_
      refine la_if_gt K 17 dX5_in_10 rfl (fun h10 => ?_) (fun h10 => absurd (Int64.not_lt.mp fun z => h10 ((lg_cmp_gt _ _).mpr z)) h2)
      refine la_iconst K dX5_in_17 la_ki_0 ?_
      exact hret _ _ _ () (by decide) dX5_in_18 rfl
  · have e : (if a ≤ v ∧ v ≤ b then 1 else 0) = 0 := if_neg (fun z => h1 z.1)
    rw [e] at hret
    refine la_lload_n K dX5_in_0 rfl ?_
    refine la_lload_n K dX5_in_1 rfl ?_
    refine la_lcmp K dX5_in_2 ?_
    refine la_if_lt K 17 dX5_in_3 rfl (fun h3 => ?_) (fun h3 => absurd (Int64.not_lt.mp fun z => h3 ((lg_cmp_lt _ _).mpr z)) h1)
    refine la_iconst K dX5_in_17 la_ki_0 ?_
    exact hret _ _ _ () (by decide) dX5_in_18 rfl
theorem lm_isPlace (p : Int32) (hP : P ≤ 6) : la_CP ω yX5_isPlace cX5_isPlace 2 (some .boolean) (la_rm 1) [.ref (ad 0), .int p] (lm_W ω.2.2 ad ((th, S, T, P, R, L, B, Kd, lt, C), (ra, rb, rl, fa), (aa, su), (cp, cl, cf, ck, cm, ct), (le, tr, re), (hb, so, br, rs, ce), (wh, wy))) (nI (if lp_in p P then 1 else 0)) := by
  refine la_CZ_of (by decide) [some (.ref (ad 0)), some (.int (p))] rfl rfl (Nat.le_of_ble_eq_true rfl) ?_
  intro κ K hret
  refine la_iload_n K dX5_isPlace_0 rfl ?_
  refine la_i2l K dX5_isPlace_1 rfl ?_
  refine la_lconst K dX5_isPlace_2 la_kn_0 ?_
  refine la_aload_n K dX5_isPlace_3 rfl ?_
  refine lm_g_P K q830 dX5_isPlace_4 ?_
  refine la_iconst K dX5_isPlace_7 la_ki_1 ?_
  refine la_isub K dX5_isPlace_8 ?_
  refine la_i2l K dX5_isPlace_9 rfl ?_
  refine la_callSp K ok_X5_in q937 (lm_in _ _ _ _) rfl rfl rfl (Nat.le_of_ble_eq_true rfl) ⟨Nat.le_of_ble_eq_true rfl, Nat.le_of_ble_eq_true rfl⟩ ⟨Nat.zero_le _, Nat.zero_le _⟩ dX5_isPlace_10 ?_
  exact hret _ _ _ () (by split <;> decide) dX5_isPlace_13 (by simp only [lp_isPlace p hP])
set_option maxHeartbeats 4000000 in
theorem lm_measures (hR : R ≤ 15) (hro : ∀ k, k < R → ra k < 6 ∧ rb k < 6 ∧ ¬ ra k = rb k ∧ rl k ≤ 100) : la_CV ω yX5_measures cX5_measures 5 none (la_rm 0) [.ref (ad 0)] (lm_W ω.2.2 ad ((th, S, T, P, R, L, B, Kd, lt, C), (ra, rb, rl, fa), (aa, su), (cp, cl, cf, ck, cm, ct), (le, tr, re), (hb, so, br, rs, ce), (wh, wy))) (lm_W ω.2.2 ad) (fun u : lm_S => ∃ fa', u = ((th, S, T, P, R, L, B, Kd, lt, C), (ra, rb, rl, fa'), (aa, su), (cp, cl, cf, ck, cm, ct), (le, tr, re), (hb, so, br, rs, ce), (wh, wy)) ∧ ∀ a b, a < 6 → b < 6 → fa' (6 * a + b) = lp_ds 100000000 ra rb rl R 6 a b) := by
  refine la_CV_of (by decide) [some (.ref (ad 0)), none, none, none, none] rfl rfl (Nat.le_of_ble_eq_true rfl) ?_
  intro κ K hret
  have hne : ∀ j, j < R → ¬ ra j = rb j := fun j hj => (hro j hj).2.2.1
  have l3a : ∀ (j m : Nat) (f : Nat → Nat) (x2 x3 x4 : Option Value), m ≤ 6 → 6 < m + j → lp_J3 100000000 ra rb rl R 6 m 0 0 f → la_At ω κ (0, 0) 136 [some (.ref (ad 0)), some (.int (nI (m))), x2, x3, x4] [] (lm_W ω.2.2 ad ((th, S, T, P, R, L, B, Kd, lt, C), (ra, rb, rl, f), (aa, su), (cp, cl, cf, ck, cm, ct), (le, tr, re), (hb, so, br, rs, ce), (wh, wy))) := by
    intro j
    induction j with
    | zero => intro m f x2 x3 x4 h1 h2; omega
    | succ j ih1 =>
      intro m f x2 x3 x4 h1 h2 hJ
      have l3b : m < 6 → ∀ (j a : Nat) (f : Nat → Nat) (x3 x4 : Option Value), a ≤ 6 → 6 < a + j → lp_J3 100000000 ra rb rl R 6 m a 0 f → la_At ω κ (0, 0) 144 [some (.ref (ad 0)), some (.int (nI (m))), some (.int (nI (a))), x3, x4] [] (lm_W ω.2.2 ad ((th, S, T, P, R, L, B, Kd, lt, C), (ra, rb, rl, f), (aa, su), (cp, cl, cf, ck, cm, ct), (le, tr, re), (hb, so, br, rs, ce), (wh, wy))) := by
        intro hm j
        induction j with
        | zero => intro a f x3 x4 h1 h2; omega
        | succ j ih2 =>
          intro a f x3 x4 h1 h2 hJ
          have l3c : a < 6 → ∀ (j b : Nat) (f : Nat → Nat) (x4 : Option Value), b ≤ 6 → 6 < b + j → lp_J3 100000000 ra rb rl R 6 m a b f → la_At ω κ (0, 0) 152 [some (.ref (ad 0)), some (.int (nI (m))), some (.int (nI (a))), some (.int (nI (b))), x4] [] (lm_W ω.2.2 ad ((th, S, T, P, R, L, B, Kd, lt, C), (ra, rb, rl, f), (aa, su), (cp, cl, cf, ck, cm, ct), (le, tr, re), (hb, so, br, rs, ce), (wh, wy))) := by
            intro ha j
            induction j with
            | zero => intro b f x4 h1 h2; omega
            | succ j ih3 =>
              intro b f x4 h1 h2 hJ
              refine la_iload_n K dX5_measures_152 rfl ?_
              refine la_bipush K dX5_measures_153 la_kb_6 ?_
              refine la_icmp_geN K 232 dX5_measures_155 rfl (by omega) (by omega) (fun h155 => ?_) (fun h155 => ?_)
              · refine la_iinc2 K dX5_measures_232 (la_inc_N _) rfl ?_
                refine la_goto K 144 dX5_measures_235 rfl ?_
                exact ih2 (a + 1) _ _ _ (by omega) (by omega) (lp_J3_row (by rw [show b = 6 by omega] at hJ; exact hJ))
              · refine la_aload_n K dX5_measures_158 rfl ?_
                refine lm_g_fa K q835 dX5_measures_159 ?_
                refine la_bipush K dX5_measures_162 la_kb_6 ?_
                refine la_iload_n K dX5_measures_164 rfl ?_
                refine la_imulN K dX5_measures_165 ?_
                refine la_iload_n K dX5_measures_166 rfl ?_
                refine la_iaddN K dX5_measures_167 ?_
                refine lm_ld_fa K (by omega) dX5_measures_168 ?_
                refine la_aload_n K dX5_measures_169 rfl ?_
                refine lm_g_fa K q835 dX5_measures_170 ?_
                refine la_bipush K dX5_measures_173 la_kb_6 ?_
                refine la_iload_n K dX5_measures_175 rfl ?_
                refine la_imulN K dX5_measures_176 ?_
                refine la_iload_n K dX5_measures_177 rfl ?_
                refine la_iaddN K dX5_measures_178 ?_
                refine lm_ld_fa K (by omega) dX5_measures_179 ?_
                refine la_iaddN K dX5_measures_180 ?_
                refine la_istore4 K dX5_measures_181 rfl ?_
                refine la_aload_n K dX5_measures_183 rfl ?_
                refine lm_g_fa K q835 dX5_measures_184 ?_
                refine la_bipush K dX5_measures_187 la_kb_6 ?_
                refine la_iload_n K dX5_measures_189 rfl ?_
                refine la_imulN K dX5_measures_190 ?_
                refine la_iload_n K dX5_measures_191 rfl ?_
                refine la_iaddN K dX5_measures_192 ?_
                refine la_iload K dX5_measures_193 rfl ?_
                refine la_aload_n K dX5_measures_195 rfl ?_
                refine lm_g_fa K q835 dX5_measures_196 ?_
                refine la_bipush K dX5_measures_199 la_kb_6 ?_
                refine la_iload_n K dX5_measures_201 rfl ?_
                refine la_imulN K dX5_measures_202 ?_
                refine la_iload_n K dX5_measures_203 rfl ?_
                refine la_iaddN K dX5_measures_204 ?_
                refine lm_ld_fa K (by omega) dX5_measures_205 ?_
                refine la_icmp_geN K 214 dX5_measures_206 rfl (by have := lp_J3_le hJ (a' := a) (b' := m) (by omega) (by omega); have := lp_J3_le hJ (a' := m) (b' := b) (by omega) (by omega); omega) (by have := lp_J3_le hJ (a' := a) (b' := b) (by omega) (by omega); omega) (fun h206 => ?_) (fun h206 => ?_)
                · refine la_aload_n K dX5_measures_214 rfl ?_
                  refine lm_g_fa K q835 dX5_measures_215 ?_
                  refine la_bipush K dX5_measures_218 la_kb_6 ?_
                  refine la_iload_n K dX5_measures_220 rfl ?_
                  refine la_imulN K dX5_measures_221 ?_
                  refine la_iload_n K dX5_measures_222 rfl ?_
                  refine la_iaddN K dX5_measures_223 ?_
                  refine lm_ld_fa K (by omega) dX5_measures_224 ?_
                  refine lm_st_fa K (by omega) dX5_measures_225 ?_
                  refine la_iinc3 K dX5_measures_226 (la_inc_N _) rfl ?_
                  refine la_goto K 152 dX5_measures_229 rfl ?_
                  exact ih3 (b + 1) _ _ (by omega) (by omega) (lp_J3_step (by decide) hne hJ (by omega) (by omega) (by omega) (by omega))
                · refine la_iload K dX5_measures_209 rfl ?_
                  refine la_goto K 225 dX5_measures_211 rfl ?_
                  refine lm_st_fa K (by omega) dX5_measures_225 ?_
                  refine la_iinc3 K dX5_measures_226 (la_inc_N _) rfl ?_
                  refine la_goto K 152 dX5_measures_229 rfl ?_
                  exact ih3 (b + 1) _ _ (by omega) (by omega) (lp_J3_step (by decide) hne hJ (by omega) (by omega) (by omega) (by omega))
          refine la_iload_n K dX5_measures_144 rfl ?_
          refine la_bipush K dX5_measures_145 la_kb_6 ?_
          refine la_icmp_geN K 238 dX5_measures_147 rfl (by omega) (by omega) (fun h147 => ?_) (fun h147 => ?_)
          · refine la_iinc1 K dX5_measures_238 (la_inc_N _) rfl ?_
            refine la_goto K 136 dX5_measures_241 rfl ?_
            exact ih1 (m + 1) _ _ _ _ (by omega) (by omega) (lp_J3_stage (by rw [show a = 6 by omega] at hJ; exact hJ))
          · refine la_iconst K dX5_measures_150 la_ki_0 ?_
            refine la_istore3 K dX5_measures_151 rfl ?_
            exact l3c (by omega) 7 0 _ _ (by omega) (by omega) hJ
      refine la_iload_n K dX5_measures_136 rfl ?_
      refine la_bipush K dX5_measures_137 la_kb_6 ?_
      refine la_icmp_geN K 244 dX5_measures_139 rfl (by omega) (by omega) (fun h139 => ?_) (fun h139 => ?_)
      · exact hret _ _ _ dX5_measures_244 ⟨_, rfl, lp_J3_end (by rw [show m = 6 by omega] at hJ; exact hJ)⟩
      · refine la_iconst K dX5_measures_142 la_ki_0 ?_
        refine la_istore2 K dX5_measures_143 rfl ?_
        exact l3b (by omega) 7 0 _ _ _ (by omega) (by omega) hJ
  have l2a : ∀ (j k : Nat) (f : Nat → Nat) (x2 x3 x4 : Option Value), k ≤ R → R < k + j → lp_J2 100000000 ra rb rl 6 k f → la_At ω κ (0, 0) 52 [some (.ref (ad 0)), some (.int (nI (k))), x2, x3, x4] [] (lm_W ω.2.2 ad ((th, S, T, P, R, L, B, Kd, lt, C), (ra, rb, rl, f), (aa, su), (cp, cl, cf, ck, cm, ct), (le, tr, re), (hb, so, br, rs, ce), (wh, wy))) := by
    intro j
    induction j with
    | zero => intro k f x2 x3 x4 h1 h2; omega
    | succ j ihr =>
      intro k f x2 x3 x4 h1 h2 hJ
      refine la_iload_n K dX5_measures_52 rfl ?_
      refine la_aload_n K dX5_measures_53 rfl ?_
      refine lm_g_R K q831 dX5_measures_54 ?_
      refine la_icmp_geN K 134 dX5_measures_57 rfl (by omega) (by omega) (fun h57 => ?_) (fun h57 => ?_)
      · refine la_iconst K dX5_measures_134 la_ki_0 ?_
        refine la_istore1 K dX5_measures_135 rfl ?_
        exact l3a 7 0 _ _ _ _ (by omega) (by omega) (lp_J2_end (by rw [show k = R by omega] at hJ; exact hJ))
      · obtain ⟨hr1, hr2, hr3, hr4⟩ := hro k (by omega)
        refine la_aload_n K dX5_measures_60 rfl ?_
        refine lm_g_ra K q832 dX5_measures_61 ?_
        refine la_iload_n K dX5_measures_64 rfl ?_
        refine lm_ld_ra K (by omega) dX5_measures_65 ?_
        refine la_istore2 K dX5_measures_66 rfl ?_
        refine la_aload_n K dX5_measures_67 rfl ?_
        refine lm_g_rb K q833 dX5_measures_68 ?_
        refine la_iload_n K dX5_measures_71 rfl ?_
        refine lm_ld_rb K (by omega) dX5_measures_72 ?_
        refine la_istore3 K dX5_measures_73 rfl ?_
        refine la_aload_n K dX5_measures_74 rfl ?_
        refine lm_g_rl K q834 dX5_measures_75 ?_
        refine la_iload_n K dX5_measures_78 rfl ?_
        refine lm_ld_rl K (by omega) dX5_measures_79 ?_
        refine la_aload_n K dX5_measures_80 rfl ?_
        refine lm_g_fa K q835 dX5_measures_81 ?_
        refine la_bipush K dX5_measures_84 la_kb_6 ?_
        refine la_iload_n K dX5_measures_86 rfl ?_
        refine la_imulN K dX5_measures_87 ?_
        refine la_iload_n K dX5_measures_88 rfl ?_
        refine la_iaddN K dX5_measures_89 ?_
        refine lm_ld_fa K (by omega) dX5_measures_90 ?_
        refine la_icmp_geN K 128 dX5_measures_91 rfl (by omega) (by have := hJ (ra k) (rb k) (by omega) (by omega); have := lp_dr_le (I := 100000000) (fr := ra) (to := rb) (ln := rl) k (ra k) (rb k); omega) (fun h91 => ?_) (fun h91 => ?_)
        · refine la_iinc1 K dX5_measures_128 (la_inc_N _) rfl ?_
          refine la_goto K 52 dX5_measures_131 rfl ?_
          exact ihr (k + 1) _ _ _ _ (by omega) (by omega) (lp_J2_keep hJ (by omega) (by omega) (by omega))
        · refine la_aload_n K dX5_measures_94 rfl ?_
          refine lm_g_fa K q835 dX5_measures_95 ?_
          refine la_bipush K dX5_measures_98 la_kb_6 ?_
          refine la_iload_n K dX5_measures_100 rfl ?_
          refine la_imulN K dX5_measures_101 ?_
          refine la_iload_n K dX5_measures_102 rfl ?_
          refine la_iaddN K dX5_measures_103 ?_
          refine la_aload_n K dX5_measures_104 rfl ?_
          refine lm_g_rl K q834 dX5_measures_105 ?_
          refine la_iload_n K dX5_measures_108 rfl ?_
          refine lm_ld_rl K (by omega) dX5_measures_109 ?_
          refine lm_st_fa K (by omega) dX5_measures_110 ?_
          refine la_aload_n K dX5_measures_111 rfl ?_
          refine lm_g_fa K q835 dX5_measures_112 ?_
          refine la_bipush K dX5_measures_115 la_kb_6 ?_
          refine la_iload_n K dX5_measures_117 rfl ?_
          refine la_imulN K dX5_measures_118 ?_
          refine la_iload_n K dX5_measures_119 rfl ?_
          refine la_iaddN K dX5_measures_120 ?_
          refine la_aload_n K dX5_measures_121 rfl ?_
          refine lm_g_rl K q834 dX5_measures_122 ?_
          refine la_iload_n K dX5_measures_125 rfl ?_
          refine lm_ld_rl K (by omega) dX5_measures_126 ?_
          refine lm_st_fa K (by omega) dX5_measures_127 ?_
          refine la_iinc1 K dX5_measures_128 (la_inc_N _) rfl ?_
          refine la_goto K 52 dX5_measures_131 rfl ?_
          exact ihr (k + 1) _ _ _ _ (by omega) (by omega) (lp_J2_set (by decide) hJ (by omega) (by omega) (by omega))
  have l1a : ∀ (j a : Nat) (f : Nat → Nat) (x2 x3 x4 : Option Value), a ≤ 6 → 6 < a + j → lp_J1 100000000 6 a 0 f → la_At ω κ (0, 0) 2 [some (.ref (ad 0)), some (.int (nI (a))), x2, x3, x4] [] (lm_W ω.2.2 ad ((th, S, T, P, R, L, B, Kd, lt, C), (ra, rb, rl, f), (aa, su), (cp, cl, cf, ck, cm, ct), (le, tr, re), (hb, so, br, rs, ce), (wh, wy))) := by
    intro j
    induction j with
    | zero => intro a f x2 x3 x4 h1 h2; omega
    | succ j ih1 =>
      intro a f x2 x3 x4 h1 h2 hJ
      have l1b : a < 6 → ∀ (j b : Nat) (f : Nat → Nat) (x3 x4 : Option Value), b ≤ 6 → 6 < b + j → lp_J1 100000000 6 a b f → la_At ω κ (0, 0) 10 [some (.ref (ad 0)), some (.int (nI (a))), some (.int (nI (b))), x3, x4] [] (lm_W ω.2.2 ad ((th, S, T, P, R, L, B, Kd, lt, C), (ra, rb, rl, f), (aa, su), (cp, cl, cf, ck, cm, ct), (le, tr, re), (hb, so, br, rs, ce), (wh, wy))) := by
        intro ha j
        induction j with
        | zero => intro b f x3 x4 h1 h2; omega
        | succ j ih2 =>
          intro b f x3 x4 h1 h2 hJ
          refine la_iload_n K dX5_measures_10 rfl ?_
          refine la_bipush K dX5_measures_11 la_kb_6 ?_
          refine la_icmp_geN K 44 dX5_measures_13 rfl (by omega) (by omega) (fun h13 => ?_) (fun h13 => ?_)
          · refine la_iinc1 K dX5_measures_44 (la_inc_N _) rfl ?_
            refine la_goto K 2 dX5_measures_47 rfl ?_
            exact ih1 (a + 1) _ _ _ _ (by omega) (by omega) (lp_J1_row (by rw [show b = 6 by omega] at hJ; exact hJ))
          · refine la_aload_n K dX5_measures_16 rfl ?_
            refine lm_g_fa K q835 dX5_measures_17 ?_
            refine la_bipush K dX5_measures_20 la_kb_6 ?_
            refine la_iload_n K dX5_measures_22 rfl ?_
            refine la_imulN K dX5_measures_23 ?_
            refine la_iload_n K dX5_measures_24 rfl ?_
            refine la_iaddN K dX5_measures_25 ?_
            refine la_iload_n K dX5_measures_26 rfl ?_
            refine la_iload_n K dX5_measures_27 rfl ?_
            refine la_icmp_neN K 35 dX5_measures_28 rfl (by omega) (by omega) (fun h28 => ?_) (fun h28 => ?_)
            · refine la_ldc K q953 la_kl_100000000 dX5_measures_35 ?_
              refine lm_st_fa K (by omega) dX5_measures_37 ?_
              refine la_iinc2 K dX5_measures_38 (la_inc_N _) rfl ?_
              refine la_goto K 10 dX5_measures_41 rfl ?_
              exact ih2 (b + 1) _ _ _ (by omega) (by omega) (lp_J1_step (by decide) hJ (by omega) (by unfold lp_d0; split <;> omega))
            · refine la_iconst K dX5_measures_31 la_ki_0 ?_
              refine la_goto K 37 dX5_measures_32 rfl ?_
              refine lm_st_fa K (by omega) dX5_measures_37 ?_
              refine la_iinc2 K dX5_measures_38 (la_inc_N _) rfl ?_
              refine la_goto K 10 dX5_measures_41 rfl ?_
              exact ih2 (b + 1) _ _ _ (by omega) (by omega) (lp_J1_step (by decide) hJ (by omega) (by unfold lp_d0; split <;> omega))
      refine la_iload_n K dX5_measures_2 rfl ?_
      refine la_bipush K dX5_measures_3 la_kb_6 ?_
      refine la_icmp_geN K 50 dX5_measures_5 rfl (by omega) (by omega) (fun h5 => ?_) (fun h5 => ?_)
      · refine la_iconst K dX5_measures_50 la_ki_0 ?_
        refine la_istore1 K dX5_measures_51 rfl ?_
        exact l2a (R + 1) 0 _ _ _ _ (by omega) (by omega) (lp_J1_end (by rw [show a = 6 by omega] at hJ; exact hJ))
      · refine la_iconst K dX5_measures_8 la_ki_0 ?_
        refine la_istore2 K dX5_measures_9 rfl ?_
        exact l1b (by omega) 7 0 _ _ _ (by omega) (by omega) hJ
  refine la_iconst K dX5_measures_0 la_ki_0 ?_
  refine la_istore1 K dX5_measures_1 rfl ?_
  exact l1a 7 0 _ _ _ _ (by omega) (by omega) lp_J1_0
end LM1
