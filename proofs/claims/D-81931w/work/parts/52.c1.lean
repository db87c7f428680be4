/-! THE COMPONENT's METHODS, part 1: places. Printed by c1.py. -/
section LC1
variable {ω : la_O} {ad : Nat → Nat} {S : Int32} {T : Int64} {P R L B Nw U C Kd : Nat} {fr to ln aw su ca we fa sb tb wk nw wo k0 k1 k2 k3 k4 k5 : Nat → Nat} {RE : Nat → Nat → Nat} {BF : Nat → Option Nat} {BK : va_W}
theorem lb_in (v a b : Int32) (ws : va_W) : la_CP ω yX0_in cX0_in 3 (some .boolean) (la_rm 0) [.int v, .int a, .int b] ws (nI (if a ≤ v ∧ v ≤ b then 1 else 0)) := by
  refine la_CZ_of (by decide) [some (.int (v)), some (.int (a)), some (.int (b))] rfl rfl (Nat.le_of_ble_eq_true rfl) ?_
  intro κ K hret
  by_cases h1 : a ≤ v
  · by_cases h2 : v ≤ b
    · have e : (if a ≤ v ∧ v ≤ b then 1 else 0) = 1 := if_pos ⟨h1, h2⟩
      rw [e] at hret
      refine la_iload_n K dX0_in_0 rfl ?_
      refine la_iload_n K dX0_in_1 rfl ?_
      refine la_icmp_lt K 14 dX0_in_2 rfl (fun h9 => absurd h1 (Int32.not_le.mpr h9)) (fun _ => ?_)
      refine la_iload_n K dX0_in_5 rfl ?_
      refine la_iload_n K dX0_in_6 rfl ?_
      refine la_icmp_gt K 14 dX0_in_7 rfl (fun h7 => absurd h2 (Int32.not_le.mpr h7)) (fun h7 => ?_)
      refine la_iconst K dX0_in_10 la_ki_1 ?_
      refine la_goto K 15 dX0_in_11 rfl ?_
      exact hret _ _ _ () (by decide) dX0_in_15 rfl
    · have e : (if a ≤ v ∧ v ≤ b then 1 else 0) = 0 := if_neg (fun z => h2 z.2)
      rw [e] at hret
      refine la_iload_n K dX0_in_0 rfl ?_
      refine la_iload_n K dX0_in_1 rfl ?_
      refine la_icmp_lt K 14 dX0_in_2 rfl (fun h9 => absurd h1 (Int32.not_le.mpr h9)) (fun _ => ?_)
      refine la_iload_n K dX0_in_5 rfl ?_
      refine la_iload_n K dX0_in_6 rfl ?_
      refine la_icmp_gt K 14 dX0_in_7 rfl (fun h7 => ?_) (fun h7 => absurd (Int32.not_lt.mp h7) h2)
      refine la_iconst K dX0_in_14 la_ki_0 ?_
      exact hret _ _ _ () (by decide) dX0_in_15 rfl
  · have e : (if a ≤ v ∧ v ≤ b then 1 else 0) = 0 := if_neg (fun z => h1 z.1)
    rw [e] at hret
    refine la_iload_n K dX0_in_0 rfl ?_
    refine la_iload_n K dX0_in_1 rfl ?_
    refine la_icmp_lt K 14 dX0_in_2 rfl (fun h2 => ?_) (fun h2 => absurd (Int32.not_lt.mp h2) h1)
    refine la_iconst K dX0_in_14 la_ki_0 ?_
    exact hret _ _ _ () (by decide) dX0_in_15 rfl
theorem lb_isPlace (p : Int32) (hP : P ≤ 6) : la_CP ω yX0_isPlace cX0_isPlace 2 (some .boolean) (la_rm 1) [.ref (ad 0), .int p] (lb_W ω.2.2 ad ((P, R, T, S, L, B, Nw, U, C, Kd), (fr, to, ln, aw), (su, ca, we, fa, sb, tb), (wk, nw, wo), (k0, k1, k2, k3, k4, k5), RE, BF, BK)) (nI (if lp_in p P then 1 else 0)) := by
  refine la_CZ_of (by decide) [some (.ref (ad 0)), some (.int (p))] rfl rfl (Nat.le_of_ble_eq_true rfl) ?_
  intro κ K hret
  refine la_iload_n K dX0_isPlace_0 rfl ?_
  refine la_iconst K dX0_isPlace_1 la_ki_0 ?_
  refine la_aload_n K dX0_isPlace_2 rfl ?_
  refine lb_g_P K q124 dX0_isPlace_3 ?_
  refine la_iconst K dX0_isPlace_6 la_ki_1 ?_
  refine la_isub K dX0_isPlace_7 ?_
  refine la_callSp K ok_X0_in q258 (lb_in _ _ _ _) rfl rfl rfl (Nat.le_of_ble_eq_true rfl) ⟨Nat.le_of_ble_eq_true rfl, Nat.le_of_ble_eq_true rfl⟩ ⟨Nat.zero_le _, Nat.zero_le _⟩ dX0_isPlace_8 ?_
  exact hret _ _ _ () (by split <;> decide) dX0_isPlace_11 (by simp only [lp_isPlaceC p (show P < 2 ^ 30 by omega)])
set_option maxHeartbeats 4000000 in
theorem lb_measure (hP : P ≤ 6) (hR : R ≤ 15) (hro : ∀ k, k < R → fr k < P ∧ to k < P ∧ ¬ fr k = to k ∧ ln k ≤ 100) : la_CV ω yX0_measure cX0_measure 4 none (la_rm 1) [.ref (ad 0)] (lb_W ω.2.2 ad ((P, R, T, S, L, B, Nw, U, C, Kd), (fr, to, ln, aw), (su, ca, we, fa, sb, tb), (wk, nw, wo), (k0, k1, k2, k3, k4, k5), RE, BF, BK)) (lb_W ω.2.2 ad) (fun u : lb_S => ∃ aw', u = ((P, R, T, S, L, B, Nw, U, C, Kd), (fr, to, ln, aw'), (su, ca, we, fa, sb, tb), (wk, nw, wo), (k0, k1, k2, k3, k4, k5), RE, BF, BK) ∧ ∀ a b, a < P → b < P → aw' (6 * a + b) = (lp_ds 1000000 fr to ln R P) a b) := by
  refine la_CV_of (by decide) [some (.ref (ad 0)), none, none, none] rfl rfl (Nat.le_of_ble_eq_true rfl) ?_
  intro κ K hret
  have hne : ∀ j, j < R → ¬ fr j = to j := fun j hj => (hro j hj).2.2.1
  have l3a : ∀ (j m : Nat) (f : Nat → Nat) (x2 x3 : Option Value), m ≤ P → P < m + j → lp_J3 1000000 fr to ln R P m 0 0 f → la_At ω κ (0, 0) 147 [some (.ref (ad 0)), some (.int (nI (m))), x2, x3] [] (lb_W ω.2.2 ad ((P, R, T, S, L, B, Nw, U, C, Kd), (fr, to, ln, f), (su, ca, we, fa, sb, tb), (wk, nw, wo), (k0, k1, k2, k3, k4, k5), RE, BF, BK)) := by
    intro j
    induction j with
    | zero => intro m f x2 x3 h1 h2; omega
    | succ j ih1 =>
      intro m f x2 x3 h1 h2 hJ
      have l3b : m < P → ∀ (j a : Nat) (f : Nat → Nat) (x3 : Option Value), a ≤ P → P < a + j → lp_J3 1000000 fr to ln R P m a 0 f → la_At ω κ (0, 0) 157 [some (.ref (ad 0)), some (.int (nI (m))), some (.int (nI (a))), x3] [] (lb_W ω.2.2 ad ((P, R, T, S, L, B, Nw, U, C, Kd), (fr, to, ln, f), (su, ca, we, fa, sb, tb), (wk, nw, wo), (k0, k1, k2, k3, k4, k5), RE, BF, BK)) := by
        intro hm j
        induction j with
        | zero => intro a f x3 h1 h2; omega
        | succ j ih2 =>
          intro a f x3 h1 h2 hJ
          have l3c : a < P → ∀ (j b : Nat) (f : Nat → Nat), b ≤ P → P < b + j → lp_J3 1000000 fr to ln R P m a b f → la_At ω κ (0, 0) 167 [some (.ref (ad 0)), some (.int (nI (m))), some (.int (nI (a))), some (.int (nI (b)))] [] (lb_W ω.2.2 ad ((P, R, T, S, L, B, Nw, U, C, Kd), (fr, to, ln, f), (su, ca, we, fa, sb, tb), (wk, nw, wo), (k0, k1, k2, k3, k4, k5), RE, BF, BK)) := by
            intro ha j
            induction j with
            | zero => intro b f h1 h2; omega
            | succ j ih3 =>
              intro b f h1 h2 hJ
              refine la_iload_n K dX0_measure_167 rfl ?_
              refine la_aload_n K dX0_measure_168 rfl ?_
              refine lb_g_P K q124 dX0_measure_169 ?_
              refine la_icmp_geN K 229 dX0_measure_172 rfl (by omega) (by omega) (fun h172 => ?_) (fun h172 => ?_)
              · refine la_iinc2 K dX0_measure_229 (la_inc_N _) rfl ?_
                refine la_goto K 157 dX0_measure_232 rfl ?_
                exact ih2 (a + 1) _ _ (by omega) (by omega) (lp_J3_row (by rw [show b = P by omega] at hJ; exact hJ))
              · refine la_aload_n K dX0_measure_175 rfl ?_
                refine lb_g_aw K q129 dX0_measure_176 ?_
                refine la_bipush K dX0_measure_179 la_kb_6 ?_
                refine la_iload_n K dX0_measure_181 rfl ?_
                refine la_imulN K dX0_measure_182 ?_
                refine la_iload_n K dX0_measure_183 rfl ?_
                refine la_iaddN K dX0_measure_184 ?_
                refine la_aload_n K dX0_measure_185 rfl ?_
                refine lb_g_aw K q129 dX0_measure_186 ?_
                refine la_bipush K dX0_measure_189 la_kb_6 ?_
                refine la_iload_n K dX0_measure_191 rfl ?_
                refine la_imulN K dX0_measure_192 ?_
                refine la_iload_n K dX0_measure_193 rfl ?_
                refine la_iaddN K dX0_measure_194 ?_
                refine lb_ld_aw K (by omega) dX0_measure_195 ?_
                refine la_aload_n K dX0_measure_196 rfl ?_
                refine lb_g_aw K q129 dX0_measure_197 ?_
                refine la_bipush K dX0_measure_200 la_kb_6 ?_
                refine la_iload_n K dX0_measure_202 rfl ?_
                refine la_imulN K dX0_measure_203 ?_
                refine la_iload_n K dX0_measure_204 rfl ?_
                refine la_iaddN K dX0_measure_205 ?_
                refine lb_ld_aw K (by omega) dX0_measure_206 ?_
                refine la_aload_n K dX0_measure_207 rfl ?_
                refine lb_g_aw K q129 dX0_measure_208 ?_
                refine la_bipush K dX0_measure_211 la_kb_6 ?_
                refine la_iload_n K dX0_measure_213 rfl ?_
                refine la_imulN K dX0_measure_214 ?_
                refine la_iload_n K dX0_measure_215 rfl ?_
                refine la_iaddN K dX0_measure_216 ?_
                refine lb_ld_aw K (by omega) dX0_measure_217 ?_
                refine la_iaddN K dX0_measure_218 ?_
                refine la_minN K (by have := lp_J3_le hJ (a' := a) (b' := b) (by omega) (by omega); omega) (by have := lp_J3_le hJ (a' := a) (b' := m) (by omega) (by omega); have := lp_J3_le hJ (a' := m) (b' := b) (by omega) (by omega); omega) q243 rfl (by decide) (Nat.le_of_ble_eq_true rfl) ⟨Nat.zero_le _, Nat.zero_le _⟩ dX0_measure_219 ?_
                refine lb_st_aw K (by omega) dX0_measure_222 ?_
                refine la_iinc3 K dX0_measure_223 (la_inc_N _) rfl ?_
                refine la_goto K 167 dX0_measure_226 rfl ?_
                exact ih3 (b + 1) _ (by omega) (by omega) (lp_J3_step hP hne hJ (by omega) (by omega) (by omega) rfl)
          refine la_iload_n K dX0_measure_157 rfl ?_
          refine la_aload_n K dX0_measure_158 rfl ?_
          refine lb_g_P K q124 dX0_measure_159 ?_
          refine la_icmp_geN K 235 dX0_measure_162 rfl (by omega) (by omega) (fun h162 => ?_) (fun h162 => ?_)
          · refine la_iinc1 K dX0_measure_235 (la_inc_N _) rfl ?_
            refine la_goto K 147 dX0_measure_238 rfl ?_
            exact ih1 (m + 1) _ _ _ (by omega) (by omega) (lp_J3_stage (by rw [show a = P by omega] at hJ; exact hJ))
          · refine la_iconst K dX0_measure_165 la_ki_0 ?_
            refine la_istore3 K dX0_measure_166 rfl ?_
            exact l3c (by omega) (P + 1) 0 _ (by omega) (by omega) hJ
      refine la_iload_n K dX0_measure_147 rfl ?_
      refine la_aload_n K dX0_measure_148 rfl ?_
      refine lb_g_P K q124 dX0_measure_149 ?_
      refine la_icmp_geN K 241 dX0_measure_152 rfl (by omega) (by omega) (fun h152 => ?_) (fun h152 => ?_)
      · exact hret _ _ _ dX0_measure_241 ⟨_, rfl, lp_J3_end (by rw [show m = P by omega] at hJ; exact hJ)⟩
      · refine la_iconst K dX0_measure_155 la_ki_0 ?_
        refine la_istore2 K dX0_measure_156 rfl ?_
        exact l3b (by omega) (P + 1) 0 _ _ (by omega) (by omega) hJ
  have l2a : ∀ (j k : Nat) (f : Nat → Nat) (x2 x3 : Option Value), k ≤ R → R < k + j → lp_J2 1000000 fr to ln P k f → la_At ω κ (0, 0) 56 [some (.ref (ad 0)), some (.int (nI (k))), x2, x3] [] (lb_W ω.2.2 ad ((P, R, T, S, L, B, Nw, U, C, Kd), (fr, to, ln, f), (su, ca, we, fa, sb, tb), (wk, nw, wo), (k0, k1, k2, k3, k4, k5), RE, BF, BK)) := by
    intro j
    induction j with
    | zero => intro k f x2 x3 h1 h2; omega
    | succ j ihr =>
      intro k f x2 x3 h1 h2 hJ
      refine la_iload_n K dX0_measure_56 rfl ?_
      refine la_aload_n K dX0_measure_57 rfl ?_
      refine lb_g_R K q125 dX0_measure_58 ?_
      refine la_icmp_geN K 145 dX0_measure_61 rfl (by omega) (by omega) (fun h61 => ?_) (fun h61 => ?_)
      · refine la_iconst K dX0_measure_145 la_ki_0 ?_
        refine la_istore1 K dX0_measure_146 rfl ?_
        exact l3a (P + 1) 0 _ _ _ (by omega) (by omega) (lp_J2_end (by rw [show k = R by omega] at hJ; exact hJ))
      · obtain ⟨hr1, hr2, hr3, hr4⟩ := hro k (by omega)
        refine la_aload_n K dX0_measure_64 rfl ?_
        refine lb_g_ln K q128 dX0_measure_65 ?_
        refine la_iload_n K dX0_measure_68 rfl ?_
        refine lb_ld_ln K (by omega) dX0_measure_69 ?_
        refine la_aload_n K dX0_measure_70 rfl ?_
        refine lb_g_aw K q129 dX0_measure_71 ?_
        refine la_bipush K dX0_measure_74 la_kb_6 ?_
        refine la_aload_n K dX0_measure_76 rfl ?_
        refine lb_g_fr K q126 dX0_measure_77 ?_
        refine la_iload_n K dX0_measure_80 rfl ?_
        refine lb_ld_fr K (by omega) dX0_measure_81 ?_
        refine la_imulN K dX0_measure_82 ?_
        refine la_aload_n K dX0_measure_83 rfl ?_
        refine lb_g_to K q127 dX0_measure_84 ?_
        refine la_iload_n K dX0_measure_87 rfl ?_
        refine lb_ld_to K (by omega) dX0_measure_88 ?_
        refine la_iaddN K dX0_measure_89 ?_
        refine lb_ld_aw K (by omega) dX0_measure_90 ?_
        refine la_minN K (by omega) (by have := hJ (fr k) (to k) (by omega) (by omega); have := lp_dr_le (I := 1000000) (fr := fr) (to := to) (ln := ln) k (fr k) (to k); omega) q243 rfl (by decide) (Nat.le_of_ble_eq_true rfl) ⟨Nat.zero_le _, Nat.zero_le _⟩ dX0_measure_91 ?_
        refine la_istore2 K dX0_measure_94 rfl ?_
        refine la_aload_n K dX0_measure_95 rfl ?_
        refine lb_g_aw K q129 dX0_measure_96 ?_
        refine la_bipush K dX0_measure_99 la_kb_6 ?_
        refine la_aload_n K dX0_measure_101 rfl ?_
        refine lb_g_fr K q126 dX0_measure_102 ?_
        refine la_iload_n K dX0_measure_105 rfl ?_
        refine lb_ld_fr K (by omega) dX0_measure_106 ?_
        refine la_imulN K dX0_measure_107 ?_
        refine la_aload_n K dX0_measure_108 rfl ?_
        refine lb_g_to K q127 dX0_measure_109 ?_
        refine la_iload_n K dX0_measure_112 rfl ?_
        refine lb_ld_to K (by omega) dX0_measure_113 ?_
        refine la_iaddN K dX0_measure_114 ?_
        refine la_iload_n K dX0_measure_115 rfl ?_
        refine lb_st_aw K (by omega) dX0_measure_116 ?_
        refine la_aload_n K dX0_measure_117 rfl ?_
        refine lb_g_aw K q129 dX0_measure_118 ?_
        refine la_bipush K dX0_measure_121 la_kb_6 ?_
        refine la_aload_n K dX0_measure_123 rfl ?_
        refine lb_g_to K q127 dX0_measure_124 ?_
        refine la_iload_n K dX0_measure_127 rfl ?_
        refine lb_ld_to K (by omega) dX0_measure_128 ?_
        refine la_imulN K dX0_measure_129 ?_
        refine la_aload_n K dX0_measure_130 rfl ?_
        refine lb_g_fr K q126 dX0_measure_131 ?_
        refine la_iload_n K dX0_measure_134 rfl ?_
        refine lb_ld_fr K (by omega) dX0_measure_135 ?_
        refine la_iaddN K dX0_measure_136 ?_
        refine la_iload_n K dX0_measure_137 rfl ?_
        refine lb_st_aw K (by omega) dX0_measure_138 ?_
        refine la_iinc1 K dX0_measure_139 (la_inc_N _) rfl ?_
        refine la_goto K 56 dX0_measure_142 rfl ?_
        exact ihr (k + 1) _ _ _ (by omega) (by omega) (lp_J2_set hP hJ (by omega) (by omega) rfl)
  have l1a : ∀ (j a : Nat) (f : Nat → Nat) (x2 x3 : Option Value), a ≤ P → P < a + j → lp_J1 1000000 P a 0 f → la_At ω κ (0, 0) 2 [some (.ref (ad 0)), some (.int (nI (a))), x2, x3] [] (lb_W ω.2.2 ad ((P, R, T, S, L, B, Nw, U, C, Kd), (fr, to, ln, f), (su, ca, we, fa, sb, tb), (wk, nw, wo), (k0, k1, k2, k3, k4, k5), RE, BF, BK)) := by
    intro j
    induction j with
    | zero => intro a f x2 x3 h1 h2; omega
    | succ j ih1 =>
      intro a f x2 x3 h1 h2 hJ
      have l1b : a < P → ∀ (j b : Nat) (f : Nat → Nat) (x3 : Option Value), b ≤ P → P < b + j → lp_J1 1000000 P a b f → la_At ω κ (0, 0) 12 [some (.ref (ad 0)), some (.int (nI (a))), some (.int (nI (b))), x3] [] (lb_W ω.2.2 ad ((P, R, T, S, L, B, Nw, U, C, Kd), (fr, to, ln, f), (su, ca, we, fa, sb, tb), (wk, nw, wo), (k0, k1, k2, k3, k4, k5), RE, BF, BK)) := by
        intro ha j
        induction j with
        | zero => intro b f x3 h1 h2; omega
        | succ j ih2 =>
          intro b f x3 h1 h2 hJ
          refine la_iload_n K dX0_measure_12 rfl ?_
          refine la_aload_n K dX0_measure_13 rfl ?_
          refine lb_g_P K q124 dX0_measure_14 ?_
          refine la_icmp_geN K 48 dX0_measure_17 rfl (by omega) (by omega) (fun h17 => ?_) (fun h17 => ?_)
          · refine la_iinc1 K dX0_measure_48 (la_inc_N _) rfl ?_
            refine la_goto K 2 dX0_measure_51 rfl ?_
            exact ih1 (a + 1) _ _ _ (by omega) (by omega) (lp_J1_row (by rw [show b = P by omega] at hJ; exact hJ))
          · refine la_aload_n K dX0_measure_20 rfl ?_
            refine lb_g_aw K q129 dX0_measure_21 ?_
            refine la_bipush K dX0_measure_24 la_kb_6 ?_
            refine la_iload_n K dX0_measure_26 rfl ?_
            refine la_imulN K dX0_measure_27 ?_
            refine la_iload_n K dX0_measure_28 rfl ?_
            refine la_iaddN K dX0_measure_29 ?_
            refine la_iload_n K dX0_measure_30 rfl ?_
            refine la_iload_n K dX0_measure_31 rfl ?_
            refine la_icmp_neN K 39 dX0_measure_32 rfl (by omega) (by omega) (fun h32 => ?_) (fun h32 => ?_)
            · refine la_ldc K q242 la_kl_1000000 dX0_measure_39 ?_
              refine lb_st_aw K (by omega) dX0_measure_41 ?_
              refine la_iinc2 K dX0_measure_42 (la_inc_N _) rfl ?_
              refine la_goto K 12 dX0_measure_45 rfl ?_
              exact ih2 (b + 1) _ _ (by omega) (by omega) (lp_J1_step hP hJ (by omega) (by unfold lp_d0; split <;> omega))
            · refine la_iconst K dX0_measure_35 la_ki_0 ?_
              refine la_goto K 41 dX0_measure_36 rfl ?_
              refine lb_st_aw K (by omega) dX0_measure_41 ?_
              refine la_iinc2 K dX0_measure_42 (la_inc_N _) rfl ?_
              refine la_goto K 12 dX0_measure_45 rfl ?_
              exact ih2 (b + 1) _ _ (by omega) (by omega) (lp_J1_step hP hJ (by omega) (by unfold lp_d0; split <;> omega))
      refine la_iload_n K dX0_measure_2 rfl ?_
      refine la_aload_n K dX0_measure_3 rfl ?_
      refine lb_g_P K q124 dX0_measure_4 ?_
      refine la_icmp_geN K 54 dX0_measure_7 rfl (by omega) (by omega) (fun h7 => ?_) (fun h7 => ?_)
      · refine la_iconst K dX0_measure_54 la_ki_0 ?_
        refine la_istore1 K dX0_measure_55 rfl ?_
        exact l2a (R + 1) 0 _ _ _ (by omega) (by omega) (lp_J1_end (by rw [show a = P by omega] at hJ; exact hJ))
      · refine la_iconst K dX0_measure_10 la_ki_0 ?_
        refine la_istore2 K dX0_measure_11 rfl ?_
        exact l1b (by omega) (P + 1) 0 _ _ (by omega) (by omega) hJ
  refine la_iconst K dX0_measure_0 la_ki_0 ?_
  refine la_istore1 K dX0_measure_1 rfl ?_
  exact l1a (P + 1) 0 _ _ _ (by omega) (by omega) lp_J1_0
theorem lb_distance {a b : Nat} (h : 6 * a + b < 36) : la_CP ω yX0_distance cX0_distance 3 (some .int) (la_rm 0) [.ref (ad 0), .int (nI a), .int (nI b)] (lb_W ω.2.2 ad ((P, R, T, S, L, B, Nw, U, C, Kd), (fr, to, ln, aw), (su, ca, we, fa, sb, tb), (wk, nw, wo), (k0, k1, k2, k3, k4, k5), RE, BF, BK)) (nI (aw (6 * a + b))) := by
  refine la_CI_of (by decide) [some (.ref (ad 0)), some (.int (nI (a))), some (.int (nI (b)))] rfl rfl (Nat.le_of_ble_eq_true rfl) ?_
  intro κ K hret
  refine la_aload_n K dX0_distance_0 rfl ?_
  refine lb_g_aw K q129 dX0_distance_1 ?_
  refine la_bipush K dX0_distance_4 la_kb_6 ?_
  refine la_iload_n K dX0_distance_6 rfl ?_
  refine la_imulN K dX0_distance_7 ?_
  refine la_iload_n K dX0_distance_8 rfl ?_
  refine la_iaddN K dX0_distance_9 ?_
  refine lb_ld_aw K (by omega) dX0_distance_10 ?_
  exact hret _ _ _ () dX0_distance_11 rfl
theorem lb_areTorn (hP : P ≤ 6) (haw : ∀ b, b < P → aw b ≤ 1000000) : la_CP ω yX0_areTorn cX0_areTorn 3 (some .boolean) (la_rm 1) [.ref (ad 0)] (lb_W ω.2.2 ad ((P, R, T, S, L, B, Nw, U, C, Kd), (fr, to, ln, aw), (su, ca, we, fa, sb, tb), (wk, nw, wo), (k0, k1, k2, k3, k4, k5), RE, BF, BK)) (nI (lp_b (lp_torn0 1000000 P aw))) := by
  refine la_CZ_of (by decide) [some (.ref (ad 0)), none, none] rfl rfl (Nat.le_of_ble_eq_true rfl) ?_
  intro κ K hret
  have lp : ∀ (j k : Nat) (z : Nat), k ≤ P → P < k + j → lp_TQ 1000000 aw k z → la_At ω κ (0, 0) 4 [some (.ref (ad 0)), some (.int (nI (z))), some (.int (nI (k)))] [] (lb_W ω.2.2 ad ((P, R, T, S, L, B, Nw, U, C, Kd), (fr, to, ln, aw), (su, ca, we, fa, sb, tb), (wk, nw, wo), (k0, k1, k2, k3, k4, k5), RE, BF, BK)) := by
    intro j
    induction j with
    | zero => intro k z h1 h2; omega
    | succ j ih =>
      intro k z h1 h2 hz
      refine la_iload_n K dX0_areTorn_4 rfl ?_
      refine la_aload_n K dX0_areTorn_5 rfl ?_
      refine lb_g_P K q124 dX0_areTorn_6 ?_
      refine la_icmp_geN K 39 dX0_areTorn_9 rfl (by omega) (by omega) (fun h9 => ?_) (fun h9 => ?_)
      · refine la_iload_n K dX0_areTorn_39 rfl ?_
        exact hret _ _ _ () hz.1 dX0_areTorn_40 (by rw [show k = P by omega] at hz; rw [lp_TQ_end hz])
      · refine la_iload_n K dX0_areTorn_12 rfl ?_
        refine la_if_neN K 27 dX0_areTorn_13 rfl (by have := hz.1; omega) (fun h13 => ?_) (fun h13 => ?_)
        · refine la_iconst K dX0_areTorn_27 la_ki_1 ?_
          refine la_goto K 32 dX0_areTorn_28 rfl ?_
          refine la_istore1 K dX0_areTorn_32 rfl ?_
          refine la_iinc2 K dX0_areTorn_33 (la_inc_N _) rfl ?_
          refine la_goto K 4 dX0_areTorn_36 rfl ?_
          exact ih (k + 1) _ (by omega) (by omega) (lp_TQ_1 hz (Or.inl h13))
        · refine la_aload_n K dX0_areTorn_16 rfl ?_
          refine la_iconst K dX0_areTorn_17 la_ki_0 ?_
          refine la_iload_n K dX0_areTorn_18 rfl ?_
          refine la_callVp K ok_X0_distance q265 (lb_distance (by omega)) 0 rfl rfl rfl rfl rfl (Nat.le_of_ble_eq_true rfl) ⟨Nat.le_of_ble_eq_true rfl, Nat.le_of_ble_eq_true rfl⟩ ⟨Nat.zero_le _, Nat.zero_le _⟩ dX0_areTorn_19 ?_
          refine la_ldc K q242 la_kl_1000000 dX0_areTorn_22 ?_
          refine la_icmp_ltN K 31 dX0_areTorn_24 rfl (by have := haw k (by omega); rw [Nat.mul_zero, Nat.zero_add]; omega) (by omega) (fun h24 => ?_) (fun h24 => ?_)
          · refine la_iconst K dX0_areTorn_31 la_ki_0 ?_
            refine la_istore1 K dX0_areTorn_32 rfl ?_
            refine la_iinc2 K dX0_areTorn_33 (la_inc_N _) rfl ?_
            refine la_goto K 4 dX0_areTorn_36 rfl ?_
            exact ih (k + 1) _ (by omega) (by omega) (lp_TQ_2 hz h13 (by rw [Nat.mul_zero, Nat.zero_add] at h24; exact h24))
          · refine la_iconst K dX0_areTorn_27 la_ki_1 ?_
            refine la_goto K 32 dX0_areTorn_28 rfl ?_
            refine la_istore1 K dX0_areTorn_32 rfl ?_
            refine la_iinc2 K dX0_areTorn_33 (la_inc_N _) rfl ?_
            refine la_goto K 4 dX0_areTorn_36 rfl ?_
            exact ih (k + 1) _ (by omega) (by omega) (lp_TQ_1 hz (Or.inr (by rw [Nat.mul_zero, Nat.zero_add] at h24; exact h24)))
  refine la_iconst K dX0_areTorn_0 la_ki_0 ?_
  refine la_istore1 K dX0_areTorn_1 rfl ?_
  refine la_iconst K dX0_areTorn_2 la_ki_0 ?_
  refine la_istore2 K dX0_areTorn_3 rfl ?_
  exact lp (P + 1) 0 0 (by omega) (by omega) lp_TQ_0
set_option maxHeartbeats 4000000 in
theorem lb_place (hP : P ≤ 6) (hL : L ≤ 3) (hR : R ≤ 15) (hro : ∀ k, k < R → fr k < P ∧ to k < P ∧ ¬ fr k = to k ∧ ln k ≤ 100) : la_CI ω yX0_place cX0_place 1 (some .int) (la_rm 2) [.ref (ad 0)] (lb_W ω.2.2 ad ((P, R, T, S, L, B, Nw, U, C, Kd), (fr, to, ln, aw), (su, ca, we, fa, sb, tb), (wk, nw, wo), (k0, k1, k2, k3, k4, k5), RE, BF, BK)) (lb_W ω.2.2 ad) (fun (r : Int32) (u : lb_S) => r = lp_plA P L ∧ ((¬ (L = 0 ∧ P < 6) ∧ u = ((P, R, T, S, L, B, Nw, U, C, Kd), (fr, to, ln, aw), (su, ca, we, fa, sb, tb), (wk, nw, wo), (k0, k1, k2, k3, k4, k5), RE, BF, BK)) ∨ (L = 0 ∧ P < 6 ∧ ∃ aw', u = ((P + 1, R, T, S, L, B, Nw, U, C, Kd), (fr, to, ln, aw'), (su, ca, we, fa, sb, tb), (wk, nw, wo), (k0, k1, k2, k3, k4, k5), RE, BF, BK) ∧ ∀ a b, a < P + 1 → b < P + 1 → aw' (6 * a + b) = (lp_ds 1000000 fr to ln R (P + 1)) a b))) := by
  refine la_CI_of (by decide) [some (.ref (ad 0))] rfl rfl (Nat.le_of_ble_eq_true rfl) ?_
  intro κ K hret
  refine la_aload_n K dX0_place_0 rfl ?_
  refine lb_g_L K q140 dX0_place_1 ?_
  refine la_if_leN K 10 dX0_place_4 rfl (by omega) (fun h4 => ?_) (fun h4 => ?_)
  · refine la_aload_n K dX0_place_10 rfl ?_
    refine lb_g_P K q124 dX0_place_11 ?_
    refine la_bipush K dX0_place_14 la_kb_6 ?_
    refine la_icmp_neN K 22 dX0_place_16 rfl (by omega) (by omega) (fun h16 => ?_) (fun h16 => ?_)
    · refine la_aload_n K dX0_place_22 rfl ?_
      refine la_dup K dX0_place_23 rfl ?_
      refine lb_g_P K q124 dX0_place_24 ?_
      refine la_iconst K dX0_place_27 la_ki_1 ?_
      refine la_iaddN K dX0_place_28 ?_
      refine lb_p_P K q124 dX0_place_29 ?_
      refine la_aload_n K dX0_place_32 rfl ?_
      refine la_callVv0 K ok_X0_measure q238 (lb_measure (P := P + 1) (by omega) hR (fun k hk => by have := hro k hk; exact ⟨by omega, by omega, this.2.2.1, this.2.2.2⟩)) 0 rfl rfl rfl rfl rfl (Nat.le_of_ble_eq_true rfl) ⟨Nat.le_of_ble_eq_true rfl, Nat.le_of_ble_eq_true rfl⟩ ⟨Nat.zero_le _, Nat.zero_le _⟩ dX0_place_33 (fun u33 p33 => ?_)
      obtain ⟨aw1, rfl, haw1⟩ := p33
      refine la_aload_n K dX0_place_36 rfl ?_
      refine lb_g_P K q124 dX0_place_37 ?_
      refine la_iconst K dX0_place_40 la_ki_1 ?_
      refine la_isubN K dX0_place_41 (by omega) ?_
      exact hret _ _ _ _ dX0_place_42 ⟨by unfold lp_plA; rw [if_neg (by omega), if_neg h16]; rfl, Or.inr ⟨by omega, by omega, _, rfl, haw1⟩⟩
    · refine la_bipush K dX0_place_19 la_kb_m3 ?_
      exact hret _ _ _ _ dX0_place_21 ⟨by unfold lp_plA; rw [if_neg (by omega), if_pos h16], Or.inl ⟨by omega, rfl⟩⟩
  · refine la_bipush K dX0_place_7 la_kb_m2 ?_
    exact hret _ _ _ _ dX0_place_9 ⟨by unfold lp_plA; rw [if_pos h4], Or.inl ⟨by omega, rfl⟩⟩
theorem lb_against (a b d : Int32) (hP : P ≤ 6) (hL : L ≤ 3) (hR : R ≤ 15) : la_CP ω yX0_against cX0_against 4 (some .int) (la_rm 2) [.ref (ad 0), .int a, .int b, .int d] (lb_W ω.2.2 ad ((P, R, T, S, L, B, Nw, U, C, Kd), (fr, to, ln, aw), (su, ca, we, fa, sb, tb), (wk, nw, wo), (k0, k1, k2, k3, k4, k5), RE, BF, BK)) (lp_agA P R L a b d) := by
  refine la_CI_of (by decide) [some (.ref (ad 0)), some (.int (a)), some (.int (b)), some (.int (d))] rfl rfl (Nat.le_of_ble_eq_true rfl) ?_
  intro κ K hret
  refine la_aload_n K dX0_against_0 rfl ?_
  refine la_iload_n K dX0_against_1 rfl ?_
  refine la_callVp K ok_X0_isPlace q254 (lb_isPlace _ hP) 0 rfl rfl rfl rfl rfl (Nat.le_of_ble_eq_true rfl) ⟨Nat.le_of_ble_eq_true rfl, Nat.le_of_ble_eq_true rfl⟩ ⟨Nat.zero_le _, Nat.zero_le _⟩ dX0_against_2 ?_
  refine la_if_eqC K 31 dX0_against_5 rfl (fun h5 => ?_) (fun h5 => ?_)
  · refine la_iconst K dX0_against_31 la_ki_m1 ?_
    exact hret _ _ _ () dX0_against_32 (by unfold lp_agA; rw [if_neg (fun z => h5 (lp_rdOk_i.mp z).1)])
  · refine la_aload_n K dX0_against_8 rfl ?_
    refine la_iload_n K dX0_against_9 rfl ?_
    refine la_callVp K ok_X0_isPlace q254 (lb_isPlace _ hP) 0 rfl rfl rfl rfl rfl (Nat.le_of_ble_eq_true rfl) ⟨Nat.le_of_ble_eq_true rfl, Nat.le_of_ble_eq_true rfl⟩ ⟨Nat.zero_le _, Nat.zero_le _⟩ dX0_against_10 ?_
    refine la_if_eqC K 31 dX0_against_13 rfl (fun h13 => ?_) (fun h13 => ?_)
    · refine la_iconst K dX0_against_31 la_ki_m1 ?_
      exact hret _ _ _ () dX0_against_32 (by unfold lp_agA; rw [if_neg (fun z => h13 (lp_rdOk_i.mp z).2.1)])
    · refine la_iload_n K dX0_against_16 rfl ?_
      refine la_iload_n K dX0_against_17 rfl ?_
      refine la_icmp_eq K 31 dX0_against_18 rfl (fun h18 => ?_) (fun h18 => ?_)
      · refine la_iconst K dX0_against_31 la_ki_m1 ?_
        exact hret _ _ _ () dX0_against_32 (by unfold lp_agA; rw [if_neg (fun z => (lp_rdOk_i.mp z).2.2.1 h18)])
      · refine la_iload_n K dX0_against_21 rfl ?_
        refine la_iconst K dX0_against_22 la_ki_1 ?_
        refine la_bipush K dX0_against_23 la_kb_100 ?_
        refine la_callSp K ok_X0_in q258 (lb_in _ _ _ _) rfl rfl rfl (Nat.le_of_ble_eq_true rfl) ⟨Nat.le_of_ble_eq_true rfl, Nat.le_of_ble_eq_true rfl⟩ ⟨Nat.zero_le _, Nat.zero_le _⟩ dX0_against_25 ?_
        refine la_if_neC K 33 dX0_against_28 rfl (fun h28 => ?_) (fun h28 => ?_)
        · have hok : lp_rdOk P a.toInt64 b.toInt64 d.toInt64 := lp_rdOk_i.mpr ⟨h5, h13, h18, (lp_intsC d (by decide) (by decide)).mp h28⟩
          refine la_aload_n K dX0_against_33 rfl ?_
          refine lb_g_L K q140 dX0_against_34 ?_
          refine la_if_leN K 45 dX0_against_37 rfl (by omega) (fun h37 => ?_) (fun h37 => ?_)
          · refine la_aload_n K dX0_against_45 rfl ?_
            refine lb_g_R K q125 dX0_against_46 ?_
            refine la_bipush K dX0_against_49 la_kb_15 ?_
            refine la_icmp_neN K 59 dX0_against_51 rfl (by omega) (by omega) (fun h51 => ?_) (fun h51 => ?_)
            · refine la_iconst K dX0_against_59 la_ki_0 ?_
              exact hret _ _ _ () dX0_against_60 (by unfold lp_agA; rw [if_pos hok, if_neg (by omega), if_neg h51])
            · refine la_bipush K dX0_against_54 la_kb_m3 ?_
              refine la_goto K 60 dX0_against_56 rfl ?_
              exact hret _ _ _ () dX0_against_60 (by unfold lp_agA; rw [if_pos hok, if_neg (by omega), if_pos h51])
          · refine la_bipush K dX0_against_40 la_kb_m2 ?_
            refine la_goto K 60 dX0_against_42 rfl ?_
            exact hret _ _ _ () dX0_against_60 (by unfold lp_agA; rw [if_pos hok, if_pos h37])
        · refine la_iconst K dX0_against_31 la_ki_m1 ?_
          exact hret _ _ _ () dX0_against_32 (by unfold lp_agA; rw [if_neg (fun z => h28 ((lp_intsC d (by decide) (by decide)).mpr (lp_rdOk_i.mp z).2.2.2))])
theorem lp_agA_go {P R L : Nat} {a b d : Int32} (h : lp_rdGo P R L a.toInt64 b.toInt64 d.toInt64) : lp_agA P R L a b d = nI 0 := by
  unfold lp_agA
  rw [if_pos h.1, if_neg (by have := h.2.1; omega), if_neg (by have := h.2.2; omega)]
theorem lp_agA_rd {P R L : Nat} {a b d : Int32} (h : ¬ lp_rdGo P R L a.toInt64 b.toInt64 d.toInt64) (hR : R ≤ 15) : lp_agA P R L a b d = lp_rdA P R L a.toInt64 b.toInt64 d.toInt64 := by
  unfold lp_agA lp_rdA
  by_cases h1 : lp_rdOk P a.toInt64 b.toInt64 d.toInt64
  · rw [if_pos h1, if_pos h1]
    by_cases h2 : 0 < L
    · rw [if_pos h2, if_pos h2]
    · rw [if_neg h2, if_neg h2]
      by_cases h3 : R = 15
      · rw [if_pos h3, if_pos h3]
      · exact absurd ⟨h1, by omega, by omega⟩ h
  · rw [if_neg h1, if_neg h1]
theorem lp_agA_no {P R L : Nat} {a b d : Int32} (h : ¬ lp_rdGo P R L a.toInt64 b.toInt64 d.toInt64) (hR : R ≤ 15) : ¬ lp_agA P R L a b d = 0 := by
  rw [lp_agA_rd h hR]
  intro e
  exact lp_rdA_neg hR h (by rw [e]; decide)
set_option maxHeartbeats 4000000 in
theorem lb_road (a b d : Int32) (hP : P ≤ 6) (hL : L ≤ 3) (hR : R ≤ 15) (hro : ∀ k, k < R → fr k < P ∧ to k < P ∧ ¬ fr k = to k ∧ ln k ≤ 100) : la_CI ω yX0_road cX0_road 5 (some .int) (la_rm 3) [.ref (ad 0), .int a, .int b, .int d] (lb_W ω.2.2 ad ((P, R, T, S, L, B, Nw, U, C, Kd), (fr, to, ln, aw), (su, ca, we, fa, sb, tb), (wk, nw, wo), (k0, k1, k2, k3, k4, k5), RE, BF, BK)) (lb_W ω.2.2 ad) (fun (r : Int32) (u : lb_S) => r = lp_rdA P R L a.toInt64 b.toInt64 d.toInt64 ∧ ((¬ (lp_rdGo P R L a.toInt64 b.toInt64 d.toInt64) ∧ u = ((P, R, T, S, L, B, Nw, U, C, Kd), (fr, to, ln, aw), (su, ca, we, fa, sb, tb), (wk, nw, wo), (k0, k1, k2, k3, k4, k5), RE, BF, BK)) ∨ ((lp_rdGo P R L a.toInt64 b.toInt64 d.toInt64) ∧ ∃ aw', u = ((P, R + 1, T, S, L, B, Nw, U, C, Kd), (va_up fr R a.toInt64.toInt.toNat, va_up to R b.toInt64.toInt.toNat, va_up ln R d.toInt64.toInt.toNat, aw'), (su, ca, we, fa, sb, tb), (wk, nw, wo), (k0, k1, k2, k3, k4, k5), RE, BF, BK) ∧ ∀ x y, x < P → y < P → aw' (6 * x + y) = lp_ds 1000000 (va_up fr R a.toInt64.toInt.toNat) (va_up to R b.toInt64.toInt.toNat) (va_up ln R d.toInt64.toInt.toNat) (R + 1) P x y))) := by
  refine la_CI_of (by decide) [some (.ref (ad 0)), some (.int (a)), some (.int (b)), some (.int (d)), none] rfl rfl (Nat.le_of_ble_eq_true rfl) ?_
  intro κ K hret
  by_cases hgo : (lp_rdGo P R L a.toInt64 b.toInt64 d.toInt64)
  · obtain ⟨ha, hb, hab, hd⟩ := lp_rdOk_i.mp hgo.1
    have hR15 := hgo.2.2
    obtain ⟨ka, g1, rfl⟩ := lp_in_N ha (by omega)
    obtain ⟨kb, g2, rfl⟩ := lp_in_N hb (by omega)
    obtain ⟨kd, g3, g4, rfl⟩ := lp_inI_N hd (by decide)
    have e1 : (nI ka).toInt64.toInt.toNat = ka := by rw [Int32.toInt_toInt64, nI_toInt (by omega)]; omega
    have e2 : (nI kb).toInt64.toInt.toNat = kb := by rw [Int32.toInt_toInt64, nI_toInt (by omega)]; omega
    have e3 : (nI kd).toInt64.toInt.toNat = kd := by rw [Int32.toInt_toInt64, nI_toInt (by omega)]; omega
    have hkab : ¬ ka = kb := fun z => hab (by rw [z])
    have hro2 : ∀ k, k < R + 1 → va_up fr R ka k < P ∧ va_up to R kb k < P ∧ ¬ va_up fr R ka k = va_up to R kb k ∧ va_up ln R kd k ≤ 100 := by
      intro k hk
      by_cases e : k = R
      · subst e; rw [va_up_self, va_up_self, va_up_self]; exact ⟨g1, g2, hkab, g4⟩
      · rw [va_up_ne _ _ e, va_up_ne _ _ e, va_up_ne _ _ e]; exact hro k (by omega)
    refine la_aload_n K dX0_road_0 rfl ?_
    refine la_iload_n K dX0_road_1 rfl ?_
    refine la_iload_n K dX0_road_2 rfl ?_
    refine la_iload_n K dX0_road_3 rfl ?_
    refine la_callVp K ok_X0_against q250 (lb_against _ _ _ hP hL hR) 0 rfl rfl rfl rfl rfl (Nat.le_of_ble_eq_true rfl) ⟨Nat.le_of_ble_eq_true rfl, Nat.le_of_ble_eq_true rfl⟩ ⟨Nat.zero_le _, Nat.zero_le _⟩ dX0_road_4 ?_
    refine la_istore4 K dX0_road_7 rfl ?_
    rw [lp_agA_go hgo]
    refine la_iload K dX0_road_9 rfl ?_
    refine la_if_eqN K 17 dX0_road_11 rfl (by omega) (fun h11 => ?_) (fun h11 => absurd rfl h11)
    refine la_aload_n K dX0_road_17 rfl ?_
    refine lb_g_fr K q126 dX0_road_18 ?_
    refine la_aload_n K dX0_road_21 rfl ?_
    refine lb_g_R K q125 dX0_road_22 ?_
    refine la_iload_n K dX0_road_25 rfl ?_
    refine lb_st_fr K (by omega) dX0_road_26 ?_
    refine la_aload_n K dX0_road_27 rfl ?_
    refine lb_g_to K q127 dX0_road_28 ?_
    refine la_aload_n K dX0_road_31 rfl ?_
    refine lb_g_R K q125 dX0_road_32 ?_
    refine la_iload_n K dX0_road_35 rfl ?_
    refine lb_st_to K (by omega) dX0_road_36 ?_
    refine la_aload_n K dX0_road_37 rfl ?_
    refine lb_g_ln K q128 dX0_road_38 ?_
    refine la_aload_n K dX0_road_41 rfl ?_
    refine lb_g_R K q125 dX0_road_42 ?_
    refine la_iload_n K dX0_road_45 rfl ?_
    refine lb_st_ln K (by omega) dX0_road_46 ?_
    refine la_aload_n K dX0_road_47 rfl ?_
    refine la_dup K dX0_road_48 rfl ?_
    refine lb_g_R K q125 dX0_road_49 ?_
    refine la_iconst K dX0_road_52 la_ki_1 ?_
    refine la_iaddN K dX0_road_53 ?_
    refine lb_p_R K q125 dX0_road_54 ?_
    refine la_aload_n K dX0_road_57 rfl ?_
    refine la_callVv0 K ok_X0_measure q238 (lb_measure hP (by omega) hro2) 0 rfl rfl rfl rfl rfl (Nat.le_of_ble_eq_true rfl) ⟨Nat.le_of_ble_eq_true rfl, Nat.le_of_ble_eq_true rfl⟩ ⟨Nat.zero_le _, Nat.zero_le _⟩ dX0_road_58 (fun u58 p58 => ?_)
    obtain ⟨aw1, rfl, haw1⟩ := p58
    refine la_aload_n K dX0_road_61 rfl ?_
    refine lb_g_R K q125 dX0_road_62 ?_
    exact hret _ _ _ _ dX0_road_65 ⟨(lp_rdA_pos hgo).symm, Or.inr ⟨hgo, _, by rw [e1, e2, e3], by rw [e1, e2, e3]; exact haw1⟩⟩
  · have hng := hgo
    refine la_aload_n K dX0_road_0 rfl ?_
    refine la_iload_n K dX0_road_1 rfl ?_
    refine la_iload_n K dX0_road_2 rfl ?_
    refine la_iload_n K dX0_road_3 rfl ?_
    refine la_callVp K ok_X0_against q250 (lb_against _ _ _ hP hL hR) 0 rfl rfl rfl rfl rfl (Nat.le_of_ble_eq_true rfl) ⟨Nat.le_of_ble_eq_true rfl, Nat.le_of_ble_eq_true rfl⟩ ⟨Nat.zero_le _, Nat.zero_le _⟩ dX0_road_4 ?_
    refine la_istore4 K dX0_road_7 rfl ?_
    refine la_iload K dX0_road_9 rfl ?_
    refine la_if_eq K 17 dX0_road_11 rfl (fun h11 => absurd h11 (lp_agA_no hng hR)) (fun h11 => ?_)
    refine la_iload K dX0_road_14 rfl ?_
    exact hret _ _ _ _ dX0_road_16 ⟨lp_agA_rd hng hR, Or.inl ⟨hng, rfl⟩⟩
set_option maxHeartbeats 4000000 in
theorem lb_apart (a b : Int32) (hP : P ≤ 6) (haw : ∀ a b, a < P → b < P → aw (6 * a + b) ≤ 1000000) : la_CP ω yX0_apart cX0_apart 3 (some .int) (la_rm 2) [.ref (ad 0), .int a, .int b] (lb_W ω.2.2 ad ((P, R, T, S, L, B, Nw, U, C, Kd), (fr, to, ln, aw), (su, ca, we, fa, sb, tb), (wk, nw, wo), (k0, k1, k2, k3, k4, k5), RE, BF, BK)) (lp_apA 1000000 P (fun a b => aw (6 * a + b)) a b) := by
  refine la_CI_of (by decide) [some (.ref (ad 0)), some (.int (a)), some (.int (b))] rfl rfl (Nat.le_of_ble_eq_true rfl) ?_
  intro κ K hret
  refine la_aload_n K dX0_apart_0 rfl ?_
  refine la_iload_n K dX0_apart_1 rfl ?_
  refine la_callVp K ok_X0_isPlace q254 (lb_isPlace _ hP) 0 rfl rfl rfl rfl rfl (Nat.le_of_ble_eq_true rfl) ⟨Nat.le_of_ble_eq_true rfl, Nat.le_of_ble_eq_true rfl⟩ ⟨Nat.zero_le _, Nat.zero_le _⟩ dX0_apart_2 ?_
  refine la_if_eqC K 16 dX0_apart_5 rfl (fun h5 => ?_) (fun h5 => ?_)
  · refine la_iconst K dX0_apart_16 la_ki_m1 ?_
    exact hret _ _ _ () dX0_apart_17 (by unfold lp_apA; rw [if_neg (fun z => h5 z.1)])
  · refine la_aload_n K dX0_apart_8 rfl ?_
    refine la_iload_n K dX0_apart_9 rfl ?_
    refine la_callVp K ok_X0_isPlace q254 (lb_isPlace _ hP) 0 rfl rfl rfl rfl rfl (Nat.le_of_ble_eq_true rfl) ⟨Nat.le_of_ble_eq_true rfl, Nat.le_of_ble_eq_true rfl⟩ ⟨Nat.zero_le _, Nat.zero_le _⟩ dX0_apart_10 ?_
    refine la_if_neC K 18 dX0_apart_13 rfl (fun h13 => ?_) (fun h13 => ?_)
    · obtain ⟨a, ha, rfl⟩ := lp_in_N h5 (by omega)
      obtain ⟨b, hb, rfl⟩ := lp_in_N h13 (by omega)
      refine la_aload_n K dX0_apart_18 rfl ?_
      refine la_iload_n K dX0_apart_19 rfl ?_
      refine la_iload_n K dX0_apart_20 rfl ?_
      refine la_callVp K ok_X0_distance q265 (lb_distance (by omega)) 0 rfl rfl rfl rfl rfl (Nat.le_of_ble_eq_true rfl) ⟨Nat.le_of_ble_eq_true rfl, Nat.le_of_ble_eq_true rfl⟩ ⟨Nat.zero_le _, Nat.zero_le _⟩ dX0_apart_21 ?_
      refine la_ldc K q242 la_kl_1000000 dX0_apart_24 ?_
      refine la_icmp_ltN K 34 dX0_apart_26 rfl (by have := haw a b (by omega) (by omega); omega) (by omega) (fun h26 => ?_) (fun h26 => ?_)
      · refine la_aload_n K dX0_apart_34 rfl ?_
        refine la_iload_n K dX0_apart_35 rfl ?_
        refine la_iload_n K dX0_apart_36 rfl ?_
        refine la_callVp K ok_X0_distance q265 (lb_distance (by omega)) 0 rfl rfl rfl rfl rfl (Nat.le_of_ble_eq_true rfl) ⟨Nat.le_of_ble_eq_true rfl, Nat.le_of_ble_eq_true rfl⟩ ⟨Nat.zero_le _, Nat.zero_le _⟩ dX0_apart_37 ?_
        exact hret _ _ _ () dX0_apart_40 (by unfold lp_apA; rw [if_pos ⟨h5, h13⟩, nI_clamp (by omega), nI_clamp (by omega), if_neg (by show ¬ 1000000 ≤ aw (6 * a + b); omega)])
      · refine la_bipush K dX0_apart_29 la_kb_m9 ?_
        refine la_goto K 40 dX0_apart_31 rfl ?_
        exact hret _ _ _ () dX0_apart_40 (by unfold lp_apA; rw [if_pos ⟨h5, h13⟩, nI_clamp (by omega), nI_clamp (by omega), if_pos h26])
    · refine la_iconst K dX0_apart_16 la_ki_m1 ?_
      exact hret _ _ _ () dX0_apart_17 (by unfold lp_apA; rw [if_neg (fun z => h13 z.2)])
end LC1
