/-! THE COMPONENT's METHODS, part 5. Printed by c5.py. -/
section LC5
variable {ω : la_O} {ad : Nat → Nat} {S : Int32} {T : Int64} {P R L B Nw U C Kd : Nat} {fr to ln aw su ca we fa sb tb wk nw wo k0 k1 k2 k3 k4 k5 : Nat → Nat} {RE : Nat → Nat → Nat} {BF : Nat → Option Nat} {BK : va_W}
set_option maxHeartbeats 4000000 in
theorem lb_keep0 : la_CV ω yX0_keep cX0_keep 2 none (la_rm 1) [.ref (ad 0), .int (nI 0)] (lb_W ω.2.2 ad ((P, R, T, S, L, B, Nw, U, C, Kd), (fr, to, ln, aw), (su, ca, we, fa, sb, tb), (wk, nw, wo), (k0, k1, k2, k3, k4, k5), RE, BF, BK)) (lb_W ω.2.2 ad) (fun u : lb_S => u = ((P, R, T, S, L, B, Nw, U, C, Kd), (fr, to, ln, aw), (su, ca, we, fa, sb, tb), (wk, nw, wo), (va_cpy ca k0 0 0 12, va_cpy we k1 0 0 12, va_cpy fa k2 0 0 12, va_cpy sb k3 0 0 12, va_cpy tb k4 0 0 12, va_cpy su k5 0 0 3), RE, BF, BK)) := by
  refine la_CV_of (by decide) [some (.ref (ad 0)), some (.int (nI (0)))] rfl rfl (Nat.le_of_ble_eq_true rfl) ?_
  intro κ K hret
  refine la_iload_n K dX0_keep_0 rfl ?_
  refine la_if_eqN K 11 dX0_keep_1 rfl (by decide) (fun h1 => ?_) (fun h1 => absurd rfl h1)
  refine la_aload_n K dX0_keep_11 rfl ?_
  refine lb_g_ca K q153 dX0_keep_12 ?_
  refine la_iconst K dX0_keep_15 la_ki_0 ?_
  refine la_iload_n K dX0_keep_16 rfl ?_
  refine la_if_eqN K 27 dX0_keep_17 rfl (by decide) (fun h17 => ?_) (fun h17 => absurd rfl h17)
  refine la_aload_n K dX0_keep_27 rfl ?_
  refine lb_g_k0 K q164 dX0_keep_28 ?_
  refine la_iconst K dX0_keep_31 la_ki_0 ?_
  refine la_bipush K dX0_keep_32 la_kb_12 ?_
  refine lb_cp_ca_k0 K q387 (by decide) rfl (by decide) (Nat.le_of_ble_eq_true rfl) dX0_keep_34 ?_
  refine la_iload_n K dX0_keep_37 rfl ?_
  refine la_if_eqN K 48 dX0_keep_38 rfl (by decide) (fun h38 => ?_) (fun h38 => absurd rfl h38)
  refine la_aload_n K dX0_keep_48 rfl ?_
  refine lb_g_we K q155 dX0_keep_49 ?_
  refine la_iconst K dX0_keep_52 la_ki_0 ?_
  refine la_iload_n K dX0_keep_53 rfl ?_
  refine la_if_eqN K 64 dX0_keep_54 rfl (by decide) (fun h54 => ?_) (fun h54 => absurd rfl h54)
  refine la_aload_n K dX0_keep_64 rfl ?_
  refine lb_g_k1 K q165 dX0_keep_65 ?_
  refine la_iconst K dX0_keep_68 la_ki_0 ?_
  refine la_bipush K dX0_keep_69 la_kb_12 ?_
  refine lb_cp_we_k1 K q387 (by decide) rfl (by decide) (Nat.le_of_ble_eq_true rfl) dX0_keep_71 ?_
  refine la_iload_n K dX0_keep_74 rfl ?_
  refine la_if_eqN K 85 dX0_keep_75 rfl (by decide) (fun h75 => ?_) (fun h75 => absurd rfl h75)
  refine la_aload_n K dX0_keep_85 rfl ?_
  refine lb_g_fa K q156 dX0_keep_86 ?_
  refine la_iconst K dX0_keep_89 la_ki_0 ?_
  refine la_iload_n K dX0_keep_90 rfl ?_
  refine la_if_eqN K 101 dX0_keep_91 rfl (by decide) (fun h91 => ?_) (fun h91 => absurd rfl h91)
  refine la_aload_n K dX0_keep_101 rfl ?_
  refine lb_g_k2 K q166 dX0_keep_102 ?_
  refine la_iconst K dX0_keep_105 la_ki_0 ?_
  refine la_bipush K dX0_keep_106 la_kb_12 ?_
  refine lb_cp_fa_k2 K q387 (by decide) rfl (by decide) (Nat.le_of_ble_eq_true rfl) dX0_keep_108 ?_
  refine la_iload_n K dX0_keep_111 rfl ?_
  refine la_if_eqN K 122 dX0_keep_112 rfl (by decide) (fun h112 => ?_) (fun h112 => absurd rfl h112)
  refine la_aload_n K dX0_keep_122 rfl ?_
  refine lb_g_sb K q157 dX0_keep_123 ?_
  refine la_iconst K dX0_keep_126 la_ki_0 ?_
  refine la_iload_n K dX0_keep_127 rfl ?_
  refine la_if_eqN K 138 dX0_keep_128 rfl (by decide) (fun h128 => ?_) (fun h128 => absurd rfl h128)
  refine la_aload_n K dX0_keep_138 rfl ?_
  refine lb_g_k3 K q167 dX0_keep_139 ?_
  refine la_iconst K dX0_keep_142 la_ki_0 ?_
  refine la_bipush K dX0_keep_143 la_kb_12 ?_
  refine lb_cp_sb_k3 K q387 (by decide) rfl (by decide) (Nat.le_of_ble_eq_true rfl) dX0_keep_145 ?_
  refine la_iload_n K dX0_keep_148 rfl ?_
  refine la_if_eqN K 159 dX0_keep_149 rfl (by decide) (fun h149 => ?_) (fun h149 => absurd rfl h149)
  refine la_aload_n K dX0_keep_159 rfl ?_
  refine lb_g_tb K q158 dX0_keep_160 ?_
  refine la_iconst K dX0_keep_163 la_ki_0 ?_
  refine la_iload_n K dX0_keep_164 rfl ?_
  refine la_if_eqN K 175 dX0_keep_165 rfl (by decide) (fun h165 => ?_) (fun h165 => absurd rfl h165)
  refine la_aload_n K dX0_keep_175 rfl ?_
  refine lb_g_k4 K q168 dX0_keep_176 ?_
  refine la_iconst K dX0_keep_179 la_ki_0 ?_
  refine la_bipush K dX0_keep_180 la_kb_12 ?_
  refine lb_cp_tb_k4 K q387 (by decide) rfl (by decide) (Nat.le_of_ble_eq_true rfl) dX0_keep_182 ?_
  refine la_iload_n K dX0_keep_185 rfl ?_
  refine la_if_eqN K 196 dX0_keep_186 rfl (by decide) (fun h186 => ?_) (fun h186 => absurd rfl h186)
  refine la_aload_n K dX0_keep_196 rfl ?_
  refine lb_g_su K q147 dX0_keep_197 ?_
  refine la_iconst K dX0_keep_200 la_ki_0 ?_
  refine la_iload_n K dX0_keep_201 rfl ?_
  refine la_if_eqN K 212 dX0_keep_202 rfl (by decide) (fun h202 => ?_) (fun h202 => absurd rfl h202)
  refine la_aload_n K dX0_keep_212 rfl ?_
  refine lb_g_k5 K q169 dX0_keep_213 ?_
  refine la_iconst K dX0_keep_216 la_ki_0 ?_
  refine la_iconst K dX0_keep_217 la_ki_3 ?_
  refine lb_cp_su_k5 K q387 (by decide) rfl (by decide) (Nat.le_of_ble_eq_true rfl) dX0_keep_218 ?_
  exact hret _ _ _ dX0_keep_221 rfl
set_option maxHeartbeats 4000000 in
theorem lb_keep1 : la_CV ω yX0_keep cX0_keep 2 none (la_rm 1) [.ref (ad 0), .int (nI 1)] (lb_W ω.2.2 ad ((P, R, T, S, L, B, Nw, U, C, Kd), (fr, to, ln, aw), (su, ca, we, fa, sb, tb), (wk, nw, wo), (k0, k1, k2, k3, k4, k5), RE, BF, BK)) (lb_W ω.2.2 ad) (fun u : lb_S => u = ((P, R, T, S, L, B, Nw, U, C, Kd), (fr, to, ln, aw), (va_cpy k5 su 0 0 3, va_cpy k0 ca 0 0 12, va_cpy k1 we 0 0 12, va_cpy k2 fa 0 0 12, va_cpy k3 sb 0 0 12, va_cpy k4 tb 0 0 12), (wk, nw, wo), (k0, k1, k2, k3, k4, k5), RE, BF, BK)) := by
  refine la_CV_of (by decide) [some (.ref (ad 0)), some (.int (nI (1)))] rfl rfl (Nat.le_of_ble_eq_true rfl) ?_
  intro κ K hret
  refine la_iload_n K dX0_keep_0 rfl ?_
  refine la_if_eqN K 11 dX0_keep_1 rfl (by decide) (fun h1 => absurd h1 (by decide)) (fun h1 => ?_)
  refine la_aload_n K dX0_keep_4 rfl ?_
  refine lb_g_k0 K q164 dX0_keep_5 ?_
  refine la_goto K 15 dX0_keep_8 rfl ?_
  refine la_iconst K dX0_keep_15 la_ki_0 ?_
  refine la_iload_n K dX0_keep_16 rfl ?_
  refine la_if_eqN K 27 dX0_keep_17 rfl (by decide) (fun h17 => absurd h17 (by decide)) (fun h17 => ?_)
  refine la_aload_n K dX0_keep_20 rfl ?_
  refine lb_g_ca K q153 dX0_keep_21 ?_
  refine la_goto K 31 dX0_keep_24 rfl ?_
  refine la_iconst K dX0_keep_31 la_ki_0 ?_
  refine la_bipush K dX0_keep_32 la_kb_12 ?_
  refine lb_cp_k0_ca K q387 (by decide) rfl (by decide) (Nat.le_of_ble_eq_true rfl) dX0_keep_34 ?_
  refine la_iload_n K dX0_keep_37 rfl ?_
  refine la_if_eqN K 48 dX0_keep_38 rfl (by decide) (fun h38 => absurd h38 (by decide)) (fun h38 => ?_)
  refine la_aload_n K dX0_keep_41 rfl ?_
  refine lb_g_k1 K q165 dX0_keep_42 ?_
  refine la_goto K 52 dX0_keep_45 rfl ?_
  refine la_iconst K dX0_keep_52 la_ki_0 ?_
  refine la_iload_n K dX0_keep_53 rfl ?_
  refine la_if_eqN K 64 dX0_keep_54 rfl (by decide) (fun h54 => absurd h54 (by decide)) (fun h54 => ?_)
  refine la_aload_n K dX0_keep_57 rfl ?_
  refine lb_g_we K q155 dX0_keep_58 ?_
  refine la_goto K 68 dX0_keep_61 rfl ?_
  refine la_iconst K dX0_keep_68 la_ki_0 ?_
  refine la_bipush K dX0_keep_69 la_kb_12 ?_
  refine lb_cp_k1_we K q387 (by decide) rfl (by decide) (Nat.le_of_ble_eq_true rfl) dX0_keep_71 ?_
  refine la_iload_n K dX0_keep_74 rfl ?_
  refine la_if_eqN K 85 dX0_keep_75 rfl (by decide) (fun h75 => absurd h75 (by decide)) (fun h75 => ?_)
  refine la_aload_n K dX0_keep_78 rfl ?_
  refine lb_g_k2 K q166 dX0_keep_79 ?_
  refine la_goto K 89 dX0_keep_82 rfl ?_
  refine la_iconst K dX0_keep_89 la_ki_0 ?_
  refine la_iload_n K dX0_keep_90 rfl ?_
  refine la_if_eqN K 101 dX0_keep_91 rfl (by decide) (fun h91 => absurd h91 (by decide)) (fun h91 => ?_)
  refine la_aload_n K dX0_keep_94 rfl ?_
  refine lb_g_fa K q156 dX0_keep_95 ?_
  refine la_goto K 105 dX0_keep_98 rfl ?_
  refine la_iconst K dX0_keep_105 la_ki_0 ?_
  refine la_bipush K dX0_keep_106 la_kb_12 ?_
  refine lb_cp_k2_fa K q387 (by decide) rfl (by decide) (Nat.le_of_ble_eq_true rfl) dX0_keep_108 ?_
  refine la_iload_n K dX0_keep_111 rfl ?_
  refine la_if_eqN K 122 dX0_keep_112 rfl (by decide) (fun h112 => absurd h112 (by decide)) (fun h112 => ?_)
  refine la_aload_n K dX0_keep_115 rfl ?_
  refine lb_g_k3 K q167 dX0_keep_116 ?_
  refine la_goto K 126 dX0_keep_119 rfl ?_
  refine la_iconst K dX0_keep_126 la_ki_0 ?_
  refine la_iload_n K dX0_keep_127 rfl ?_
  refine la_if_eqN K 138 dX0_keep_128 rfl (by decide) (fun h128 => absurd h128 (by decide)) (fun h128 => ?_)
  refine la_aload_n K dX0_keep_131 rfl ?_
  refine lb_g_sb K q157 dX0_keep_132 ?_
  refine la_goto K 142 dX0_keep_135 rfl ?_
  refine la_iconst K dX0_keep_142 la_ki_0 ?_
  refine la_bipush K dX0_keep_143 la_kb_12 ?_
  refine lb_cp_k3_sb K q387 (by decide) rfl (by decide) (Nat.le_of_ble_eq_true rfl) dX0_keep_145 ?_
  refine la_iload_n K dX0_keep_148 rfl ?_
  refine la_if_eqN K 159 dX0_keep_149 rfl (by decide) (fun h149 => absurd h149 (by decide)) (fun h149 => ?_)
  refine la_aload_n K dX0_keep_152 rfl ?_
  refine lb_g_k4 K q168 dX0_keep_153 ?_
  refine la_goto K 163 dX0_keep_156 rfl ?_
  refine la_iconst K dX0_keep_163 la_ki_0 ?_
  refine la_iload_n K dX0_keep_164 rfl ?_
  refine la_if_eqN K 175 dX0_keep_165 rfl (by decide) (fun h165 => absurd h165 (by decide)) (fun h165 => ?_)
  refine la_aload_n K dX0_keep_168 rfl ?_
  refine lb_g_tb K q158 dX0_keep_169 ?_
  refine la_goto K 179 dX0_keep_172 rfl ?_
  refine la_iconst K dX0_keep_179 la_ki_0 ?_
  refine la_bipush K dX0_keep_180 la_kb_12 ?_
  refine lb_cp_k4_tb K q387 (by decide) rfl (by decide) (Nat.le_of_ble_eq_true rfl) dX0_keep_182 ?_
  refine la_iload_n K dX0_keep_185 rfl ?_
  refine la_if_eqN K 196 dX0_keep_186 rfl (by decide) (fun h186 => absurd h186 (by decide)) (fun h186 => ?_)
  refine la_aload_n K dX0_keep_189 rfl ?_
  refine lb_g_k5 K q169 dX0_keep_190 ?_
  refine la_goto K 200 dX0_keep_193 rfl ?_
  refine la_iconst K dX0_keep_200 la_ki_0 ?_
  refine la_iload_n K dX0_keep_201 rfl ?_
  refine la_if_eqN K 212 dX0_keep_202 rfl (by decide) (fun h202 => absurd h202 (by decide)) (fun h202 => ?_)
  refine la_aload_n K dX0_keep_205 rfl ?_
  refine lb_g_su K q147 dX0_keep_206 ?_
  refine la_goto K 216 dX0_keep_209 rfl ?_
  refine la_iconst K dX0_keep_216 la_ki_0 ?_
  refine la_iconst K dX0_keep_217 la_ki_3 ?_
  refine lb_cp_k5_su K q387 (by decide) rfl (by decide) (Nat.le_of_ble_eq_true rfl) dX0_keep_218 ?_
  exact hret _ _ _ dX0_keep_221 rfl
theorem lb_says (x : Int32) : la_CI ω yX0_says cX0_says 2 (some .int) (la_rm 0) [.ref (ad 0), .int x] (lb_W ω.2.2 ad ((P, R, T, S, L, B, Nw, U, C, Kd), (fr, to, ln, aw), (su, ca, we, fa, sb, tb), (wk, nw, wo), (k0, k1, k2, k3, k4, k5), RE, BF, BK)) (lb_W ω.2.2 ad) (fun (r : Int32) (u : lb_S) => r = x ∧ u = ((P, R, T, 0, L, B, Nw, U, C, Kd), (fr, to, ln, aw), (su, ca, we, fa, sb, tb), (wk, nw, wo), (k0, k1, k2, k3, k4, k5), RE, BF, BK)) := by
  refine la_CI_of (by decide) [some (.ref (ad 0)), some (.int (x))] rfl rfl (Nat.le_of_ble_eq_true rfl) ?_
  intro κ K hret
  refine la_aload_n K dX0_says_0 rfl ?_
  refine la_iconst K dX0_says_1 la_ki_0 ?_
  refine lb_p_S K q135 dX0_says_2 ?_
  refine la_iload_n K dX0_says_5 rfl ?_
  exact hret _ _ _ _ dX0_says_6 ⟨rfl, rfl⟩
theorem lb_refused (x : Int32) : la_CI ω yX0_refused cX0_refused 2 (some .int) (la_rm 0) [.ref (ad 0), .int x] (lb_W ω.2.2 ad ((P, R, T, S, L, B, Nw, U, C, Kd), (fr, to, ln, aw), (su, ca, we, fa, sb, tb), (wk, nw, wo), (k0, k1, k2, k3, k4, k5), RE, BF, BK)) (lb_W ω.2.2 ad) (fun (r : Int32) (u : lb_S) => r = x ∧ u = ((P, R, T, x, L, B, Nw, U, C, Kd), (fr, to, ln, aw), (su, ca, we, fa, sb, tb), (wk, nw, wo), (k0, k1, k2, k3, k4, k5), RE, BF, BK)) := by
  refine la_CI_of (by decide) [some (.ref (ad 0)), some (.int (x))] rfl rfl (Nat.le_of_ble_eq_true rfl) ?_
  intro κ K hret
  refine la_aload_n K dX0_refused_0 rfl ?_
  refine la_iload_n K dX0_refused_1 rfl ?_
  refine lb_p_S K q135 dX0_refused_2 ?_
  refine la_iload_n K dX0_refused_5 rfl ?_
  exact hret _ _ _ _ dX0_refused_6 ⟨rfl, rfl⟩
theorem lb_trace : la_CL ω yX0_trace cX0_trace 1 (some .long) (la_rm 0) [.ref (ad 0)] (lb_W ω.2.2 ad ((P, R, T, S, L, B, Nw, U, C, Kd), (fr, to, ln, aw), (su, ca, we, fa, sb, tb), (wk, nw, wo), (k0, k1, k2, k3, k4, k5), RE, BF, BK)) (lb_W ω.2.2 ad) (fun (r : Int64) (u : lb_S) => r = T ∧ u = ((P, R, T, S, L, B, Nw, U, C, Kd), (fr, to, ln, aw), (su, ca, we, fa, sb, tb), (wk, nw, wo), (k0, k1, k2, k3, k4, k5), RE, BF, BK)) := by
  refine la_CL_of (by decide) [some (.ref (ad 0))] rfl rfl (Nat.le_of_ble_eq_true rfl) ?_
  intro κ K hret
  refine la_aload_n K dX0_trace_0 rfl ?_
  refine lb_g_T K q134 dX0_trace_1 ?_
  exact hret _ _ _ _ dX0_trace_4 ⟨rfl, rfl⟩
theorem lb_status : la_CI ω yX0_status cX0_status 1 (some .int) (la_rm 0) [.ref (ad 0)] (lb_W ω.2.2 ad ((P, R, T, S, L, B, Nw, U, C, Kd), (fr, to, ln, aw), (su, ca, we, fa, sb, tb), (wk, nw, wo), (k0, k1, k2, k3, k4, k5), RE, BF, BK)) (lb_W ω.2.2 ad) (fun (r : Int32) (u : lb_S) => r = S ∧ u = ((P, R, T, S, L, B, Nw, U, C, Kd), (fr, to, ln, aw), (su, ca, we, fa, sb, tb), (wk, nw, wo), (k0, k1, k2, k3, k4, k5), RE, BF, BK)) := by
  refine la_CI_of (by decide) [some (.ref (ad 0))] rfl rfl (Nat.le_of_ble_eq_true rfl) ?_
  intro κ K hret
  refine la_aload_n K dX0_status_0 rfl ?_
  refine lb_g_S K q135 dX0_status_1 ?_
  exact hret _ _ _ _ dX0_status_4 ⟨rfl, rfl⟩
end LC5
