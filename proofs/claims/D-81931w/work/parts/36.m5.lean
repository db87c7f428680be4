/-! THE MODEL's METHODS, part 5: a day. Printed by m5.py. -/
section LM5
variable {ω : la_O} {ad : Nat → Nat} {th S lt : Int32} {T : Int64} {P R L B Kd C : Nat} {ra rb rl fa aa su cp cl cf ck cm le tr re bh so br wh wy : Nat → Nat} {ct rs : Nat → Int32} {ce : Nat → Int64}
set_option maxHeartbeats 4000000 in
theorem lm_comes {p : Nat} (hJ : lm_J ((th, S, T, P, R, L, B, Kd, lt, C), (ra, rb, rl, fa), (aa, su), (cp, cl, cf, ck, cm, ct), (le, tr, re), (bh, so, br, rs, ce), (wh, wy))) (hL1 : 1 ≤ L) (hC : C < 12) (hp : p < P) : la_CI ω yX5_comes cX5_comes 3 (some .int) (la_rm 4) [.ref (ad 0), .int (nI p)] (lm_W ω.2.2 ad ((th, S, T, P, R, L, B, Kd, lt, C), (ra, rb, rl, fa), (aa, su), (cp, cl, cf, ck, cm, ct), (le, tr, re), (bh, so, br, rs, ce), (wh, wy))) (lm_W ω.2.2 ad) (fun (r : Int32) (u : lm_S) => r = nI (lp_cho L fa B cp cl ck C Kd p) ∧ ∃ (lt' : Int32) (aa' su' cf' cm' : Nat → Nat) (ct' : Nat → Int32) (le' : Nat → Nat), u = ((th, S, (lp_trc Kd L (lp_hs L (lp_sn B cp cl C) p) T), P, R, L, B, Kd, lt', C + 1), (ra, rb, rl, fa), (aa', su'), (va_up cp C p, va_up cl C (lp_cho L fa B cp cl ck C Kd p), cf', va_up ck C Kd, cm', ct'), (le', tr, re), (bh, so, br, rs, ce), (wh, wy)) ∧ lm_J u) := by
  refine la_CI_of (by decide) [some (.ref (ad 0)), some (.int (nI (p))), none] rfl rfl (Nat.le_of_ble_eq_true rfl) ?_
  intro κ K hret
  have hJx : lm_Jx P R L B C Kd lt ra rb rl fa aa su cp cl cf ck cm ct le tr := hJ
  have hJ2 := hJx
  obtain ⟨hP, hR, hro, hL3, hC12, hKd, hLC, hle, htr, hDay⟩ := hJ2
  have hD := hDay hL1
  have hg : ∀ s, s < 512 → le (512 * C + s) = lp_rw L fa B cp C s := fun s hs => hD.2.2.2.2.2.2.2.2.2.2.2.2 C (Nat.le_refl C) s hs
  have hS := lm_aaP hJx hD
  have hw : ∀ k, k < L → aa k < P := fun k hk => by rw [hD.2.2.2.2.2.2.1 k hk]; exact hS.2 k hk
  have hfa := lm_fa36 hD
  have htm := lp_tm_le (L := L) (B := B) (cp := cp) (cl := cl) (ck := ck) hL3 hD.2.2.1 C (Nat.le_refl C)
  have hsu : ∀ k, k < L → su k ≤ 100000000 := fun k hk => by
    rw [hD.2.2.2.2.2.2.2.1 k hk]
    have := lp_sm_le hP hL3 hD.1 hD.2.1 hD.2.2.1 (lm_fa6 hJx hD) k C (Nat.le_refl C)
    omega
  have hst : ∀ s, s < 512 → le (512 * C + s) < 100000000 → lp_sd P L s := fun s hs h => lp_rw_stand hP hL3 hD.1 hD.2.1 C (Nat.le_refl C) s (by rw [← hg s hs]; exact h)
  refine la_aload_n K dX5_comes_0 rfl ?_
  refine la_aload_n K dX5_comes_1 rfl ?_
  refine lm_g_aa K q839 dX5_comes_2 ?_
  refine la_aload_n K dX5_comes_5 rfl ?_
  refine lm_g_su K q840 dX5_comes_6 ?_
  refine la_aload_n K dX5_comes_9 rfl ?_
  refine lm_g_lt K q841 dX5_comes_10 ?_
  refine la_aload_n K dX5_comes_13 rfl ?_
  refine lm_g_le K q849 dX5_comes_14 ?_
  refine la_sipush K dX5_comes_17 la_ks_512 ?_
  refine la_aload_n K dX5_comes_20 rfl ?_
  refine lm_g_C K q842 dX5_comes_21 ?_
  refine la_imulN K dX5_comes_24 ?_
  refine la_iload_n K dX5_comes_25 rfl ?_
  refine la_callVi0 K ok_X5_chosen q991 (lm_chosenAL (x := lp_sn B cp cl C) hP hL1 hL3 hp hfa hw hsu hKd hD.2.2.2.2.2.2.2.2.1 (by omega) (by omega) hle hst hS hD.2.2.2.2.2.2.1 (fun _ _ _ => lm_hah hJx hL1 hD hp hg)) 0 rfl rfl rfl rfl rfl (Nat.le_of_ble_eq_true rfl) ⟨Nat.le_of_ble_eq_true rfl, Nat.le_of_ble_eq_true rfl⟩ ⟨Nat.zero_le _, Nat.zero_le _⟩ dX5_comes_26 (fun r26 u26 p26 => ?_)
  obtain ⟨hr, f, T1, hT1, rfl, hk1, hf1⟩ := p26
  rw [lm_cho hD p hg] at hr
  rw [propext (lm_there hD p)] at hT1
  subst hT1
  obtain ⟨l, hl⟩ : ∃ l, l = lp_cho L fa B cp cl ck C Kd p := ⟨_, rfl⟩
  have hlL : l < L := by rw [hl]; exact lp_cho_lt hL1
  rw [← hl] at hr
  subst hr
  have hg2 : ∀ s, s < 512 → f (512 * C + s) = lp_rw L fa B cp C s := fun s hs => (hk1 _ (by omega)).trans (hg s hs)
  have hst2 : ∀ s, s < 512 → f (512 * C + s) < 100000000 → lp_sd P L s := fun s hs h => lp_rw_stand hP hL3 hD.1 hD.2.1 C (Nat.le_refl C) s (by rw [← hg2 s hs]; exact h)
  have hwl := hw l hlL
  refine la_istore2 K dX5_comes_29 rfl ?_
  refine la_aload_n K dX5_comes_30 rfl ?_
  refine lm_g_cp K q843 dX5_comes_31 ?_
  refine la_aload_n K dX5_comes_34 rfl ?_
  refine lm_g_C K q842 dX5_comes_35 ?_
  refine la_iload_n K dX5_comes_38 rfl ?_
  refine lm_st_cp K (by omega) dX5_comes_39 ?_
  refine la_aload_n K dX5_comes_40 rfl ?_
  refine lm_g_cl K q844 dX5_comes_41 ?_
  refine la_aload_n K dX5_comes_44 rfl ?_
  refine lm_g_C K q842 dX5_comes_45 ?_
  refine la_iload_n K dX5_comes_48 rfl ?_
  refine lm_st_cl K (by omega) dX5_comes_49 ?_
  refine la_aload_n K dX5_comes_50 rfl ?_
  refine lm_g_cf K q845 dX5_comes_51 ?_
  refine la_aload_n K dX5_comes_54 rfl ?_
  refine lm_g_C K q842 dX5_comes_55 ?_
  refine la_aload_n K dX5_comes_58 rfl ?_
  refine lm_g_fa K q835 dX5_comes_59 ?_
  refine la_bipush K dX5_comes_62 la_kb_6 ?_
  refine la_aload_n K dX5_comes_64 rfl ?_
  refine lm_g_aa K q839 dX5_comes_65 ?_
  refine la_iload_n K dX5_comes_68 rfl ?_
  refine lm_ld_aa K (by omega) dX5_comes_69 ?_
  refine la_imulN K dX5_comes_70 ?_
  refine la_iload_n K dX5_comes_71 rfl ?_
  refine la_iaddN K dX5_comes_72 ?_
  refine lm_ld_fa K (by omega) dX5_comes_73 ?_
  refine lm_st_cf K (by omega) dX5_comes_74 ?_
  refine la_aload_n K dX5_comes_75 rfl ?_
  refine lm_g_ck K q846 dX5_comes_76 ?_
  refine la_aload_n K dX5_comes_79 rfl ?_
  refine lm_g_C K q842 dX5_comes_80 ?_
  refine la_aload_n K dX5_comes_83 rfl ?_
  refine lm_g_Kd K q838 dX5_comes_84 ?_
  refine lm_st_ck K (by omega) dX5_comes_87 ?_
  refine la_aload_n K dX5_comes_88 rfl ?_
  refine lm_g_cm K q847 dX5_comes_89 ?_
  refine la_aload_n K dX5_comes_92 rfl ?_
  refine lm_g_C K q842 dX5_comes_93 ?_
  refine la_aload_n K dX5_comes_96 rfl ?_
  refine lm_g_aa K q839 dX5_comes_97 ?_
  refine la_iload_n K dX5_comes_100 rfl ?_
  refine lm_ld_aa K (by omega) dX5_comes_101 ?_
  refine lm_st_cm K (by omega) dX5_comes_102 ?_
  refine la_aload_n K dX5_comes_103 rfl ?_
  refine lm_g_ct K q848 dX5_comes_104 ?_
  refine la_aload_n K dX5_comes_107 rfl ?_
  refine lm_g_C K q842 dX5_comes_108 ?_
  refine la_aload_n K dX5_comes_111 rfl ?_
  refine lm_g_lt K q841 dX5_comes_112 ?_
  refine lm_st_ct K (by omega) dX5_comes_115 ?_
  refine la_aload_n K dX5_comes_116 rfl ?_
  refine la_aload_n K dX5_comes_117 rfl ?_
  refine lm_g_Kd K q838 dX5_comes_118 ?_
  refine la_iconst K dX5_comes_121 la_ki_2 ?_
  refine la_icmp_neN K 141 dX5_comes_122 rfl (by omega) (by omega) (fun h122 => ?_) (fun h122 => ?_)
  · refine la_aload_n K dX5_comes_141 rfl ?_
    refine lm_g_lt K q841 dX5_comes_142 ?_
    refine lm_p_lt K q841 dX5_comes_145 ?_
    refine la_aload_n K dX5_comes_148 rfl ?_
    refine la_aload_n K dX5_comes_149 rfl ?_
    refine lm_g_le K q849 dX5_comes_150 ?_
    refine la_sipush K dX5_comes_153 la_ks_512 ?_
    refine la_aload_n K dX5_comes_156 rfl ?_
    refine lm_g_C K q842 dX5_comes_157 ?_
    refine la_imulN K dX5_comes_160 ?_
    refine la_iload_n K dX5_comes_161 rfl ?_
    refine la_callVv0 K ok_X5_serves q1009 (lm_servesL hP hL3 hp hfa (by omega) hf1 hst2) 0 rfl rfl rfl rfl rfl (Nat.le_of_ble_eq_true rfl) ⟨Nat.le_of_ble_eq_true rfl, Nat.le_of_ble_eq_true rfl⟩ ⟨Nat.zero_le _, Nat.zero_le _⟩ dX5_comes_162 (fun u162 p162 => ?_)
    obtain ⟨f2, rfl, hk2, hf2, hmn⟩ := p162
    refine la_aload_n K dX5_comes_165 rfl ?_
    refine lm_g_su K q840 dX5_comes_166 ?_
    refine la_iload_n K dX5_comes_169 rfl ?_
    refine la_dup2 K dX5_comes_170 rfl rfl ?_
    refine lm_ld_su K (by omega) dX5_comes_171 ?_
    refine la_aload_n K dX5_comes_172 rfl ?_
    refine lm_g_cf K q845 dX5_comes_173 ?_
    refine la_aload_n K dX5_comes_176 rfl ?_
    refine lm_g_C K q842 dX5_comes_177 ?_
    refine lm_ld_cf K (by omega) dX5_comes_180 ?_
    rw [va_up_self]
    refine la_iaddN K dX5_comes_181 ?_
    refine lm_st_su K (by omega) dX5_comes_182 ?_
    refine la_aload_n K dX5_comes_183 rfl ?_
    refine lm_g_aa K q839 dX5_comes_184 ?_
    refine la_iload_n K dX5_comes_187 rfl ?_
    refine la_iload_n K dX5_comes_188 rfl ?_
    refine lm_st_aa K (by omega) dX5_comes_189 ?_
    refine la_aload_n K dX5_comes_190 rfl ?_
    refine la_dup K dX5_comes_191 rfl ?_
    refine lm_g_C K q842 dX5_comes_192 ?_
    refine la_iconst K dX5_comes_195 la_ki_1 ?_
    refine la_iaddN K dX5_comes_196 ?_
    refine lm_p_C K q842 dX5_comes_197 ?_
    refine la_iload_n K dX5_comes_200 rfl ?_
    exact hret _ _ _ _ dX5_comes_201 ⟨by rw [hl], _, _, _, _, _, _, _, by rw [hl], lm_step hJx hL1 hC hp hlL (fun z => absurd z.1 h122) (fun z => rfl) (fun i hi => (hk2 i (by omega)).trans (hk1 i (by omega))) hf2 hg2 hmn⟩
  · refine la_aload_n K dX5_comes_125 rfl ?_
    refine la_aload_n K dX5_comes_126 rfl ?_
    refine lm_g_aa K q839 dX5_comes_127 ?_
    refine la_iload_n K dX5_comes_130 rfl ?_
    refine la_callVp K ok_X5_isThere q995 (lm_isThereA hP hL3 hp hw) 0 rfl rfl rfl rfl rfl (Nat.le_of_ble_eq_true rfl) ⟨Nat.le_of_ble_eq_true rfl, Nat.le_of_ble_eq_true rfl⟩ ⟨Nat.zero_le _, Nat.zero_le _⟩ dX5_comes_131 ?_
    refine la_if_neB K 141 dX5_comes_134 rfl (fun h134 => ?_) (fun h134 => ?_)
    · refine la_aload_n K dX5_comes_141 rfl ?_
      refine lm_g_lt K q841 dX5_comes_142 ?_
      refine lm_p_lt K q841 dX5_comes_145 ?_
      refine la_aload_n K dX5_comes_148 rfl ?_
      refine la_aload_n K dX5_comes_149 rfl ?_
      refine lm_g_le K q849 dX5_comes_150 ?_
      refine la_sipush K dX5_comes_153 la_ks_512 ?_
      refine la_aload_n K dX5_comes_156 rfl ?_
      refine lm_g_C K q842 dX5_comes_157 ?_
      refine la_imulN K dX5_comes_160 ?_
      refine la_iload_n K dX5_comes_161 rfl ?_
      refine la_callVv0 K ok_X5_serves q1009 (lm_servesL hP hL3 hp hfa (by omega) hf1 hst2) 0 rfl rfl rfl rfl rfl (Nat.le_of_ble_eq_true rfl) ⟨Nat.le_of_ble_eq_true rfl, Nat.le_of_ble_eq_true rfl⟩ ⟨Nat.zero_le _, Nat.zero_le _⟩ dX5_comes_162 (fun u162 p162 => ?_)
      obtain ⟨f2, rfl, hk2, hf2, hmn⟩ := p162
      refine la_aload_n K dX5_comes_165 rfl ?_
      refine lm_g_su K q840 dX5_comes_166 ?_
      refine la_iload_n K dX5_comes_169 rfl ?_
      refine la_dup2 K dX5_comes_170 rfl rfl ?_
      refine lm_ld_su K (by omega) dX5_comes_171 ?_
      refine la_aload_n K dX5_comes_172 rfl ?_
      refine lm_g_cf K q845 dX5_comes_173 ?_
      refine la_aload_n K dX5_comes_176 rfl ?_
      refine lm_g_C K q842 dX5_comes_177 ?_
      refine lm_ld_cf K (by omega) dX5_comes_180 ?_
      rw [va_up_self]
      refine la_iaddN K dX5_comes_181 ?_
      refine lm_st_su K (by omega) dX5_comes_182 ?_
      refine la_aload_n K dX5_comes_183 rfl ?_
      refine lm_g_aa K q839 dX5_comes_184 ?_
      refine la_iload_n K dX5_comes_187 rfl ?_
      refine la_iload_n K dX5_comes_188 rfl ?_
      refine lm_st_aa K (by omega) dX5_comes_189 ?_
      refine la_aload_n K dX5_comes_190 rfl ?_
      refine la_dup K dX5_comes_191 rfl ?_
      refine lm_g_C K q842 dX5_comes_192 ?_
      refine la_iconst K dX5_comes_195 la_ki_1 ?_
      refine la_iaddN K dX5_comes_196 ?_
      refine lm_p_C K q842 dX5_comes_197 ?_
      refine la_iload_n K dX5_comes_200 rfl ?_
      exact hret _ _ _ _ dX5_comes_201 ⟨by rw [hl], _, _, _, _, _, _, _, by rw [hl], lm_step hJx hL1 hC hp hlL (fun z => absurd h134 z.2) (fun z => rfl) (fun i hi => (hk2 i (by omega)).trans (hk1 i (by omega))) hf2 hg2 hmn⟩
    · refine la_iload_n K dX5_comes_137 rfl ?_
      refine la_goto K 145 dX5_comes_138 rfl ?_
      refine lm_p_lt K q841 dX5_comes_145 ?_
      refine la_aload_n K dX5_comes_148 rfl ?_
      refine la_aload_n K dX5_comes_149 rfl ?_
      refine lm_g_le K q849 dX5_comes_150 ?_
      refine la_sipush K dX5_comes_153 la_ks_512 ?_
      refine la_aload_n K dX5_comes_156 rfl ?_
      refine lm_g_C K q842 dX5_comes_157 ?_
      refine la_imulN K dX5_comes_160 ?_
      refine la_iload_n K dX5_comes_161 rfl ?_
      refine la_callVv0 K ok_X5_serves q1009 (lm_servesL hP hL3 hp hfa (by omega) hf1 hst2) 0 rfl rfl rfl rfl rfl (Nat.le_of_ble_eq_true rfl) ⟨Nat.le_of_ble_eq_true rfl, Nat.le_of_ble_eq_true rfl⟩ ⟨Nat.zero_le _, Nat.zero_le _⟩ dX5_comes_162 (fun u162 p162 => ?_)
      obtain ⟨f2, rfl, hk2, hf2, hmn⟩ := p162
      refine la_aload_n K dX5_comes_165 rfl ?_
      refine lm_g_su K q840 dX5_comes_166 ?_
      refine la_iload_n K dX5_comes_169 rfl ?_
      refine la_dup2 K dX5_comes_170 rfl rfl ?_
      refine lm_ld_su K (by omega) dX5_comes_171 ?_
      refine la_aload_n K dX5_comes_172 rfl ?_
      refine lm_g_cf K q845 dX5_comes_173 ?_
      refine la_aload_n K dX5_comes_176 rfl ?_
      refine lm_g_C K q842 dX5_comes_177 ?_
      refine lm_ld_cf K (by omega) dX5_comes_180 ?_
      rw [va_up_self]
      refine la_iaddN K dX5_comes_181 ?_
      refine lm_st_su K (by omega) dX5_comes_182 ?_
      refine la_aload_n K dX5_comes_183 rfl ?_
      refine lm_g_aa K q839 dX5_comes_184 ?_
      refine la_iload_n K dX5_comes_187 rfl ?_
      refine la_iload_n K dX5_comes_188 rfl ?_
      refine lm_st_aa K (by omega) dX5_comes_189 ?_
      refine la_aload_n K dX5_comes_190 rfl ?_
      refine la_dup K dX5_comes_191 rfl ?_
      refine lm_g_C K q842 dX5_comes_192 ?_
      refine la_iconst K dX5_comes_195 la_ki_1 ?_
      refine la_iaddN K dX5_comes_196 ?_
      refine lm_p_C K q842 dX5_comes_197 ?_
      refine la_iload_n K dX5_comes_200 rfl ?_
      exact hret _ _ _ _ dX5_comes_201 ⟨by rw [hl], _, _, _, _, _, _, _, by rw [hl], lm_step hJx hL1 hC hp hlL (fun z => rfl) (fun z => absurd ⟨h122, h134⟩ z) (fun i hi => (hk2 i (by omega)).trans (hk1 i (by omega))) hf2 hg2 hmn⟩
theorem lm_end (hL : L ≤ 3) : la_CI ω yX5_end cX5_end 2 (some .int) (la_rm 0) [.ref (ad 0)] (lm_W ω.2.2 ad ((th, S, T, P, R, L, B, Kd, lt, C), (ra, rb, rl, fa), (aa, su), (cp, cl, cf, ck, cm, ct), (le, tr, re), (bh, so, br, rs, ce), (wh, wy))) (lm_W ω.2.2 ad) (fun (r : Int32) (u : lm_S) => (L = 0 ∧ r = -2 ∧ u = ((nI 0, S, T, P, R, L, B, Kd, lt, C), (ra, rb, rl, fa), (aa, su), (cp, cl, cf, ck, cm, ct), (le, tr, re), (bh, so, br, rs, ce), (wh, wy))) ∨ (1 ≤ L ∧ r = nI C ∧ u = ((nI 0, S, T, P, R, 0, B, Kd, lt, 0), (ra, rb, rl, fa), (aa, su), (cp, cl, cf, ck, cm, ct), (le, tr, re), (bh, so, br, rs, ce), (wh, wy)))) := by
  refine la_CI_of (by decide) [some (.ref (ad 0)), none] rfl rfl (Nat.le_of_ble_eq_true rfl) ?_
  intro κ K hret
  refine la_aload_n K dX5_end_0 rfl ?_
  refine la_iconst K dX5_end_1 la_ki_0 ?_
  refine lm_p_th K q827 dX5_end_2 ?_
  refine la_aload_n K dX5_end_5 rfl ?_
  refine lm_g_L K q836 dX5_end_6 ?_
  refine la_if_neN K 15 dX5_end_9 rfl (by omega) (fun h9 => ?_) (fun h9 => ?_)
  · refine la_aload_n K dX5_end_15 rfl ?_
    refine lm_g_C K q842 dX5_end_16 ?_
    refine la_istore1 K dX5_end_19 rfl ?_
    refine la_aload_n K dX5_end_20 rfl ?_
    refine la_iconst K dX5_end_21 la_ki_0 ?_
    refine lm_p_L K q836 dX5_end_22 ?_
    refine la_aload_n K dX5_end_25 rfl ?_
    refine la_iconst K dX5_end_26 la_ki_0 ?_
    refine lm_p_C K q842 dX5_end_27 ?_
    refine la_iload_n K dX5_end_30 rfl ?_
    exact hret _ _ _ _ dX5_end_31 (Or.inr ⟨by omega, rfl, rfl⟩)
  · refine la_bipush K dX5_end_12 la_kb_m2 ?_
    exact hret _ _ _ _ dX5_end_14 (Or.inl ⟨h9, rfl, rfl⟩)
theorem lm_rule (x : Int32) : la_CI ω yX5_rule cX5_rule 3 (some .int) (la_rm 1) [.ref (ad 0), .int x] (lm_W ω.2.2 ad ((th, S, T, P, R, L, B, Kd, lt, C), (ra, rb, rl, fa), (aa, su), (cp, cl, cf, ck, cm, ct), (le, tr, re), (bh, so, br, rs, ce), (wh, wy))) (lm_W ω.2.2 ad) (fun (r : Int32) (u : lm_S) => (¬ lp_inI x 0 3 ∧ r = -1 ∧ u = ((nI 0, S, T, P, R, L, B, Kd, lt, C), (ra, rb, rl, fa), (aa, su), (cp, cl, cf, ck, cm, ct), (le, tr, re), (bh, so, br, rs, ce), (wh, wy))) ∨ (∃ k, x = nI k ∧ k ≤ 3 ∧ r = nI Kd ∧ u = ((nI 0, S, T, P, R, L, B, k, lt, C), (ra, rb, rl, fa), (aa, su), (cp, cl, cf, ck, cm, ct), (le, tr, re), (bh, so, br, rs, ce), (wh, wy)))) := by
  refine la_CI_of (by decide) [some (.ref (ad 0)), some (.int (x)), none] rfl rfl (Nat.le_of_ble_eq_true rfl) ?_
  intro κ K hret
  refine la_aload_n K dX5_rule_0 rfl ?_
  refine la_iconst K dX5_rule_1 la_ki_0 ?_
  refine lm_p_th K q827 dX5_rule_2 ?_
  refine la_iload_n K dX5_rule_5 rfl ?_
  refine la_i2l K dX5_rule_6 rfl ?_
  refine la_lconst K dX5_rule_7 la_kn_0 ?_
  refine la_ldc2 K q962 la_kL_3 dX5_rule_8 ?_
  refine la_callSp K ok_X5_in q937 (lm_in _ _ _ _) rfl rfl rfl (Nat.le_of_ble_eq_true rfl) ⟨Nat.le_of_ble_eq_true rfl, Nat.le_of_ble_eq_true rfl⟩ ⟨Nat.zero_le _, Nat.zero_le _⟩ dX5_rule_11 ?_
  refine la_if_neC K 19 dX5_rule_14 rfl (fun h14 => ?_) (fun h14 => ?_)
  · obtain ⟨k, -, hk, rfl⟩ := lp_inI_N ((lp_ints x (by decide) (by decide)).mp h14) (by decide)
    refine la_aload_n K dX5_rule_19 rfl ?_
    refine lm_g_Kd K q838 dX5_rule_20 ?_
    refine la_istore2 K dX5_rule_23 rfl ?_
    refine la_aload_n K dX5_rule_24 rfl ?_
    refine la_iload_n K dX5_rule_25 rfl ?_
    refine lm_p_Kd K q838 dX5_rule_26 ?_
    refine la_iload_n K dX5_rule_29 rfl ?_
    exact hret _ _ _ _ dX5_rule_30 (Or.inr ⟨k, rfl, hk, rfl, rfl⟩)
  · refine la_iconst K dX5_rule_17 la_ki_m1 ?_
    exact hret _ _ _ _ dX5_rule_18 (Or.inl ⟨fun z => h14 ((lp_ints x (by decide) (by decide)).mpr z), rfl, rfl⟩)
set_option maxHeartbeats 4000000 in
theorem lm_call (x : Int32) (hJ : lm_J ((th, S, T, P, R, L, B, Kd, lt, C), (ra, rb, rl, fa), (aa, su), (cp, cl, cf, ck, cm, ct), (le, tr, re), (bh, so, br, rs, ce), (wh, wy))) : la_CI ω yX5_call cX5_call 2 (some .int) (la_rm 5) [.ref (ad 0), .int x] (lm_W ω.2.2 ad ((th, S, T, P, R, L, B, Kd, lt, C), (ra, rb, rl, fa), (aa, su), (cp, cl, cf, ck, cm, ct), (le, tr, re), (bh, so, br, rs, ce), (wh, wy))) (lm_W ω.2.2 ad) (fun (r : Int32) (u : lm_S) => (¬ lp_in x P ∧ r = -1 ∧ u = ((nI 0, S, T, P, R, L, B, Kd, lt, C), (ra, rb, rl, fa), (aa, su), (cp, cl, cf, ck, cm, ct), (le, tr, re), (bh, so, br, rs, ce), (wh, wy))) ∨ (lp_in x P ∧ L = 0 ∧ r = -2 ∧ u = ((nI 0, S, T, P, R, L, B, Kd, lt, C), (ra, rb, rl, fa), (aa, su), (cp, cl, cf, ck, cm, ct), (le, tr, re), (bh, so, br, rs, ce), (wh, wy))) ∨ (lp_in x P ∧ 1 ≤ L ∧ C = 12 ∧ r = -3 ∧ u = ((nI 0, S, T, P, R, L, B, Kd, lt, C), (ra, rb, rl, fa), (aa, su), (cp, cl, cf, ck, cm, ct), (le, tr, re), (bh, so, br, rs, ce), (wh, wy))) ∨ (∃ p, x = nI p ∧ p < P ∧ 1 ≤ L ∧ C < 12 ∧ r = nI (lp_cho L fa B cp cl ck C Kd p) ∧ ∃ (lt' : Int32) (aa' su' cf' cm' : Nat → Nat) (ct' : Nat → Int32) (le' : Nat → Nat), u = ((nI 0, S, (lp_trc Kd L (lp_hs L (lp_sn B cp cl C) p) T), P, R, L, B, Kd, lt', C + 1), (ra, rb, rl, fa), (aa', su'), (va_up cp C p, va_up cl C (lp_cho L fa B cp cl ck C Kd p), cf', va_up ck C Kd, cm', ct'), (le', tr, re), (bh, so, br, rs, ce), (wh, wy)) ∧ lm_J u)) := by
  refine la_CI_of (by decide) [some (.ref (ad 0)), some (.int (x))] rfl rfl (Nat.le_of_ble_eq_true rfl) ?_
  intro κ K hret
  have hJx : lm_Jx P R L B C Kd lt ra rb rl fa aa su cp cl cf ck cm ct le tr := hJ
  have hJ2 := hJx
  obtain ⟨hP, hR, hro, hL3, hC12, hKd, hLC, hle, htr, hDay⟩ := hJ2
  refine la_aload_n K dX5_call_0 rfl ?_
  refine la_iconst K dX5_call_1 la_ki_0 ?_
  refine lm_p_th K q827 dX5_call_2 ?_
  refine la_aload_n K dX5_call_5 rfl ?_
  refine la_iload_n K dX5_call_6 rfl ?_
  refine la_callVp K ok_X5_isPlace q945 (lm_isPlace _ hP) 0 rfl rfl rfl rfl rfl (Nat.le_of_ble_eq_true rfl) ⟨Nat.le_of_ble_eq_true rfl, Nat.le_of_ble_eq_true rfl⟩ ⟨Nat.zero_le _, Nat.zero_le _⟩ dX5_call_7 ?_
  refine la_if_neC K 15 dX5_call_10 rfl (fun h10 => ?_) (fun h10 => ?_)
  · refine la_aload_n K dX5_call_15 rfl ?_
    refine lm_g_L K q836 dX5_call_16 ?_
    refine la_if_neN K 27 dX5_call_19 rfl (by omega) (fun h19 => ?_) (fun h19 => ?_)
    · refine la_aload_n K dX5_call_27 rfl ?_
      refine lm_g_C K q842 dX5_call_28 ?_
      refine la_bipush K dX5_call_31 la_kb_12 ?_
      refine la_icmp_neN K 41 dX5_call_33 rfl (by omega) (by omega) (fun h33 => ?_) (fun h33 => ?_)
      · obtain ⟨p, hp, rfl⟩ := lp_in_N h10 (by omega)
        refine la_aload_n K dX5_call_41 rfl ?_
        refine la_iload_n K dX5_call_42 rfl ?_
        refine la_callVi0 K ok_X5_comes q987 (lm_comes hJ (by omega) (by omega) hp) 0 rfl rfl rfl rfl rfl (Nat.le_of_ble_eq_true rfl) ⟨Nat.le_of_ble_eq_true rfl, Nat.le_of_ble_eq_true rfl⟩ ⟨Nat.zero_le _, Nat.zero_le _⟩ dX5_call_43 (fun r43 u43 p43 => ?_)
        exact hret _ _ _ _ dX5_call_46 (Or.inr (Or.inr (Or.inr ⟨p, rfl, hp, by omega, by omega, p43⟩)))
      · refine la_bipush K dX5_call_36 la_kb_m3 ?_
        refine la_goto K 46 dX5_call_38 rfl ?_
        exact hret _ _ _ _ dX5_call_46 (Or.inr (Or.inr (Or.inl ⟨h10, by omega, h33, rfl, rfl⟩)))
    · refine la_bipush K dX5_call_22 la_kb_m2 ?_
      refine la_goto K 46 dX5_call_24 rfl ?_
      exact hret _ _ _ _ dX5_call_46 (Or.inr (Or.inl ⟨h10, h19, rfl, rfl⟩))
  · refine la_iconst K dX5_call_13 la_ki_m1 ?_
    exact hret _ _ _ _ dX5_call_14 (Or.inl ⟨h10, rfl, rfl⟩)
set_option maxHeartbeats 4000000 in
theorem lm_back (hJ : lm_J ((th, S, T, P, R, L, B, Kd, lt, C), (ra, rb, rl, fa), (aa, su), (cp, cl, cf, ck, cm, ct), (le, tr, re), (bh, so, br, rs, ce), (wh, wy))) : la_CI ω yX5_back cX5_back 2 (some .int) (la_rm 0) [.ref (ad 0)] (lm_W ω.2.2 ad ((th, S, T, P, R, L, B, Kd, lt, C), (ra, rb, rl, fa), (aa, su), (cp, cl, cf, ck, cm, ct), (le, tr, re), (bh, so, br, rs, ce), (wh, wy))) (lm_W ω.2.2 ad) (fun (r : Int32) (u : lm_S) => ((L = 0 ∨ C = 0) ∧ r = -2 ∧ u = ((nI 0, S, T, P, R, L, B, Kd, lt, C), (ra, rb, rl, fa), (aa, su), (cp, cl, cf, ck, cm, ct), (le, tr, re), (bh, so, br, rs, ce), (wh, wy))) ∨ (1 ≤ L ∧ ∃ c, C = c + 1 ∧ r = nI c ∧ ∃ (lt' : Int32) (aa' su' : Nat → Nat), u = ((nI 0, S, T, P, R, L, B, Kd, lt', c), (ra, rb, rl, fa), (aa', su'), (cp, cl, cf, ck, cm, ct), (le, tr, re), (bh, so, br, rs, ce), (wh, wy)) ∧ lm_J u)) := by
  refine la_CI_of (by decide) [some (.ref (ad 0)), none] rfl rfl (Nat.le_of_ble_eq_true rfl) ?_
  intro κ K hret
  have hJx : lm_Jx P R L B C Kd lt ra rb rl fa aa su cp cl cf ck cm ct le tr := hJ
  have hJ2 := hJx
  obtain ⟨hP, hR, hro, hL3, hC12, hKd, hLC, hle, htr, hDay⟩ := hJ2
  refine la_aload_n K dX5_back_0 rfl ?_
  refine la_iconst K dX5_back_1 la_ki_0 ?_
  refine lm_p_th K q827 dX5_back_2 ?_
  refine la_aload_n K dX5_back_5 rfl ?_
  refine lm_g_L K q836 dX5_back_6 ?_
  refine la_if_eqN K 19 dX5_back_9 rfl (by omega) (fun h9 => ?_) (fun h9 => ?_)
  · refine la_bipush K dX5_back_19 la_kb_m2 ?_
    exact hret _ _ _ _ dX5_back_21 (Or.inl ⟨Or.inl h9, rfl, rfl⟩)
  · refine la_aload_n K dX5_back_12 rfl ?_
    refine lm_g_C K q842 dX5_back_13 ?_
    refine la_if_neN K 22 dX5_back_16 rfl (by omega) (fun h16 => ?_) (fun h16 => ?_)
    · obtain ⟨c, rfl⟩ : ∃ c, C = c + 1 := ⟨C - 1, by omega⟩
      obtain ⟨hu1, hu2, hu3⟩ := lm_unstep hJx (by omega)
      refine la_aload_n K dX5_back_22 rfl ?_
      refine la_dup K dX5_back_23 rfl ?_
      refine lm_g_C K q842 dX5_back_24 ?_
      refine la_iconst K dX5_back_27 la_ki_1 ?_
      refine la_isubN K dX5_back_28 (by omega) ?_
      rw [show c + 1 - 1 = c by omega]
      refine lm_p_C K q842 dX5_back_29 ?_
      refine la_aload_n K dX5_back_32 rfl ?_
      refine lm_g_cl K q844 dX5_back_33 ?_
      refine la_aload_n K dX5_back_36 rfl ?_
      refine lm_g_C K q842 dX5_back_37 ?_
      refine lm_ld_cl K (by omega) dX5_back_40 ?_
      refine la_istore1 K dX5_back_41 rfl ?_
      refine la_aload_n K dX5_back_42 rfl ?_
      refine lm_g_aa K q839 dX5_back_43 ?_
      refine la_iload_n K dX5_back_46 rfl ?_
      refine la_aload_n K dX5_back_47 rfl ?_
      refine lm_g_cm K q847 dX5_back_48 ?_
      refine la_aload_n K dX5_back_51 rfl ?_
      refine lm_g_C K q842 dX5_back_52 ?_
      refine lm_ld_cm K (by omega) dX5_back_55 ?_
      refine lm_st_aa K (by omega) dX5_back_56 ?_
      refine la_aload_n K dX5_back_57 rfl ?_
      refine lm_g_su K q840 dX5_back_58 ?_
      refine la_iload_n K dX5_back_61 rfl ?_
      refine la_dup2 K dX5_back_62 rfl rfl ?_
      refine lm_ld_su K (by omega) dX5_back_63 ?_
      refine la_aload_n K dX5_back_64 rfl ?_
      refine lm_g_cf K q845 dX5_back_65 ?_
      refine la_aload_n K dX5_back_68 rfl ?_
      refine lm_g_C K q842 dX5_back_69 ?_
      refine lm_ld_cf K (by omega) dX5_back_72 ?_
      refine la_isubN K dX5_back_73 (by omega) ?_
      refine lm_st_su K (by omega) dX5_back_74 ?_
      refine la_aload_n K dX5_back_75 rfl ?_
      refine la_aload_n K dX5_back_76 rfl ?_
      refine lm_g_ct K q848 dX5_back_77 ?_
      refine la_aload_n K dX5_back_80 rfl ?_
      refine lm_g_C K q842 dX5_back_81 ?_
      refine lm_ld_ct K (by omega) dX5_back_84 ?_
      refine lm_p_lt K q841 dX5_back_85 ?_
      refine la_aload_n K dX5_back_88 rfl ?_
      refine lm_g_C K q842 dX5_back_89 ?_
      exact hret _ _ _ _ dX5_back_92 (Or.inr ⟨by omega, c, rfl, rfl, _, _, _, rfl, hu1⟩)
    · refine la_bipush K dX5_back_19 la_kb_m2 ?_
      exact hret _ _ _ _ dX5_back_21 (Or.inl ⟨Or.inr h16, rfl, rfl⟩)
set_option maxHeartbeats 4000000 in
theorem lm_stand (hJ : lm_J ((th, S, T, P, R, L, B, Kd, lt, C), (ra, rb, rl, fa), (aa, su), (cp, cl, cf, ck, cm, ct), (le, tr, re), (bh, so, br, rs, ce), (wh, wy))) : la_CI ω yX5_stand cX5_stand 3 (some .int) (la_rm 0) [.ref (ad 0)] (lm_W ω.2.2 ad ((th, S, T, P, R, L, B, Kd, lt, C), (ra, rb, rl, fa), (aa, su), (cp, cl, cf, ck, cm, ct), (le, tr, re), (bh, so, br, rs, ce), (wh, wy))) (lm_W ω.2.2 ad) (fun (r : Int32) (u : lm_S) => r = (if L = 0 then -2 else nI (lp_sn B cp cl C)) ∧ u = ((nI 0, S, T, P, R, L, B, Kd, lt, C), (ra, rb, rl, fa), (aa, su), (cp, cl, cf, ck, cm, ct), (le, tr, re), (bh, so, br, rs, ce), (wh, wy))) := by
  refine la_CI_of (by decide) [some (.ref (ad 0)), none, none] rfl rfl (Nat.le_of_ble_eq_true rfl) ?_
  intro κ K hret
  have hJx : lm_Jx P R L B C Kd lt ra rb rl fa aa su cp cl cf ck cm ct le tr := hJ
  have hJ2 := hJx
  obtain ⟨hP, hR, hro, hL3, hC12, hKd, hLC, hle, htr, hDay⟩ := hJ2
  have lp : ∀ (j k : Nat) (s : Nat), k ≤ L → L < k + j → 1 ≤ L → s = lp_sn B cp cl C % 2 ^ (3 * k) → la_At ω κ (0, 0) 9 [some (.ref (ad 0)), some (.int (nI (s))), some (.int (nI (k)))] [] (lm_W ω.2.2 ad ((nI 0, S, T, P, R, L, B, Kd, lt, C), (ra, rb, rl, fa), (aa, su), (cp, cl, cf, ck, cm, ct), (le, tr, re), (bh, so, br, rs, ce), (wh, wy))) := by
    intro j
    induction j with
    | zero => intro k s h1 h2; omega
    | succ j ih =>
      intro k s h1 h2 hL1 hs
      subst hs
      have hD := hDay hL1
      have hS := lm_aaP hJx hD
      refine la_iload_n K dX5_stand_9 rfl ?_
      refine la_aload_n K dX5_stand_10 rfl ?_
      refine lm_g_L K q836 dX5_stand_11 ?_
      refine la_icmp_geN K 36 dX5_stand_14 rfl (by omega) (by omega) (fun h14 => ?_) (fun h14 => ?_)
      · refine la_aload_n K dX5_stand_36 rfl ?_
        refine lm_g_L K q836 dX5_stand_37 ?_
        refine la_if_neN K 48 dX5_stand_40 rfl (by omega) (fun h40 => ?_) (fun h40 => ?_)
        · refine la_iload_n K dX5_stand_48 rfl ?_
          exact hret _ _ _ _ dX5_stand_49 ⟨by rw [if_neg h40, show k = L by omega, Nat.mod_eq_of_lt hS.1], rfl⟩
        · refine la_bipush K dX5_stand_43 la_kb_m2 ?_
          refine la_goto K 49 dX5_stand_45 rfl ?_
          exact hret _ _ _ _ dX5_stand_49 ⟨by rw [if_pos h40], rfl⟩
      · refine la_iload_n K dX5_stand_17 rfl ?_
        refine la_aload_n K dX5_stand_18 rfl ?_
        refine lm_g_aa K q839 dX5_stand_19 ?_
        refine la_iload_n K dX5_stand_22 rfl ?_
        refine lm_ld_aa K (by omega) dX5_stand_23 ?_
        refine la_iconst K dX5_stand_24 la_ki_3 ?_
        refine la_iload_n K dX5_stand_25 rfl ?_
        refine la_imulN K dX5_stand_26 ?_
        refine la_ishl K dX5_stand_27 ?_
        refine la_ior K dX5_stand_28 ?_
        rw [hD.2.2.2.2.2.2.1 k (by omega)]
        refine la_top (lp_join (lp_sd_lt hS hL3) (by omega)) ?_
        refine la_istore1 K dX5_stand_29 rfl ?_
        refine la_iinc2 K dX5_stand_30 (la_inc_N _) rfl ?_
        refine la_goto K 9 dX5_stand_33 rfl ?_
        exact ih (k + 1) _ (by omega) (by omega) hL1 rfl
  by_cases hL1 : 1 ≤ L
  · skip
    refine la_aload_n K dX5_stand_0 rfl ?_
    refine la_iconst K dX5_stand_1 la_ki_0 ?_
    refine lm_p_th K q827 dX5_stand_2 ?_
    refine la_iconst K dX5_stand_5 la_ki_0 ?_
    refine la_istore1 K dX5_stand_6 rfl ?_
    refine la_iconst K dX5_stand_7 la_ki_0 ?_
    refine la_istore2 K dX5_stand_8 rfl ?_
    exact lp (L + 1) 0 0 (by omega) (by omega) hL1 (by simp [Nat.mod_one])
  · have h0 : L = 0 := by omega
    subst h0
    refine la_aload_n K dX5_stand_0 rfl ?_
    refine la_iconst K dX5_stand_1 la_ki_0 ?_
    refine lm_p_th K q827 dX5_stand_2 ?_
    refine la_iconst K dX5_stand_5 la_ki_0 ?_
    refine la_istore1 K dX5_stand_6 rfl ?_
    refine la_iconst K dX5_stand_7 la_ki_0 ?_
    refine la_istore2 K dX5_stand_8 rfl ?_
    refine la_iload_n K dX5_stand_9 rfl ?_
    refine la_aload_n K dX5_stand_10 rfl ?_
    refine lm_g_L K q836 dX5_stand_11 ?_
    refine la_icmp_geN K 36 dX5_stand_14 rfl (by omega) (by omega) (fun h14 => ?_) (fun h14 => absurd h14 (by omega))
    refine la_aload_n K dX5_stand_36 rfl ?_
    refine lm_g_L K q836 dX5_stand_37 ?_
    refine la_if_neN K 48 dX5_stand_40 rfl (by omega) (fun h40 => absurd rfl h40) (fun h40 => ?_)
    refine la_bipush K dX5_stand_43 la_kb_m2 ?_
    refine la_goto K 49 dX5_stand_45 rfl ?_
    exact hret _ _ _ _ dX5_stand_49 ⟨by rw [if_pos rfl], rfl⟩
theorem lm_told (i w : Int32) (hC12 : C ≤ 12) : la_CI ω yX5_told cX5_told 3 (some .int) (la_rm 1) [.ref (ad 0), .int i, .int w] (lm_W ω.2.2 ad ((th, S, T, P, R, L, B, Kd, lt, C), (ra, rb, rl, fa), (aa, su), (cp, cl, cf, ck, cm, ct), (le, tr, re), (bh, so, br, rs, ce), (wh, wy))) (lm_W ω.2.2 ad) (fun (r : Int32) (u : lm_S) => r = lp_tdA C cp cl cf ck i w ∧ u = ((nI 0, S, T, P, R, L, B, Kd, lt, C), (ra, rb, rl, fa), (aa, su), (cp, cl, cf, ck, cm, ct), (le, tr, re), (bh, so, br, rs, ce), (wh, wy))) := by
  refine la_CI_of (by decide) [some (.ref (ad 0)), some (.int (i)), some (.int (w))] rfl rfl (Nat.le_of_ble_eq_true rfl) ?_
  intro κ K hret
  refine la_aload_n K dX5_told_0 rfl ?_
  refine la_iconst K dX5_told_1 la_ki_0 ?_
  refine lm_p_th K q827 dX5_told_2 ?_
  refine la_iload_n K dX5_told_5 rfl ?_
  refine la_i2l K dX5_told_6 rfl ?_
  refine la_lconst K dX5_told_7 la_kn_0 ?_
  refine la_aload_n K dX5_told_8 rfl ?_
  refine lm_g_C K q842 dX5_told_9 ?_
  refine la_iconst K dX5_told_12 la_ki_1 ?_
  refine la_isub K dX5_told_13 ?_
  refine la_i2l K dX5_told_14 rfl ?_
  refine la_callSp K ok_X5_in q937 (lm_in _ _ _ _) rfl rfl rfl (Nat.le_of_ble_eq_true rfl) ⟨Nat.le_of_ble_eq_true rfl, Nat.le_of_ble_eq_true rfl⟩ ⟨Nat.zero_le _, Nat.zero_le _⟩ dX5_told_15 ?_
  refine la_if_eqC K 33 dX5_told_18 rfl (fun h18 => ?_) (fun h18 => ?_)
  · refine la_iconst K dX5_told_33 la_ki_m1 ?_
    exact hret _ _ _ _ dX5_told_34 ⟨by unfold lp_tdA; rw [if_neg (fun z => h18 ((lp_intB i (by omega)).mpr z.1))], rfl⟩
  · refine la_iload_n K dX5_told_21 rfl ?_
    refine la_i2l K dX5_told_22 rfl ?_
    refine la_lconst K dX5_told_23 la_kn_0 ?_
    refine la_ldc2 K q962 la_kL_3 dX5_told_24 ?_
    refine la_callSp K ok_X5_in q937 (lm_in _ _ _ _) rfl rfl rfl (Nat.le_of_ble_eq_true rfl) ⟨Nat.le_of_ble_eq_true rfl, Nat.le_of_ble_eq_true rfl⟩ ⟨Nat.zero_le _, Nat.zero_le _⟩ dX5_told_27 ?_
    refine la_if_neC K 35 dX5_told_30 rfl (fun h30 => ?_) (fun h30 => ?_)
    · have hi0 := (lp_intB i (by omega)).mp h18
      have hw0 := (lp_ints w (by decide) (by decide)).mp h30
      obtain ⟨ki, hki, rfl⟩ := lp_in_N hi0 (by omega)
      obtain ⟨kw, -, hkw, rfl⟩ := lp_inI_N hw0 (by decide)
      refine la_iload_n K dX5_told_35 rfl ?_
      refine la_if_neN K 48 dX5_told_36 rfl (by omega) (fun h36 => ?_) (fun h36 => ?_)
      · refine la_iload_n K dX5_told_48 rfl ?_
        refine la_iconst K dX5_told_49 la_ki_1 ?_
        refine la_icmp_neN K 62 dX5_told_50 rfl (by omega) (by omega) (fun h50 => ?_) (fun h50 => ?_)
        · refine la_iload_n K dX5_told_62 rfl ?_
          refine la_iconst K dX5_told_63 la_ki_2 ?_
          refine la_icmp_neN K 76 dX5_told_64 rfl (by omega) (by omega) (fun h64 => ?_) (fun h64 => ?_)
          · refine la_aload_n K dX5_told_76 rfl ?_
            refine lm_g_ck K q846 dX5_told_77 ?_
            refine la_iload_n K dX5_told_80 rfl ?_
            refine lm_ld_ck K (by omega) dX5_told_81 ?_
            exact hret _ _ _ _ dX5_told_82 ⟨by unfold lp_tdA; rw [if_pos ⟨hi0, hw0⟩, nI_clamp (by omega), if_neg (fun z => h36 ((nI_eq (by omega) (by omega)).mp z)), if_neg (fun z => h50 ((nI_eq (by omega) (by omega)).mp z)), if_neg (fun z => h64 ((nI_eq (by omega) (by omega)).mp z))], rfl⟩
          · refine la_aload_n K dX5_told_67 rfl ?_
            refine lm_g_cf K q845 dX5_told_68 ?_
            refine la_iload_n K dX5_told_71 rfl ?_
            refine lm_ld_cf K (by omega) dX5_told_72 ?_
            refine la_goto K 82 dX5_told_73 rfl ?_
            exact hret _ _ _ _ dX5_told_82 ⟨by unfold lp_tdA; rw [if_pos ⟨hi0, hw0⟩, nI_clamp (by omega), if_neg (fun z => h36 ((nI_eq (by omega) (by omega)).mp z)), if_neg (fun z => h50 ((nI_eq (by omega) (by omega)).mp z)), if_pos (by rw [h64])], rfl⟩
        · refine la_aload_n K dX5_told_53 rfl ?_
          refine lm_g_cl K q844 dX5_told_54 ?_
          refine la_iload_n K dX5_told_57 rfl ?_
          refine lm_ld_cl K (by omega) dX5_told_58 ?_
          refine la_goto K 82 dX5_told_59 rfl ?_
          exact hret _ _ _ _ dX5_told_82 ⟨by unfold lp_tdA; rw [if_pos ⟨hi0, hw0⟩, nI_clamp (by omega), if_neg (fun z => h36 ((nI_eq (by omega) (by omega)).mp z)), if_pos (by rw [h50])], rfl⟩
      · refine la_aload_n K dX5_told_39 rfl ?_
        refine lm_g_cp K q843 dX5_told_40 ?_
        refine la_iload_n K dX5_told_43 rfl ?_
        refine lm_ld_cp K (by omega) dX5_told_44 ?_
        refine la_goto K 82 dX5_told_45 rfl ?_
        exact hret _ _ _ _ dX5_told_82 ⟨by unfold lp_tdA; rw [if_pos ⟨hi0, hw0⟩, nI_clamp (by omega), if_pos (by rw [h36])], rfl⟩
    · refine la_iconst K dX5_told_33 la_ki_m1 ?_
      exact hret _ _ _ _ dX5_told_34 ⟨by unfold lp_tdA; rw [if_neg (fun z => h30 ((lp_ints w (by decide) (by decide)).mpr z.2))], rfl⟩
theorem lm_costOf (hL3 : L ≤ 3) : la_CP ω yX5_costOf cX5_costOf 3 (some .int) (la_rm 0) [.ref (ad 0)] (lm_W ω.2.2 ad ((th, S, T, P, R, L, B, Kd, lt, C), (ra, rb, rl, fa), (aa, su), (cp, cl, cf, ck, cm, ct), (le, tr, re), (bh, so, br, rs, ce), (wh, wy))) (nI (lp_tot su L)) := by
  refine la_CI_of (by decide) [some (.ref (ad 0)), none, none] rfl rfl (Nat.le_of_ble_eq_true rfl) ?_
  intro κ K hret
  have lp : ∀ (j k : Nat) (s : Nat), k ≤ L → L < k + j → s = lp_tot su k → la_At ω κ (0, 0) 4 [some (.ref (ad 0)), some (.int (nI (s))), some (.int (nI (k)))] [] (lm_W ω.2.2 ad ((th, S, T, P, R, L, B, Kd, lt, C), (ra, rb, rl, fa), (aa, su), (cp, cl, cf, ck, cm, ct), (le, tr, re), (bh, so, br, rs, ce), (wh, wy))) := by
    intro j
    induction j with
    | zero => intro k s h1 h2; omega
    | succ j ih =>
      intro k s h1 h2 hs
      refine la_iload_n K dX5_costOf_4 rfl ?_
      refine la_aload_n K dX5_costOf_5 rfl ?_
      refine lm_g_L K q836 dX5_costOf_6 ?_
      refine la_icmp_geN K 27 dX5_costOf_9 rfl (by omega) (by omega) (fun h9 => ?_) (fun h9 => ?_)
      · refine la_iload_n K dX5_costOf_27 rfl ?_
        exact hret _ _ _ () dX5_costOf_28 (by rw [hs, show k = L by omega])
      · refine la_iload_n K dX5_costOf_12 rfl ?_
        refine la_aload_n K dX5_costOf_13 rfl ?_
        refine lm_g_su K q840 dX5_costOf_14 ?_
        refine la_iload_n K dX5_costOf_17 rfl ?_
        refine lm_ld_su K (by omega) dX5_costOf_18 ?_
        refine la_iaddN K dX5_costOf_19 ?_
        refine la_istore1 K dX5_costOf_20 rfl ?_
        refine la_iinc2 K dX5_costOf_21 (la_inc_N _) rfl ?_
        refine la_goto K 4 dX5_costOf_24 rfl ?_
        exact ih (k + 1) _ (by omega) (by omega) (by rw [lp_tot, hs])
  refine la_iconst K dX5_costOf_0 la_ki_0 ?_
  refine la_istore1 K dX5_costOf_1 rfl ?_
  refine la_iconst K dX5_costOf_2 la_ki_0 ?_
  refine la_istore2 K dX5_costOf_3 rfl ?_
  exact lp (L + 1) 0 0 (by omega) (by omega) rfl
theorem lm_cost (x : Int32) (hL3 : L ≤ 3) : la_CI ω yX5_cost cX5_cost 2 (some .int) (la_rm 1) [.ref (ad 0), .int x] (lm_W ω.2.2 ad ((th, S, T, P, R, L, B, Kd, lt, C), (ra, rb, rl, fa), (aa, su), (cp, cl, cf, ck, cm, ct), (le, tr, re), (bh, so, br, rs, ce), (wh, wy))) (lm_W ω.2.2 ad) (fun (r : Int32) (u : lm_S) => r = lp_csA L su x ∧ u = ((nI 0, S, T, P, R, L, B, Kd, lt, C), (ra, rb, rl, fa), (aa, su), (cp, cl, cf, ck, cm, ct), (le, tr, re), (bh, so, br, rs, ce), (wh, wy))) := by
  refine la_CI_of (by decide) [some (.ref (ad 0)), some (.int (x))] rfl rfl (Nat.le_of_ble_eq_true rfl) ?_
  intro κ K hret
  refine la_aload_n K dX5_cost_0 rfl ?_
  refine la_iconst K dX5_cost_1 la_ki_0 ?_
  refine lm_p_th K q827 dX5_cost_2 ?_
  refine la_aload_n K dX5_cost_5 rfl ?_
  refine lm_g_L K q836 dX5_cost_6 ?_
  refine la_if_neN K 15 dX5_cost_9 rfl (by omega) (fun h9 => ?_) (fun h9 => ?_)
  · refine la_iload_n K dX5_cost_15 rfl ?_
    refine la_iconst K dX5_cost_16 la_ki_m1 ?_
    refine la_icmp_ne K 27 dX5_cost_17 rfl (fun h17 => ?_) (fun h17 => ?_)
    · refine la_iload_n K dX5_cost_27 rfl ?_
      refine la_i2l K dX5_cost_28 rfl ?_
      refine la_lconst K dX5_cost_29 la_kn_0 ?_
      refine la_aload_n K dX5_cost_30 rfl ?_
      refine lm_g_L K q836 dX5_cost_31 ?_
      refine la_iconst K dX5_cost_34 la_ki_1 ?_
      refine la_isub K dX5_cost_35 ?_
      refine la_i2l K dX5_cost_36 rfl ?_
      refine la_callSp K ok_X5_in q937 (lm_in _ _ _ _) rfl rfl rfl (Nat.le_of_ble_eq_true rfl) ⟨Nat.le_of_ble_eq_true rfl, Nat.le_of_ble_eq_true rfl⟩ ⟨Nat.zero_le _, Nat.zero_le _⟩ dX5_cost_37 ?_
      refine la_if_eqC K 52 dX5_cost_40 rfl (fun h40 => ?_) (fun h40 => ?_)
      · refine la_iconst K dX5_cost_52 la_ki_m1 ?_
        exact hret _ _ _ _ dX5_cost_53 ⟨by unfold lp_csA; rw [if_neg h9, if_neg h17, if_neg (fun z => h40 ((lp_intB x (by omega)).mpr z))], rfl⟩
      · have hi0 := (lp_intB x (by omega)).mp h40
        obtain ⟨k, hk, rfl⟩ := lp_in_N hi0 (by omega)
        refine la_aload_n K dX5_cost_43 rfl ?_
        refine lm_g_su K q840 dX5_cost_44 ?_
        refine la_iload_n K dX5_cost_47 rfl ?_
        refine lm_ld_su K (by omega) dX5_cost_48 ?_
        refine la_goto K 53 dX5_cost_49 rfl ?_
        exact hret _ _ _ _ dX5_cost_53 ⟨by unfold lp_csA; rw [if_neg h9, if_neg h17, if_pos hi0, nI_clamp (by omega)], rfl⟩
    · refine la_aload_n K dX5_cost_20 rfl ?_
      refine la_callVp K ok_X5_costOf q1052 (lm_costOf hL3) 0 rfl rfl rfl rfl rfl (Nat.le_of_ble_eq_true rfl) ⟨Nat.le_of_ble_eq_true rfl, Nat.le_of_ble_eq_true rfl⟩ ⟨Nat.zero_le _, Nat.zero_le _⟩ dX5_cost_21 ?_
      refine la_goto K 53 dX5_cost_24 rfl ?_
      exact hret _ _ _ _ dX5_cost_53 ⟨by unfold lp_csA; rw [if_neg h9, if_pos h17], rfl⟩
  · refine la_bipush K dX5_cost_12 la_kb_m2 ?_
    exact hret _ _ _ _ dX5_cost_14 ⟨by unfold lp_csA; rw [if_pos h9], rfl⟩
end LM5
