/-! THE MODEL's METHODS, part 9: ways. Printed by m9.py. -/
section LM9
variable {ω : la_O} {ad : Nat → Nat} {th S lt : Int32} {T : Int64} {P R L B Kd C : Nat} {ra rb rl fa aa su cp cl cf ck cm le tr re bh so br wh wy : Nat → Nat} {ct rs : Nat → Int32} {ce : Nat → Int64}
set_option maxHeartbeats 4000000 in
theorem lm_way (a b : Int32) (hP : P ≤ 6) (hR : R ≤ 15) (hro : ∀ k, k < R → ra k < 6 ∧ rb k < 6 ∧ ¬ ra k = rb k ∧ rl k ≤ 100) : la_CI ω yX5_way cX5_way 9 (some .int) (la_rm 2) [.ref (ad 0), .int a, .int b] (lm_W ω.2.2 ad ((th, S, T, P, R, L, B, Kd, lt, C), (ra, rb, rl, fa), (aa, su), (cp, cl, cf, ck, cm, ct), (le, tr, re), (bh, so, br, rs, ce), (wh, wy))) (lm_W ω.2.2 ad) (fun (r : Int32) (u : lm_S) => r = lp_waA 100000000 P R (lp_ds 100000000 ra rb rl R 6) ra rb rl a b ∧ ∃ fa', u = ((nI 0, S, T, P, R, L, B, Kd, lt, C), (ra, rb, rl, fa'), (aa, su), (cp, cl, cf, ck, cm, ct), (le, tr, re), (bh, so, br, rs, ce), (wh, wy)) ∧ (fa' = fa ∨ ∀ a b, a < 6 → b < 6 → fa' (6 * a + b) = (lp_ds 100000000 ra rb rl R 6) a b)) := by
  refine la_CI_of (by decide) [some (.ref (ad 0)), some (.int (a)), some (.int (b)), none, none, none, none, none, none] rfl rfl (Nat.le_of_ble_eq_true rfl) ?_
  intro κ K hret
  refine la_aload_n K dX5_way_0 rfl ?_
  refine la_iconst K dX5_way_1 la_ki_0 ?_
  refine lm_p_th K q827 dX5_way_2 ?_
  refine la_aload_n K dX5_way_5 rfl ?_
  refine la_iload_n K dX5_way_6 rfl ?_
  refine la_callVp K ok_X5_isPlace q945 (lm_isPlace _ hP) 0 rfl rfl rfl rfl rfl (Nat.le_of_ble_eq_true rfl) ⟨Nat.le_of_ble_eq_true rfl, Nat.le_of_ble_eq_true rfl⟩ ⟨Nat.zero_le _, Nat.zero_le _⟩ dX5_way_7 ?_
  refine la_if_eqC K 21 dX5_way_10 rfl (fun h10 => ?_) (fun h10 => ?_)
  · refine la_iconst K dX5_way_21 la_ki_m1 ?_
    exact hret _ _ _ _ dX5_way_22 ⟨by unfold lp_waA; rw [if_neg (fun z => h10 z.1)], _, rfl, Or.inl rfl⟩
  · refine la_aload_n K dX5_way_13 rfl ?_
    refine la_iload_n K dX5_way_14 rfl ?_
    refine la_callVp K ok_X5_isPlace q945 (lm_isPlace _ hP) 0 rfl rfl rfl rfl rfl (Nat.le_of_ble_eq_true rfl) ⟨Nat.le_of_ble_eq_true rfl, Nat.le_of_ble_eq_true rfl⟩ ⟨Nat.zero_le _, Nat.zero_le _⟩ dX5_way_15 ?_
    refine la_if_neC K 23 dX5_way_18 rfl (fun h18 => ?_) (fun h18 => ?_)
    · obtain ⟨a, ha, rfl⟩ := lp_in_N h10 (by omega)
      obtain ⟨b, hb, rfl⟩ := lp_in_N h18 (by omega)
      refine la_aload_n K dX5_way_23 rfl ?_
      refine la_callVv0 K ok_X5_measures q949 (lm_measures hR hro) 0 rfl rfl rfl rfl rfl (Nat.le_of_ble_eq_true rfl) ⟨Nat.le_of_ble_eq_true rfl, Nat.le_of_ble_eq_true rfl⟩ ⟨Nat.zero_le _, Nat.zero_le _⟩ dX5_way_24 (fun u24 p24 => ?_)
      obtain ⟨fa1, rfl, hfa⟩ := p24
      refine la_iload_n K dX5_way_27 rfl ?_
      refine la_iload_n K dX5_way_28 rfl ?_
      refine la_icmp_neN K 34 dX5_way_29 rfl (by omega) (by omega) (fun h29 => ?_) (fun h29 => ?_)
      · refine la_bipush K dX5_way_34 la_kb_m9 ?_
        refine la_istore3 K dX5_way_36 rfl ?_
        refine la_iconst K dX5_way_37 la_ki_0 ?_
        refine la_istore4 K dX5_way_38 rfl ?_
        by_cases hfar : 100000000 ≤ fa1 (6 * a + b)
        · skip
          refine la_iload K dX5_way_40 rfl ?_
          refine la_aload_n K dX5_way_42 rfl ?_
          refine lm_g_R K q831 dX5_way_43 ?_
          refine la_icmp_geN K 205 dX5_way_46 rfl (by omega) (by omega) (fun h46 => ?_) (fun h46 => ?_)
          · refine la_iload_n K dX5_way_205 rfl ?_
            exact hret _ _ _ _ dX5_way_206 ⟨by unfold lp_waA; rw [if_pos ⟨h10, h18⟩, if_neg (fun z => h29 ((nI_eq (by omega) (by omega)).mp z)), nI_clamp (by omega), nI_clamp (by omega), ← hfa a b (by omega) (by omega), if_pos hfar], _, rfl, Or.inr hfa⟩
          · refine la_aload_n K dX5_way_49 rfl ?_
            refine lm_g_fa K q835 dX5_way_50 ?_
            refine la_bipush K dX5_way_53 la_kb_6 ?_
            refine la_iload_n K dX5_way_55 rfl ?_
            refine la_imulN K dX5_way_56 ?_
            refine la_iload_n K dX5_way_57 rfl ?_
            refine la_iaddN K dX5_way_58 ?_
            refine lm_ld_fa K (by omega) dX5_way_59 ?_
            refine la_ldc K q953 la_kl_100000000 dX5_way_60 ?_
            refine la_icmp_geN K 205 dX5_way_62 rfl (by have := hfa a b (by omega) (by omega); have := lp_ds_le (I := 100000000) (fr := ra) (to := rb) (ln := rl) (R := R) 6 a b; omega) (by omega) (fun h62 => ?_) (fun h62 => absurd h62 (by omega))
            refine la_iload_n K dX5_way_205 rfl ?_
            exact hret _ _ _ _ dX5_way_206 ⟨by unfold lp_waA; rw [if_pos ⟨h10, h18⟩, if_neg (fun z => h29 ((nI_eq (by omega) (by omega)).mp z)), nI_clamp (by omega), nI_clamp (by omega), ← hfa a b (by omega) (by omega), if_pos hfar], _, rfl, Or.inr hfa⟩
        · skip
          have lp : ∀ (j k : Nat) (x5 x6 x7 x8 : Option Value), k ≤ R → R < k + j → la_At ω κ (0, 0) 40 [some (.ref (ad 0)), some (.int (nI (a))), some (.int (nI (b))), some (.int (lp_wv (lp_wfo (lp_ds 100000000 ra rb rl R 6) ra rb rl a b k))), some (.int (nI (k))), x5, x6, x7, x8] [] (lm_W ω.2.2 ad ((nI 0, S, T, P, R, L, B, Kd, lt, C), (ra, rb, rl, fa1), (aa, su), (cp, cl, cf, ck, cm, ct), (le, tr, re), (bh, so, br, rs, ce), (wh, wy))) := by
            intro j
            induction j with
            | zero => intro k x5 x6 x7 x8 h1 h2; omega
            | succ j ih =>
              intro k x5 x6 x7 x8 h1 h2
              have mid : k < R → ∀ (sd X Y : Nat) (w : Option Nat) (x8 : Option Value), X < 6 → Y < 6 → lp_w6 w → (∀ x6 x7 x8, la_At ω κ (0, 0) 68 [some (.ref (ad 0)), some (.int (nI (a))), some (.int (nI (b))), some (.int (lp_wv (lp_wsd (lp_ds 100000000 ra rb rl R 6) a b X Y (rl k) w))), some (.int (nI (k))), some (.int (nI (sd + 1))), x6, x7, x8] [] (lm_W ω.2.2 ad ((nI 0, S, T, P, R, L, B, Kd, lt, C), (ra, rb, rl, fa1), (aa, su), (cp, cl, cf, ck, cm, ct), (le, tr, re), (bh, so, br, rs, ce), (wh, wy)))) → la_At ω κ (0, 0) 122 [some (.ref (ad 0)), some (.int (nI (a))), some (.int (nI (b))), some (.int (lp_wv w)), some (.int (nI (k))), some (.int (nI (sd))), some (.int (nI (X))), some (.int (nI (Y))), x8] [] (lm_W ω.2.2 ad ((nI 0, S, T, P, R, L, B, Kd, lt, C), (ra, rb, rl, fa1), (aa, su), (cp, cl, cf, ck, cm, ct), (le, tr, re), (bh, so, br, rs, ce), (wh, wy))) := by
                intro hk sd X Y w x8 hX hY hw6 cont
                refine la_iload K dX5_way_122 rfl ?_
                refine la_iload_n K dX5_way_124 rfl ?_
                refine la_icmp_neN K 166 dX5_way_125 rfl (by omega) (by omega) (fun h125 => ?_) (fun h125 => ?_)
                · refine la_iconst K dX5_way_166 la_ki_0 ?_
                  refine la_istore8 K dX5_way_167 rfl ?_
                  refine la_iload K dX5_way_169 rfl ?_
                  refine la_if_eqN K 191 dX5_way_171 rfl (by omega) (fun h171 => ?_) (fun h171 => absurd rfl h171)
                  refine la_iload_n K dX5_way_191 rfl ?_
                  refine la_istore3 K dX5_way_192 rfl ?_
                  refine la_iinc5 K dX5_way_193 (la_inc_N _) rfl ?_
                  refine la_goto K 68 dX5_way_196 rfl ?_
                  rw [show (lp_wsd (lp_ds 100000000 ra rb rl R 6) a b X Y (rl k) w) = w from by unfold lp_wsd; exact if_neg (fun z => h125 z.1)] at cont
                  exact cont _ _ _
                · refine la_aload_n K dX5_way_128 rfl ?_
                  refine lm_g_rl K q834 dX5_way_129 ?_
                  refine la_iload K dX5_way_132 rfl ?_
                  refine lm_ld_rl K (by omega) dX5_way_134 ?_
                  refine la_aload_n K dX5_way_135 rfl ?_
                  refine lm_g_fa K q835 dX5_way_136 ?_
                  refine la_bipush K dX5_way_139 la_kb_6 ?_
                  refine la_iload K dX5_way_141 rfl ?_
                  refine la_imulN K dX5_way_143 ?_
                  refine la_iload_n K dX5_way_144 rfl ?_
                  refine la_iaddN K dX5_way_145 ?_
                  refine lm_ld_fa K (by omega) dX5_way_146 ?_
                  refine la_iaddN K dX5_way_147 ?_
                  refine la_aload_n K dX5_way_148 rfl ?_
                  refine lm_g_fa K q835 dX5_way_149 ?_
                  refine la_bipush K dX5_way_152 la_kb_6 ?_
                  refine la_iload_n K dX5_way_154 rfl ?_
                  refine la_imulN K dX5_way_155 ?_
                  refine la_iload_n K dX5_way_156 rfl ?_
                  refine la_iaddN K dX5_way_157 ?_
                  refine lm_ld_fa K (by omega) dX5_way_158 ?_
                  refine la_icmp_neN K 166 dX5_way_159 rfl (by have := (hro k hk).2.2.2; have := hfa Y b (by omega) (by omega); have := lp_ds_le (I := 100000000) (fr := ra) (to := rb) (ln := rl) (R := R) 6 Y b; omega) (by have := hfa a b (by omega) (by omega); have := lp_ds_le (I := 100000000) (fr := ra) (to := rb) (ln := rl) (R := R) 6 a b; omega) (fun h159 => ?_) (fun h159 => ?_)
                  · refine la_iconst K dX5_way_166 la_ki_0 ?_
                    refine la_istore8 K dX5_way_167 rfl ?_
                    refine la_iload K dX5_way_169 rfl ?_
                    refine la_if_eqN K 191 dX5_way_171 rfl (by omega) (fun h171 => ?_) (fun h171 => absurd rfl h171)
                    refine la_iload_n K dX5_way_191 rfl ?_
                    refine la_istore3 K dX5_way_192 rfl ?_
                    refine la_iinc5 K dX5_way_193 (la_inc_N _) rfl ?_
                    refine la_goto K 68 dX5_way_196 rfl ?_
                    rw [show (lp_wsd (lp_ds 100000000 ra rb rl R 6) a b X Y (rl k) w) = w from by unfold lp_wsd; exact if_neg (fun z => h159 (by rw [hfa Y b (by omega) (by omega), hfa a b (by omega) (by omega)]; exact z.2))] at cont
                    exact cont _ _ _
                  · refine la_iconst K dX5_way_162 la_ki_1 ?_
                    refine la_goto K 167 dX5_way_163 rfl ?_
                    refine la_istore8 K dX5_way_167 rfl ?_
                    refine la_iload K dX5_way_169 rfl ?_
                    refine la_if_eqN K 191 dX5_way_171 rfl (by omega) (fun h171 => absurd h171 (by decide)) (fun h171 => ?_)
                    have hc : X = a ∧ rl k + (lp_ds 100000000 ra rb rl R 6) Y b = (lp_ds 100000000 ra rb rl R 6) a b := ⟨h125, by rw [← hfa Y b (by omega) (by omega), ← hfa a b (by omega) (by omega)]; exact h159⟩
                    rw [show (lp_wsd (lp_ds 100000000 ra rb rl R 6) a b X Y (rl k) w) = lp_mg w Y from by unfold lp_wsd; exact if_pos hc] at cont
                    rcases w with _ | z
                    · skip
                      refine la_iload_n K dX5_way_174 rfl ?_
                      refine la_bipush K dX5_way_175 la_kb_m9 ?_
                      refine la_icmp_eq K 186 dX5_way_177 rfl (fun h177 => ?_) (fun h177 => absurd rfl h177)
                      refine la_iload K dX5_way_186 rfl ?_
                      refine la_goto K 192 dX5_way_188 rfl ?_
                      refine la_istore3 K dX5_way_192 rfl ?_
                      refine la_iinc5 K dX5_way_193 (la_inc_N _) rfl ?_
                      refine la_goto K 68 dX5_way_196 rfl ?_
                      exact cont _ _ _
                    have hz := hw6 z rfl
                    have cont : ∀ x6 x7 x8, la_At ω κ (0, 0) 68 [some (.ref (ad 0)), some (.int (nI (a))), some (.int (nI (b))), some (.int (nI (min z Y))), some (.int (nI (k))), some (.int (nI (sd + 1))), x6, x7, x8] [] (lm_W ω.2.2 ad ((nI 0, S, T, P, R, L, B, Kd, lt, C), (ra, rb, rl, fa1), (aa, su), (cp, cl, cf, ck, cm, ct), (le, tr, re), (bh, so, br, rs, ce), (wh, wy))) := cont
                    have hev : lp_wv (some z) = nI z := rfl
                    rw [hev]
                    refine la_iload_n K dX5_way_174 rfl ?_
                    refine la_bipush K dX5_way_175 la_kb_m9 ?_
                    refine la_icmp_eq K 186 dX5_way_177 rfl (fun h177 => absurd h177 (lp_nn (by omega))) (fun h177 => ?_)
                    refine la_iload K dX5_way_180 rfl ?_
                    refine la_iload_n K dX5_way_182 rfl ?_
                    refine la_icmp_geN K 191 dX5_way_183 rfl (by omega) (by omega) (fun h183 => ?_) (fun h183 => ?_)
                    · refine la_iload_n K dX5_way_191 rfl ?_
                      refine la_istore3 K dX5_way_192 rfl ?_
                      refine la_iinc5 K dX5_way_193 (la_inc_N _) rfl ?_
                      refine la_goto K 68 dX5_way_196 rfl ?_
                      rw [show min z Y = z by omega] at cont
                      exact cont _ _ _
                    · refine la_iload K dX5_way_186 rfl ?_
                      refine la_goto K 192 dX5_way_188 rfl ?_
                      refine la_istore3 K dX5_way_192 rfl ?_
                      refine la_iinc5 K dX5_way_193 (la_inc_N _) rfl ?_
                      refine la_goto K 68 dX5_way_196 rfl ?_
                      rw [show min z Y = Y by omega] at cont
                      exact cont _ _ _
              refine la_iload K dX5_way_40 rfl ?_
              refine la_aload_n K dX5_way_42 rfl ?_
              refine lm_g_R K q831 dX5_way_43 ?_
              refine la_icmp_geN K 205 dX5_way_46 rfl (by omega) (by omega) (fun h46 => ?_) (fun h46 => ?_)
              · refine la_iload_n K dX5_way_205 rfl ?_
                exact hret _ _ _ _ dX5_way_206 ⟨by unfold lp_waA; rw [if_pos ⟨h10, h18⟩, if_neg (fun z => h29 ((nI_eq (by omega) (by omega)).mp z)), nI_clamp (by omega), nI_clamp (by omega), ← hfa a b (by omega) (by omega), if_neg hfar, show k = R by omega], _, rfl, Or.inr hfa⟩
              · refine la_aload_n K dX5_way_49 rfl ?_
                refine lm_g_fa K q835 dX5_way_50 ?_
                refine la_bipush K dX5_way_53 la_kb_6 ?_
                refine la_iload_n K dX5_way_55 rfl ?_
                refine la_imulN K dX5_way_56 ?_
                refine la_iload_n K dX5_way_57 rfl ?_
                refine la_iaddN K dX5_way_58 ?_
                refine lm_ld_fa K (by omega) dX5_way_59 ?_
                refine la_ldc K q953 la_kl_100000000 dX5_way_60 ?_
                refine la_icmp_geN K 205 dX5_way_62 rfl (by have := hfa a b (by omega) (by omega); have := lp_ds_le (I := 100000000) (fr := ra) (to := rb) (ln := rl) (R := R) 6 a b; omega) (by omega) (fun h62 => absurd h62 (by omega)) (fun h62 => ?_)
                obtain ⟨g1, g2, g3, g4⟩ := hro k (by omega)
                refine la_iconst K dX5_way_65 la_ki_0 ?_
                refine la_istore5 K dX5_way_66 rfl ?_
                have e2 : ∀ x6 x7 x8, la_At ω κ (0, 0) 68 [some (.ref (ad 0)), some (.int (nI (a))), some (.int (nI (b))), some (.int (lp_wv (lp_wfo (lp_ds 100000000 ra rb rl R 6) ra rb rl a b (k + 1)))), some (.int (nI (k))), some (.int (nI (2))), x6, x7, x8] [] (lm_W ω.2.2 ad ((nI 0, S, T, P, R, L, B, Kd, lt, C), (ra, rb, rl, fa1), (aa, su), (cp, cl, cf, ck, cm, ct), (le, tr, re), (bh, so, br, rs, ce), (wh, wy))) := by
                  intro x6 x7 x8
                  refine la_iload K dX5_way_68 rfl ?_
                  refine la_iconst K dX5_way_70 la_ki_2 ?_
                  refine la_icmp_geN K 199 dX5_way_71 rfl (by omega) (by omega) (fun h71 => ?_) (fun h71 => absurd h71 (by decide))
                  refine la_iinc4 K dX5_way_199 (la_inc_N _) rfl ?_
                  refine la_goto K 40 dX5_way_202 rfl ?_
                  exact ih (k + 1) _ _ _ _ (by omega) (by omega)
                have e1 : ∀ x6 x7 x8, la_At ω κ (0, 0) 68 [some (.ref (ad 0)), some (.int (nI (a))), some (.int (nI (b))), some (.int (lp_wv (lp_wsd (lp_ds 100000000 ra rb rl R 6) a b (ra k) (rb k) (rl k) (lp_wfo (lp_ds 100000000 ra rb rl R 6) ra rb rl a b k)))), some (.int (nI (k))), some (.int (nI (1))), x6, x7, x8] [] (lm_W ω.2.2 ad ((nI 0, S, T, P, R, L, B, Kd, lt, C), (ra, rb, rl, fa1), (aa, su), (cp, cl, cf, ck, cm, ct), (le, tr, re), (bh, so, br, rs, ce), (wh, wy))) := by
                  intro x6 x7 x8
                  refine la_iload K dX5_way_68 rfl ?_
                  refine la_iconst K dX5_way_70 la_ki_2 ?_
                  refine la_icmp_geN K 199 dX5_way_71 rfl (by omega) (by omega) (fun h71 => absurd h71 (by decide)) (fun h71 => ?_)
                  refine la_iload K dX5_way_74 rfl ?_
                  refine la_if_neN K 89 dX5_way_76 rfl (by omega) (fun h76 => ?_) (fun h76 => absurd h76 (by decide))
                  refine la_aload_n K dX5_way_89 rfl ?_
                  refine lm_g_rb K q833 dX5_way_90 ?_
                  refine la_iload K dX5_way_93 rfl ?_
                  refine lm_ld_rb K (by omega) dX5_way_95 ?_
                  refine la_istore6 K dX5_way_96 rfl ?_
                  refine la_iload K dX5_way_98 rfl ?_
                  refine la_if_neN K 113 dX5_way_100 rfl (by omega) (fun h100 => ?_) (fun h100 => absurd h100 (by decide))
                  refine la_aload_n K dX5_way_113 rfl ?_
                  refine lm_g_ra K q832 dX5_way_114 ?_
                  refine la_iload K dX5_way_117 rfl ?_
                  refine lm_ld_ra K (by omega) dX5_way_119 ?_
                  refine la_istore7 K dX5_way_120 rfl ?_
                  exact mid (by omega) 1 (rb k) (ra k) (lp_wsd (lp_ds 100000000 ra rb rl R 6) a b (ra k) (rb k) (rl k) (lp_wfo (lp_ds 100000000 ra rb rl R 6) ra rb rl a b k)) _ g2 g1 (lp_w6_sd (lp_w6_fo k (fun j hj => ⟨(hro j (by omega)).1, (hro j (by omega)).2.1⟩)) g2) (fun y6 y7 y8 => e2 y6 y7 y8)
                refine la_iload K dX5_way_68 rfl ?_
                refine la_iconst K dX5_way_70 la_ki_2 ?_
                refine la_icmp_geN K 199 dX5_way_71 rfl (by omega) (by omega) (fun h71 => absurd h71 (by decide)) (fun h71 => ?_)
                refine la_iload K dX5_way_74 rfl ?_
                refine la_if_neN K 89 dX5_way_76 rfl (by omega) (fun h76 => absurd rfl h76) (fun h76 => ?_)
                refine la_aload_n K dX5_way_79 rfl ?_
                refine lm_g_ra K q832 dX5_way_80 ?_
                refine la_iload K dX5_way_83 rfl ?_
                refine lm_ld_ra K (by omega) dX5_way_85 ?_
                refine la_goto K 96 dX5_way_86 rfl ?_
                refine la_istore6 K dX5_way_96 rfl ?_
                refine la_iload K dX5_way_98 rfl ?_
                refine la_if_neN K 113 dX5_way_100 rfl (by omega) (fun h100 => absurd rfl h100) (fun h100 => ?_)
                refine la_aload_n K dX5_way_103 rfl ?_
                refine lm_g_rb K q833 dX5_way_104 ?_
                refine la_iload K dX5_way_107 rfl ?_
                refine lm_ld_rb K (by omega) dX5_way_109 ?_
                refine la_goto K 120 dX5_way_110 rfl ?_
                refine la_istore7 K dX5_way_120 rfl ?_
                exact mid (by omega) 0 (ra k) (rb k) (lp_wfo (lp_ds 100000000 ra rb rl R 6) ra rb rl a b k) _ g1 g2 (lp_w6_fo k (fun j hj => ⟨(hro j (by omega)).1, (hro j (by omega)).2.1⟩)) (fun y6 y7 y8 => e1 y6 y7 y8)
          exact lp (R + 1) 0 _ _ _ _ (by omega) (by omega)
      · refine la_iload_n K dX5_way_32 rfl ?_
        exact hret _ _ _ _ dX5_way_33 ⟨by unfold lp_waA; rw [if_pos ⟨h10, h18⟩, if_pos (by rw [h29])], _, rfl, Or.inr hfa⟩
    · refine la_iconst K dX5_way_21 la_ki_m1 ?_
      exact hret _ _ _ _ dX5_way_22 ⟨by unfold lp_waA; rw [if_neg (fun z => h18 z.2)], _, rfl, Or.inl rfl⟩
end LM9
