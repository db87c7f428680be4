/-! THE MODEL's METHODS, part 10: plans. Printed by m10.py. -/
section LM10
variable {ω : la_O} {ad : Nat → Nat} {th S lt : Int32} {T : Int64} {P R L B Kd C : Nat} {ra rb rl fa aa su cp cl cf ck cm le tr re bh so br wh wy : Nat → Nat} {ct rs : Nat → Int32} {ce : Nat → Int64}
theorem lp_intD (x : Int32) {b : Nat} (hb : b < 2 ^ 31) : (lN 1 ≤ x.toInt64 ∧ x.toInt64 ≤ (nI b).toInt64) ↔ lp_inI x 1 b := by
  rw [Int64.le_iff_toInt_le, Int64.le_iff_toInt_le, Int32.toInt_toInt64, Int32.toInt_toInt64, lN_toInt (by decide), nI_toInt hb]
set_option maxHeartbeats 4000000 in
theorem lm_plan (n i : Int32) (hJ : lm_J ((th, S, T, P, R, L, B, Kd, lt, C), (ra, rb, rl, fa), (aa, su), (cp, cl, cf, ck, cm, ct), (le, tr, re), (bh, so, br, rs, ce), (wh, wy))) : la_CI ω yX5_plan cX5_plan 7 (some .int) (la_rm 1) [.ref (ad 0), .int n, .int i] (lm_W ω.2.2 ad ((th, S, T, P, R, L, B, Kd, lt, C), (ra, rb, rl, fa), (aa, su), (cp, cl, cf, ck, cm, ct), (le, tr, re), (bh, so, br, rs, ce), (wh, wy))) (lm_W ω.2.2 ad) (fun (r : Int32) (u : lm_S) => r = lp_plnA 100000000 P L C B fa cp n i ∧ ∃ f, u = ((nI 0, S, T, P, R, L, B, Kd, lt, C), (ra, rb, rl, fa), (aa, su), (cp, cl, cf, ck, cm, ct), (le, tr, f), (bh, so, br, rs, ce), (wh, wy))) := by
  refine la_CI_of (by decide) [some (.ref (ad 0)), some (.int (n)), some (.int (i)), none, none, none, none] rfl rfl (Nat.le_of_ble_eq_true rfl) ?_
  intro κ K hret
  have hJx : lm_Jx P R L B C Kd lt ra rb rl fa aa su cp cl cf ck cm ct le tr := hJ
  have hJ2 := hJx
  obtain ⟨hP, hR, hro, hL3, hC12, hKd, hLC, hle, htr, hDay⟩ := hJ2
  refine la_aload_n K dX5_plan_0 rfl ?_
  refine la_iconst K dX5_plan_1 la_ki_0 ?_
  refine lm_p_th K q827 dX5_plan_2 ?_
  refine la_aload_n K dX5_plan_5 rfl ?_
  refine lm_g_L K q836 dX5_plan_6 ?_
  refine la_if_neN K 15 dX5_plan_9 rfl (by omega) (fun h9 => ?_) (fun h9 => ?_)
  · refine la_iload_n K dX5_plan_15 rfl ?_
    refine la_i2l K dX5_plan_16 rfl ?_
    refine la_lconst K dX5_plan_17 la_kn_1 ?_
    refine la_aload_n K dX5_plan_18 rfl ?_
    refine lm_g_C K q842 dX5_plan_19 ?_
    refine la_i2l K dX5_plan_22 rfl ?_
    refine la_callSp K ok_X5_in q937 (lm_in _ _ _ _) rfl rfl rfl (Nat.le_of_ble_eq_true rfl) ⟨Nat.le_of_ble_eq_true rfl, Nat.le_of_ble_eq_true rfl⟩ ⟨Nat.zero_le _, Nat.zero_le _⟩ dX5_plan_23 ?_
    refine la_if_eqC K 42 dX5_plan_26 rfl (fun h26 => ?_) (fun h26 => ?_)
    · refine la_iconst K dX5_plan_42 la_ki_m1 ?_
      exact hret _ _ _ _ dX5_plan_43 ⟨by unfold lp_plnA; rw [if_neg h9, if_neg (fun z => h26 ((lp_intD n (by omega)).mpr z.1))], re, rfl⟩
    · have hn0 := (lp_intD n (by omega)).mp h26
      have hn9 : n.toNatClampNeg ≤ 12 ∧ n = nI n.toNatClampNeg := by
        obtain ⟨n9, q1, q2, e9⟩ := lp_inI_N hn0 (by omega)
        rw [e9, nI_clamp (by omega)]
        exact ⟨by omega, rfl⟩
      refine la_iload_n K dX5_plan_29 rfl ?_
      refine la_i2l K dX5_plan_30 rfl ?_
      refine la_lconst K dX5_plan_31 la_kn_0 ?_
      refine la_iload_n K dX5_plan_32 rfl ?_
      refine la_iconst K dX5_plan_33 la_ki_1 ?_
      refine la_isub K dX5_plan_34 ?_
      refine la_i2l K dX5_plan_35 rfl ?_
      refine la_callSp K ok_X5_in q937 (lm_in _ _ _ _) rfl rfl rfl (Nat.le_of_ble_eq_true rfl) ⟨Nat.le_of_ble_eq_true rfl, Nat.le_of_ble_eq_true rfl⟩ ⟨Nat.zero_le _, Nat.zero_le _⟩ dX5_plan_36 ?_
      refine la_if_neC K 44 dX5_plan_39 rfl (fun h39 => ?_) (fun h39 => ?_)
      · have hL1 : 1 ≤ L := by omega
        have hD := hDay hL1
        have hd6 := lm_fa6 hJx hD
        have hB5 := lp_sd_lt hD.1 hL3
        have hn0 : lp_inI n 1 C := hn0
        have hi0 : lp_in i n.toNatClampNeg := by
          rw [hn9.2] at h39
          exact (lp_intB i (by omega)).mp h39
        obtain ⟨n, hn1, hnC, rfl⟩ := lp_inI_N hn0 (by omega)
        rw [nI_clamp (by omega)] at hi0
        obtain ⟨i, hin, rfl⟩ := lp_in_N hi0 (by omega)
        have le_ : ∀ f : Nat → Nat, (∀ k', 0 ≤ k' → k' ≤ n → ∀ q, q < 512 → f (512 * k' + q) = lp_ro 100000000 P L fa cp (n - k') k' q) → ∀ (j k : Nat) (s ch : Nat) (x6 : Option Value), k ≤ (i + 1) → (i + 1) < k + j → s = lp_pp 100000000 P L fa cp B n k → (k = 0 ∨ (0 < k ∧ ch = lp_fl 100000000 P L fa cp n (k - 1) (lp_pp 100000000 P L fa cp B n (k - 1)))) → la_At ω κ (0, 0) 263 [some (.ref (ad 0)), some (.int (nI (n))), some (.int (nI (i))), some (.int (nI (s))), some (.int (nI (ch))), some (.int (nI (k))), x6] [] (lm_W ω.2.2 ad ((nI 0, S, T, P, R, L, B, Kd, lt, C), (ra, rb, rl, fa), (aa, su), (cp, cl, cf, ck, cm, ct), (le, tr, f), (bh, so, br, rs, ce), (wh, wy))) := by
          intro f hall j
          induction j with
          | zero => intro k s ch x6 h1 h2; omega
          | succ j ihe =>
            intro k s ch x6 h1 h2 hs hch
            refine la_iload K dX5_plan_263 rfl ?_
            refine la_iload_n K dX5_plan_265 rfl ?_
            refine la_icmp_gtN K 371 dX5_plan_266 rfl (by omega) (by omega) (fun h266 => ?_) (fun h266 => ?_)
            · refine la_iload K dX5_plan_371 rfl ?_
              have ech : ch = lp_fl 100000000 P L fa cp n i (lp_pp 100000000 P L fa cp B n i) := by
                rcases hch with z | z
                · omega
                · rw [z.2, show k - 1 = i by omega]
              exact hret _ _ _ _ dX5_plan_373 ⟨by unfold lp_plnA; rw [if_neg (by omega), if_pos ⟨hn0, by rw [nI_clamp (by omega)]; exact hi0⟩, nI_clamp (by omega), nI_clamp (by omega), ech], f, rfl⟩
            · have hki : k ≤ i := by omega
              have hcpk := hD.2.1 k (by omega)
              have hx := lp_pp_sd hP hL1 hL3 hd6 hD.2.1 hnC (by omega) (by decide) hD.1 (I := 100000000) (B := B) k (by omega)
              have hx5 := lp_sd_lt hx hL3
              have hfl := lp_fl_is hP hL1 hL3 hd6 hD.2.1 (I := 100000000) (n := n) (k := k) (by omega) hnC (by omega) (by decide) hx
              have hrow : ∀ l, l < 3 → fa (6 * (lp_pp 100000000 P L fa cp B n k / 2 ^ (3 * l) % 8) + cp k) + f (512 * (k + 1) + lp_mv (lp_pp 100000000 P L fa cp B n k) l (cp k)) = lp_rv 100000000 P L fa cp (n - (k + 1)) k (lp_pp 100000000 P L fa cp B n k) l := fun l hl => by
                rw [hall (k + 1) (by omega) (by omega) _ (lp_mv_lt hx5 hl (by omega))]
                rfl
              have hnow : f (512 * k + lp_pp 100000000 P L fa cp B n k) = lp_ro 100000000 P L fa cp (n - k) k (lp_pp 100000000 P L fa cp B n k) := hall k (by omega) (by omega) _ hx5
              have hbnd : ∀ l, l < L → lp_rv 100000000 P L fa cp (n - (k + 1)) k (lp_pp 100000000 P L fa cp B n k) l ≤ 200000000 := fun l hl => by
                have := hd6 _ _ (hx.2 l hl) hcpk
                have := lp_ro_le (I := 100000000) (P := P) (L := L) (d := fa) (cp := cp) (n - (k + 1)) (k + 1) (lp_mv (lp_pp 100000000 P L fa cp B n k) l (cp k))
                unfold lp_rv
                omega
              have lf : ∀ (j l : Nat), l ≤ (lp_fl 100000000 P L fa cp n k (lp_pp 100000000 P L fa cp B n k)) → (lp_fl 100000000 P L fa cp n k (lp_pp 100000000 P L fa cp B n k)) < l + j → la_At ω κ (0, 0) 272 [some (.ref (ad 0)), some (.int (nI (n))), some (.int (nI (i))), some (.int (nI (lp_pp 100000000 P L fa cp B n k))), some (.int (nI (ch))), some (.int (nI (k))), some (.int (nI (l)))] [] (lm_W ω.2.2 ad ((nI 0, S, T, P, R, L, B, Kd, lt, C), (ra, rb, rl, fa), (aa, su), (cp, cl, cf, ck, cm, ct), (le, tr, f), (bh, so, br, rs, ce), (wh, wy))) := by
                intro j
                induction j with
                | zero => intro l  h1 h2; omega
                | succ j ihf =>
                  intro l  h1 h2 
                  have hll : l < 3 := by omega
                  have hdg : lp_dg (lp_pp 100000000 P L fa cp B n k) l < P := hx.2 l (by omega)
                  refine la_aload_n K dX5_plan_272 rfl ?_
                  refine lm_g_fa K q835 dX5_plan_273 ?_
                  refine la_bipush K dX5_plan_276 la_kb_6 ?_
                  refine la_iload_n K dX5_plan_278 rfl ?_
                  refine la_iconst K dX5_plan_279 la_ki_3 ?_
                  refine la_iload K dX5_plan_280 rfl ?_
                  refine la_imulN K dX5_plan_282 ?_
                  refine la_ishrN K dX5_plan_283 (by omega) (by omega) ?_
                  refine la_bipush K dX5_plan_284 la_kb_7 ?_
                  refine la_iand7 K dX5_plan_286 (by have := Nat.div_le_self (lp_pp 100000000 P L fa cp B n k) (2 ^ (3 * l)); omega) ?_
                  refine la_imulN K dX5_plan_287 ?_
                  refine la_aload_n K dX5_plan_288 rfl ?_
                  refine lm_g_cp K q843 dX5_plan_289 ?_
                  refine la_iload K dX5_plan_292 rfl ?_
                  refine lm_ld_cp K (by omega) dX5_plan_294 ?_
                  refine la_iaddN K dX5_plan_295 ?_
                  refine lm_ld_fa K (by unfold lp_dg at hdg; omega) dX5_plan_296 ?_
                  refine la_aload_n K dX5_plan_297 rfl ?_
                  refine lm_g_re K q856 dX5_plan_298 ?_
                  refine la_sipush K dX5_plan_301 la_ks_512 ?_
                  refine la_iload K dX5_plan_304 rfl ?_
                  refine la_iconst K dX5_plan_306 la_ki_1 ?_
                  refine la_iaddN K dX5_plan_307 ?_
                  refine la_imulN K dX5_plan_308 ?_
                  refine la_iload_n K dX5_plan_309 rfl ?_
                  refine la_iload K dX5_plan_310 rfl ?_
                  refine la_aload_n K dX5_plan_312 rfl ?_
                  refine lm_g_cp K q843 dX5_plan_313 ?_
                  refine la_iload K dX5_plan_316 rfl ?_
                  refine lm_ld_cp K (by omega) dX5_plan_318 ?_
                  refine la_callSp K ok_X5_moved q1013 (lm_moved (by omega) (by omega) (by omega) _) rfl rfl rfl (Nat.le_of_ble_eq_true rfl) ⟨Nat.le_of_ble_eq_true rfl, Nat.le_of_ble_eq_true rfl⟩ ⟨Nat.zero_le _, Nat.zero_le _⟩ dX5_plan_319 ?_
                  refine la_iaddN K dX5_plan_322 ?_
                  refine lm_ld_re K (by have := lp_mv_lt (s := lp_pp 100000000 P L fa cp B n k) (l := l) (p := cp k) (by omega) (by omega) (by omega); omega) dX5_plan_323 ?_
                  refine la_iaddN K dX5_plan_324 ?_
                  refine la_aload_n K dX5_plan_325 rfl ?_
                  refine lm_g_re K q856 dX5_plan_326 ?_
                  refine la_sipush K dX5_plan_329 la_ks_512 ?_
                  refine la_iload K dX5_plan_332 rfl ?_
                  refine la_imulN K dX5_plan_334 ?_
                  refine la_iload_n K dX5_plan_335 rfl ?_
                  refine la_iaddN K dX5_plan_336 ?_
                  refine lm_ld_re K (by omega) dX5_plan_337 ?_
                  refine la_icmp_eqN K 347 dX5_plan_338 rfl (by rw [hrow l (by omega)]; have := hbnd l (by omega); omega) (by rw [hnow]; have := lp_ro_le (I := 100000000) (P := P) (L := L) (d := fa) (cp := cp) (n - k) k (lp_pp 100000000 P L fa cp B n k); omega) (fun h338 => ?_) (fun h338 => ?_)
                  · refine la_iload_n K dX5_plan_347 rfl ?_
                    refine la_iload K dX5_plan_348 rfl ?_
                    refine la_aload_n K dX5_plan_350 rfl ?_
                    refine lm_g_cp K q843 dX5_plan_351 ?_
                    refine la_iload K dX5_plan_354 rfl ?_
                    refine lm_ld_cp K (by omega) dX5_plan_356 ?_
                    refine la_callSp K ok_X5_moved q1013 (lm_moved (by omega) (by omega) (by omega) _) rfl rfl rfl (Nat.le_of_ble_eq_true rfl) ⟨Nat.le_of_ble_eq_true rfl, Nat.le_of_ble_eq_true rfl⟩ ⟨Nat.zero_le _, Nat.zero_le _⟩ dX5_plan_357 ?_
                    refine la_istore3 K dX5_plan_360 rfl ?_
                    refine la_iload K dX5_plan_361 rfl ?_
                    refine la_istore4 K dX5_plan_363 rfl ?_
                    refine la_iinc5 K dX5_plan_365 (la_inc_N _) rfl ?_
                    refine la_goto K 263 dX5_plan_368 rfl ?_
                    have el : l = lp_fl 100000000 P L fa cp n k (lp_pp 100000000 P L fa cp B n k) := by
                      rcases Nat.lt_or_ge l (lp_fl 100000000 P L fa cp n k (lp_pp 100000000 P L fa cp B n k)) with z | z
                      · exact absurd (by rw [← hnow, ← hrow l (by omega)]; exact h338) (hfl.2.2 l z)
                      · omega
                    exact ihe (k + 1) _ _ _ (by omega) (by omega) (by rw [el]; rfl) (Or.inr ⟨by omega, by rw [el]; rfl⟩)
                  · refine la_iinc6 K dX5_plan_341 (la_inc_N _) rfl ?_
                    refine la_goto K 272 dX5_plan_344 rfl ?_
                    have hlt : l + 1 ≤ lp_fl 100000000 P L fa cp n k (lp_pp 100000000 P L fa cp B n k) := by
                      rcases Nat.lt_or_ge l (lp_fl 100000000 P L fa cp n k (lp_pp 100000000 P L fa cp B n k)) with z | z
                      · omega
                      · exact absurd (by rw [hrow l (by omega), hnow, show l = lp_fl 100000000 P L fa cp n k (lp_pp 100000000 P L fa cp B n k) by omega]; exact hfl.2.1) h338
                    exact ihf (l + 1) hlt (by omega)
              refine la_iconst K dX5_plan_269 la_ki_0 ?_
              refine la_istore6 K dX5_plan_270 rfl ?_
              subst hs
              exact lf (lp_fl 100000000 P L fa cp n k (lp_pp 100000000 P L fa cp B n k) + 1) 0 (by omega) (by omega)
        have lb_ : ∀ (k : Nat) (f : Nat → Nat) (x4 x5 x6 : Option Value), k ≤ n → (∀ k', k ≤ k' → k' ≤ n → ∀ q, q < 512 → f (512 * k' + q) = lp_ro 100000000 P L fa cp (n - k') k' q) → la_At ω κ (0, 0) 76 [some (.ref (ad 0)), some (.int (nI (n))), some (.int (nI (i))), some (.int (nI k - nI 1)), x4, x5, x6] [] (lm_W ω.2.2 ad ((nI 0, S, T, P, R, L, B, Kd, lt, C), (ra, rb, rl, fa), (aa, su), (cp, cl, cf, ck, cm, ct), (le, tr, f), (bh, so, br, rs, ce), (wh, wy))) := by
          intro k
          induction k with
          | zero =>
            intro f x4 x5 x6 hkn hB0
            rw [show nI 0 - nI 1 = -1 by decide +kernel]
            refine la_iload_n K dX5_plan_76 rfl ?_
            refine la_if_lt K 252 dX5_plan_77 rfl (fun h77 => ?_) (fun h77 => absurd (by decide) h77)
            refine la_aload_n K dX5_plan_252 rfl ?_
            refine lm_g_B K q837 dX5_plan_253 ?_
            refine la_istore3 K dX5_plan_256 rfl ?_
            refine la_iconst K dX5_plan_257 la_ki_0 ?_
            refine la_istore4 K dX5_plan_258 rfl ?_
            refine la_iconst K dX5_plan_260 la_ki_0 ?_
            refine la_istore5 K dX5_plan_261 rfl ?_
            exact le_ f hB0 (i + 2) 0 _ _ _ (by omega) (by omega) rfl (Or.inl rfl)
          | succ k ihb =>
            intro f x4 x5 x6 hkn hB0
            have hcpk := hD.2.1 k (by omega)
            rw [pk_sub (by omega), show k + 1 - 1 = k by omega]
            refine la_iload_n K dX5_plan_76 rfl ?_
            refine la_if_ltN K 252 dX5_plan_77 rfl (by omega) ?_
            refine la_iconst K dX5_plan_80 la_ki_0 ?_
            refine la_istore4 K dX5_plan_81 rfl ?_
            have lc_ : ∀ (j s : Nat) (f : Nat → Nat) (x5 x6 : Option Value), s ≤ 512 → 512 < s + j → (∀ k', k + 1 ≤ k' → k' ≤ n → ∀ q, q < 512 → f (512 * k' + q) = lp_ro 100000000 P L fa cp (n - k') k' q) → (∀ q, q < s → f (512 * k + q) = lp_ro 100000000 P L fa cp (n - k) k q) → la_At ω κ (0, 0) 83 [some (.ref (ad 0)), some (.int (nI (n))), some (.int (nI (i))), some (.int (nI (k))), some (.int (nI (s))), x5, x6] [] (lm_W ω.2.2 ad ((nI 0, S, T, P, R, L, B, Kd, lt, C), (ra, rb, rl, fa), (aa, su), (cp, cl, cf, ck, cm, ct), (le, tr, f), (bh, so, br, rs, ce), (wh, wy))) := by
              intro j
              induction j with
              | zero => intro s f x5 x6 h1 h2; omega
              | succ j ihc =>
                intro s f x5 x6 h1 h2 hab hqs
                refine la_iload K dX5_plan_83 rfl ?_
                refine la_sipush K dX5_plan_85 la_ks_512 ?_
                refine la_icmp_geN K 246 dX5_plan_88 rfl (by omega) (by omega) (fun h88 => ?_) (fun h88 => ?_)
                · refine la_iinc3 K dX5_plan_246 (la_dec_R _) rfl ?_
                  refine la_goto K 76 dX5_plan_249 rfl ?_
                  have hnew : (∀ k', k ≤ k' → k' ≤ n → ∀ q, q < 512 → f (512 * k' + q) = lp_ro 100000000 P L fa cp (n - k') k' q) := by
                    intro k' h5 h6 q hq
                    by_cases e : k' = k
                    · subst e; exact hqs q (by omega)
                    · exact hab k' (by omega) h6 q hq
                  exact ihb _ _ _ _ (by omega) hnew
                · refine la_aload_n K dX5_plan_91 rfl ?_
                  refine lm_g_re K q856 dX5_plan_92 ?_
                  refine la_sipush K dX5_plan_95 la_ks_512 ?_
                  refine la_iload_n K dX5_plan_98 rfl ?_
                  refine la_imulN K dX5_plan_99 ?_
                  refine la_iload K dX5_plan_100 rfl ?_
                  refine la_iaddN K dX5_plan_102 ?_
                  refine la_ldc K q953 la_kl_100000000 dX5_plan_103 ?_
                  refine lm_st_re K (by omega) dX5_plan_105 ?_
                  have ld : ∀ (j l : Nat) (f : Nat → Nat) (v : Nat) (x6 : Option Value), l ≤ L → L < l + j → (∀ k', k + 1 ≤ k' → k' ≤ n → ∀ q, q < 512 → f (512 * k' + q) = lp_ro 100000000 P L fa cp (n - k') k' q) → (∀ q, q < s → f (512 * k + q) = lp_ro 100000000 P L fa cp (n - k) k q) → f (512 * k + s) = v → lp_mn 100000000 (lp_roQ 100000000 P L fa cp (n - (k + 1)) k s l) v → (l = 0 ∨ lp_sd P L s) → la_At ω κ (0, 0) 109 [some (.ref (ad 0)), some (.int (nI (n))), some (.int (nI (i))), some (.int (nI (k))), some (.int (nI (s))), some (.int (nI (l))), x6] [] (lm_W ω.2.2 ad ((nI 0, S, T, P, R, L, B, Kd, lt, C), (ra, rb, rl, fa), (aa, su), (cp, cl, cf, ck, cm, ct), (le, tr, f), (bh, so, br, rs, ce), (wh, wy))) := by
                    intro j
                    induction j with
                    | zero => intro l f v x6 h1 h2; omega
                    | succ j ihd =>
                      intro l f v x6 h1 h2 hab hqs hfv hv hz
                      refine la_iload K dX5_plan_109 rfl ?_
                      refine la_aload_n K dX5_plan_111 rfl ?_
                      refine lm_g_L K q836 dX5_plan_112 ?_
                      refine la_icmp_geN K 240 dX5_plan_115 rfl (by omega) (by omega) (fun h115 => ?_) (fun h115 => ?_)
                      · refine la_iinc4 K dX5_plan_240 (la_inc_N _) rfl ?_
                        refine la_goto K 83 dX5_plan_243 rfl ?_
                        exact ihc (s + 1) _ _ _ (by omega) (by omega) hab (lt_s hqs (by rw [hfv]; rw [show n - k = n - (k + 1) + 1 by omega]; exact lp_ro_in (hz.resolve_left (by omega)) (by rw [show l = L by omega] at hv; exact hv)))
                      · refine la_aload_n K dX5_plan_118 rfl ?_
                        refine la_aload_n K dX5_plan_119 rfl ?_
                        refine lm_g_L K q836 dX5_plan_120 ?_
                        refine la_iload K dX5_plan_123 rfl ?_
                        refine la_callVp K ok_X5_isStand q963 (lm_isStand _ hL3 hP) 0 rfl rfl rfl rfl rfl (Nat.le_of_ble_eq_true rfl) ⟨Nat.le_of_ble_eq_true rfl, Nat.le_of_ble_eq_true rfl⟩ ⟨Nat.zero_le _, Nat.zero_le _⟩ dX5_plan_125 ?_
                        refine la_if_eqB K 240 dX5_plan_128 rfl (fun h128 => ?_) (fun h128 => ?_)
                        · refine la_iinc4 K dX5_plan_240 (la_inc_N _) rfl ?_
                          refine la_goto K 83 dX5_plan_243 rfl ?_
                          exact ihc (s + 1) _ _ _ (by omega) (by omega) hab (lt_s hqs (by rw [hfv]; rw [show n - k = n - (k + 1) + 1 by omega, lp_ro_out (fun z => h128 ((lp_st_N (by omega)).mpr z))]; rw [show l = 0 from hz.resolve_right (fun z => h128 ((lp_st_N (by omega)).mpr z))] at hv; exact lp_mn_uniq hv lp_roQ_0))
                        · have hsd : lp_sd P L s := (lp_st_N (by omega)).mp h128
                          have hdg : lp_dg s l < P := hsd.2 l (by omega)
                          have hmv := lp_mv_lt (s := s) (l := l) (p := cp k) (by omega) (by omega) (by omega)
                          have hrv : (fa (6 * (s / 2 ^ (3 * l) % 8) + cp k) + f (512 * (k + 1) + lp_mv s l (cp k))) = lp_rv 100000000 P L fa cp (n - (k + 1)) k s l := by
                            rw [hab (k + 1) (by omega) (by omega) _ hmv]
                            rfl
                          have hbnd : lp_rv 100000000 P L fa cp (n - (k + 1)) k s l ≤ 200000000 := by
                            have := hd6 _ _ hdg hcpk
                            have := lp_ro_le (I := 100000000) (P := P) (L := L) (d := fa) (cp := cp) (n - (k + 1)) (k + 1) (lp_mv s l (cp k))
                            unfold lp_rv
                            omega
                          refine la_aload_n K dX5_plan_131 rfl ?_
                          refine lm_g_fa K q835 dX5_plan_132 ?_
                          refine la_bipush K dX5_plan_135 la_kb_6 ?_
                          refine la_iload K dX5_plan_137 rfl ?_
                          refine la_iconst K dX5_plan_139 la_ki_3 ?_
                          refine la_iload K dX5_plan_140 rfl ?_
                          refine la_imulN K dX5_plan_142 ?_
                          refine la_ishrN K dX5_plan_143 (by omega) (by omega) ?_
                          refine la_bipush K dX5_plan_144 la_kb_7 ?_
                          refine la_iand7 K dX5_plan_146 (by have := Nat.div_le_self s (2 ^ (3 * l)); omega) ?_
                          refine la_imulN K dX5_plan_147 ?_
                          refine la_aload_n K dX5_plan_148 rfl ?_
                          refine lm_g_cp K q843 dX5_plan_149 ?_
                          refine la_iload_n K dX5_plan_152 rfl ?_
                          refine lm_ld_cp K (by omega) dX5_plan_153 ?_
                          refine la_iaddN K dX5_plan_154 ?_
                          refine lm_ld_fa K (by unfold lp_dg at hdg; omega) dX5_plan_155 ?_
                          refine la_aload_n K dX5_plan_156 rfl ?_
                          refine lm_g_re K q856 dX5_plan_157 ?_
                          refine la_sipush K dX5_plan_160 la_ks_512 ?_
                          refine la_iload_n K dX5_plan_163 rfl ?_
                          refine la_iconst K dX5_plan_164 la_ki_1 ?_
                          refine la_iaddN K dX5_plan_165 ?_
                          refine la_imulN K dX5_plan_166 ?_
                          refine la_iload K dX5_plan_167 rfl ?_
                          refine la_iload K dX5_plan_169 rfl ?_
                          refine la_aload_n K dX5_plan_171 rfl ?_
                          refine lm_g_cp K q843 dX5_plan_172 ?_
                          refine la_iload_n K dX5_plan_175 rfl ?_
                          refine lm_ld_cp K (by omega) dX5_plan_176 ?_
                          refine la_callSp K ok_X5_moved q1013 (lm_moved (by omega) (by omega) (by omega) _) rfl rfl rfl (Nat.le_of_ble_eq_true rfl) ⟨Nat.le_of_ble_eq_true rfl, Nat.le_of_ble_eq_true rfl⟩ ⟨Nat.zero_le _, Nat.zero_le _⟩ dX5_plan_177 ?_
                          refine la_iaddN K dX5_plan_180 ?_
                          refine lm_ld_re K (by omega) dX5_plan_181 ?_
                          refine la_iaddN K dX5_plan_182 ?_
                          refine la_istore6 K dX5_plan_183 rfl ?_
                          refine la_aload_n K dX5_plan_185 rfl ?_
                          refine lm_g_re K q856 dX5_plan_186 ?_
                          refine la_sipush K dX5_plan_189 la_ks_512 ?_
                          refine la_iload_n K dX5_plan_192 rfl ?_
                          refine la_imulN K dX5_plan_193 ?_
                          refine la_iload K dX5_plan_194 rfl ?_
                          refine la_iaddN K dX5_plan_196 ?_
                          refine la_iload K dX5_plan_197 rfl ?_
                          refine la_aload_n K dX5_plan_199 rfl ?_
                          refine lm_g_re K q856 dX5_plan_200 ?_
                          refine la_sipush K dX5_plan_203 la_ks_512 ?_
                          refine la_iload_n K dX5_plan_206 rfl ?_
                          refine la_imulN K dX5_plan_207 ?_
                          refine la_iload K dX5_plan_208 rfl ?_
                          refine la_iaddN K dX5_plan_210 ?_
                          refine lm_ld_re K (by omega) dX5_plan_211 ?_
                          refine la_icmp_geN K 220 dX5_plan_212 rfl (by rw [hrv]; have := hbnd; omega) (by have := hv.1; omega) (fun h212 => ?_) (fun h212 => ?_)
                          · refine la_aload_n K dX5_plan_220 rfl ?_
                            refine lm_g_re K q856 dX5_plan_221 ?_
                            refine la_sipush K dX5_plan_224 la_ks_512 ?_
                            refine la_iload_n K dX5_plan_227 rfl ?_
                            refine la_imulN K dX5_plan_228 ?_
                            refine la_iload K dX5_plan_229 rfl ?_
                            refine la_iaddN K dX5_plan_231 ?_
                            refine lm_ld_re K (by omega) dX5_plan_232 ?_
                            refine lm_st_re K (by omega) dX5_plan_233 ?_
                            refine la_iinc5 K dX5_plan_234 (la_inc_N _) rfl ?_
                            refine la_goto K 109 dX5_plan_237 rfl ?_
                            exact ihd (l + 1) _ _ _ (by omega) (by omega) (fun k' h5 h6 q hq => by rw [va_up_ne _ _ (by omega)]; exact hab k' h5 h6 q hq) (fun q hq => by rw [va_up_ne _ _ (by omega)]; exact hqs q hq) (va_up_self _ _ _) (lp_roQ_step hv (by rw [← hrv]; omega)) (Or.inr hsd)
                          · refine la_iload K dX5_plan_215 rfl ?_
                            refine la_goto K 233 dX5_plan_217 rfl ?_
                            refine lm_st_re K (by omega) dX5_plan_233 ?_
                            refine la_iinc5 K dX5_plan_234 (la_inc_N _) rfl ?_
                            refine la_goto K 109 dX5_plan_237 rfl ?_
                            exact ihd (l + 1) _ _ _ (by omega) (by omega) (fun k' h5 h6 q hq => by rw [va_up_ne _ _ (by omega)]; exact hab k' h5 h6 q hq) (fun q hq => by rw [va_up_ne _ _ (by omega)]; exact hqs q hq) (va_up_self _ _ _) (lp_roQ_step hv (by rw [← hrv]; omega)) (Or.inr hsd)
                  refine la_iconst K dX5_plan_106 la_ki_0 ?_
                  refine la_istore5 K dX5_plan_107 rfl ?_
                  exact ld (L + 1) 0 _ _ _ (by omega) (by omega) (fun k' h5 h6 q hq => by rw [va_up_ne _ _ (by omega)]; exact hab k' h5 h6 q hq) (fun q hq => by rw [va_up_ne _ _ (by omega)]; exact hqs q hq) (va_up_self _ _ _) lp_roQ_0 (Or.inl rfl)
            exact lc_ 513 0 _ _ _ (by omega) (by omega) hB0 (fun q hq => by omega)
        have la_ : ∀ (j s : Nat) (f : Nat → Nat), s ≤ 512 → 512 < s + j → (∀ q, q < s → f (512 * n + q) = 0) → la_At ω κ (0, 0) 46 [some (.ref (ad 0)), some (.int (nI (n))), some (.int (nI (i))), some (.int (nI (s))), none, none, none] [] (lm_W ω.2.2 ad ((nI 0, S, T, P, R, L, B, Kd, lt, C), (ra, rb, rl, fa), (aa, su), (cp, cl, cf, ck, cm, ct), (le, tr, f), (bh, so, br, rs, ce), (wh, wy))) := by
          intro j
          induction j with
          | zero => intro s f h1 h2; omega
          | succ j iha =>
            intro s f h1 h2 hA
            refine la_iload_n K dX5_plan_46 rfl ?_
            refine la_sipush K dX5_plan_47 la_ks_512 ?_
            refine la_icmp_geN K 72 dX5_plan_50 rfl (by omega) (by omega) (fun h50 => ?_) (fun h50 => ?_)
            · refine la_iload_n K dX5_plan_72 rfl ?_
              refine la_iconst K dX5_plan_73 la_ki_1 ?_
              refine la_isub K dX5_plan_74 ?_
              refine la_istore3 K dX5_plan_75 rfl ?_
              have hB0 : (∀ k', n ≤ k' → k' ≤ n → ∀ q, q < 512 → f (512 * k' + q) = lp_ro 100000000 P L fa cp (n - k') k' q) := by
                intro k' h5 h6 q hq
                rw [show k' = n by omega, Nat.sub_self]
                exact hA q (by omega)
              exact lb_ n _ _ _ _ (Nat.le_refl n) hB0
            · refine la_aload_n K dX5_plan_53 rfl ?_
              refine lm_g_re K q856 dX5_plan_54 ?_
              refine la_sipush K dX5_plan_57 la_ks_512 ?_
              refine la_iload_n K dX5_plan_60 rfl ?_
              refine la_imulN K dX5_plan_61 ?_
              refine la_iload_n K dX5_plan_62 rfl ?_
              refine la_iaddN K dX5_plan_63 ?_
              refine la_iconst K dX5_plan_64 la_ki_0 ?_
              refine lm_st_re K (by omega) dX5_plan_65 ?_
              refine la_iinc3 K dX5_plan_66 (la_inc_N _) rfl ?_
              refine la_goto K 46 dX5_plan_69 rfl ?_
              exact iha (s + 1) _ (by omega) (by omega) (lt_s (fun q hq => by rw [va_up_ne _ _ (by omega)]; exact hA q hq) (va_up_self _ _ _))
        refine la_iconst K dX5_plan_44 la_ki_0 ?_
        refine la_istore3 K dX5_plan_45 rfl ?_
        exact la_ 513 0 _ (by omega) (by omega) (fun q hq => by omega)
      · refine la_iconst K dX5_plan_42 la_ki_m1 ?_
        exact hret _ _ _ _ dX5_plan_43 ⟨by unfold lp_plnA; rw [if_neg h9, if_neg (fun z => h39 (by rw [hn9.2]; exact (lp_intB i (by omega)).mpr z.2))], re, rfl⟩
  · refine la_bipush K dX5_plan_12 la_kb_m2 ?_
    exact hret _ _ _ _ dX5_plan_14 ⟨by unfold lp_plnA; rw [if_pos h9], re, rfl⟩
end LM10
