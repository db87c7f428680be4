/-! THE MODEL's METHODS, part 11: the worst row. Printed by m11.py. -/
section LM11
variable {ω : la_O} {ad : Nat → Nat} {th S lt : Int32} {T : Int64} {P R L B Kd C : Nat} {ra rb rl fa aa su cp cl cf ck cm le tr re bh so br wh wy : Nat → Nat} {ct rs : Nat → Int32} {ce : Nat → Int64}
theorem lp_nneg {p : Nat} (h : p < 2 ^ 31) : ¬ nI p ≤ -1 := fun e => by
  rw [Int32.le_iff_toInt_le, nI_toInt h] at e
  have b : (-1 : Int32).toInt = -1 := by decide
  omega
set_option maxHeartbeats 4000000 in
theorem lm_worst (n wt : Int32) (hJ : lm_J ((th, S, T, P, R, L, B, Kd, lt, C), (ra, rb, rl, fa), (aa, su), (cp, cl, cf, ck, cm, ct), (le, tr, re), (bh, so, br, rs, ce), (wh, wy))) : la_CI ω yX5_worst cX5_worst 17 (some .int) (la_rm 4) [.ref (ad 0), .int n, .int wt] (lm_W ω.2.2 ad ((th, S, T, P, R, L, B, Kd, lt, C), (ra, rb, rl, fa), (aa, su), (cp, cl, cf, ck, cm, ct), (le, tr, re), (bh, so, br, rs, ce), (wh, wy))) (lm_W ω.2.2 ad) (fun (r : Int32) (u : lm_S) => r = lp_woA P L B Kd fa T n wt ∧ ∃ wh' wy' tr', u = ((nI 0, S, (lp_woT P L B Kd fa T n wt), P, R, L, B, Kd, lt, C), (ra, rb, rl, fa), (aa, su), (cp, cl, cf, ck, cm, ct), (le, tr', re), (bh, so, br, rs, ce), (wh', wy')) ∧ ∀ i, tr' i ≤ 100000000) := by
  refine la_CI_of (by decide) [some (.ref (ad 0)), some (.int (n)), some (.int (wt)), none, none, none, none, none, none, none, none, none, none, none, none, none, none] rfl rfl (Nat.le_of_ble_eq_true rfl) ?_
  intro κ K hret
  have hJx : lm_Jx P R L B C Kd lt ra rb rl fa aa su cp cl cf ck cm ct le tr := hJ
  have hJ2 := hJx
  obtain ⟨hP, hR, hro, hL3, hC12, hKd, hLC, hle, htr, hDay⟩ := hJ2
  refine la_aload_n K dX5_worst_0 rfl ?_
  refine la_iconst K dX5_worst_1 la_ki_0 ?_
  refine lm_p_th K q827 dX5_worst_2 ?_
  refine la_aload_n K dX5_worst_5 rfl ?_
  refine lm_g_L K q836 dX5_worst_6 ?_
  refine la_if_neN K 15 dX5_worst_9 rfl (by omega) (fun h9 => ?_) (fun h9 => ?_)
  · refine la_iload_n K dX5_worst_15 rfl ?_
    refine la_i2l K dX5_worst_16 rfl ?_
    refine la_lconst K dX5_worst_17 la_kn_1 ?_
    refine la_ldc2 K q962 la_kL_3 dX5_worst_18 ?_
    refine la_callSp K ok_X5_in q937 (lm_in _ _ _ _) rfl rfl rfl (Nat.le_of_ble_eq_true rfl) ⟨Nat.le_of_ble_eq_true rfl, Nat.le_of_ble_eq_true rfl⟩ ⟨Nat.zero_le _, Nat.zero_le _⟩ dX5_worst_21 ?_
    refine la_if_eqC K 39 dX5_worst_24 rfl (fun h24 => ?_) (fun h24 => ?_)
    · refine la_iconst K dX5_worst_39 la_ki_m1 ?_
      exact hret _ _ _ _ dX5_worst_40 ⟨by unfold lp_woA; rw [if_neg h9, if_neg (fun z => h24 ((lp_ints n (by decide) (by decide)).mpr z.1))], wh, wy, tr, by unfold lp_woT; rw [if_neg h9, if_neg (fun z => h24 ((lp_ints n (by decide) (by decide)).mpr z.1))], htr⟩
    · refine la_iload_n K dX5_worst_27 rfl ?_
      refine la_i2l K dX5_worst_28 rfl ?_
      refine la_lconst K dX5_worst_29 la_kn_0 ?_
      refine la_ldc2 K q1083 la_kL_2 dX5_worst_30 ?_
      refine la_callSp K ok_X5_in q937 (lm_in _ _ _ _) rfl rfl rfl (Nat.le_of_ble_eq_true rfl) ⟨Nat.le_of_ble_eq_true rfl, Nat.le_of_ble_eq_true rfl⟩ ⟨Nat.zero_le _, Nat.zero_le _⟩ dX5_worst_33 ?_
      refine la_if_neC K 41 dX5_worst_36 rfl (fun h36 => ?_) (fun h36 => ?_)
      · have hL1 : 1 ≤ L := by omega
        have hD0 := hDay hL1
        have hn0 := (lp_ints n (by decide) (by decide)).mp h24
        have hw9 := (lp_ints wt (by decide) (by decide)).mp h36
        obtain ⟨n, hn1, hn3, rfl⟩ := lp_inI_N hn0 (by decide)
        obtain ⟨wt, -, hwt, rfl⟩ := lp_inI_N hw9 (by decide)
        have hB5 := lp_sd_lt hD0.1 hL3
        have hP1 : 1 ≤ P := by have := hD0.1.2 0 (by omega); omega
        have hpw := lp_pw216 hP hP1 hn3
        have lr : ∀ ro, ro = P ^ n → ∀ (j r : Nat) (w : Option (Nat × Nat × Nat)) (T0 : Int64) (wh0 wy0 tr0 : Nat → Nat) (x9 x10 x11 x12 x13 x14 x15 x16 : Option Value), r ≤ (P ^ n) → (P ^ n) < r + j → lp_wfd L fa B Kd n T (lp_rowsM P n r) = (w, T0) → lp_wok w → (∀ i, tr0 i ≤ 100000000) → la_At ω κ (0, 0) 100 [some (.ref (ad 0)), some (.int (nI (n))), some (.int (nI (wt))), some (.int (nI (ro))), some (.int (lp_wb w)), some (.int (nI (lp_wo 0 w))), some (.int (nI (lp_wo 1 w))), some (.int (nI (lp_wo 2 w))), some (.int (nI (r))), x9, x10, x11, x12, x13, x14, x15, x16] [] (lm_W ω.2.2 ad ((nI 0, S, T0, P, R, L, B, Kd, lt, C), (ra, rb, rl, fa), (aa, su), (cp, cl, cf, ck, cm, ct), (le, tr0, re), (bh, so, br, rs, ce), (wh0, wy0))) := by
          intro ro hro0 j
          induction j with
          | zero => intro r w T0 wh0 wy0 tr0 x9 x10 x11 x12 x13 x14 x15 x16 h1 h2; omega
          | succ j ihr =>
            intro r w T0 wh0 wy0 tr0 x9 x10 x11 x12 x13 x14 x15 x16 h1 h2 hw0 hwok htr1
            refine la_iload K dX5_worst_100 rfl ?_
            refine la_iload_n K dX5_worst_102 rfl ?_
            refine la_icmp_geN K 385 dX5_worst_103 rfl (by omega) (by omega) (fun h103 => ?_) (fun h103 => ?_)
            · refine la_iload_n K dX5_worst_385 rfl ?_
              refine la_if_neN K 394 dX5_worst_386 rfl (by omega) (fun h386 => ?_) (fun h386 => ?_)
              · refine la_iload_n K dX5_worst_394 rfl ?_
                refine la_iconst K dX5_worst_395 la_ki_1 ?_
                refine la_icmp_neN K 404 dX5_worst_396 rfl (by omega) (by omega) (fun h396 => ?_) (fun h396 => ?_)
                · refine la_iload K dX5_worst_404 rfl ?_
                  have hend : lp_wfd L fa B Kd n T (lp_rowsM P n (P ^ n)) = (w, T0) := by
                    rw [show P ^ n = r by omega]
                    exact hw0
                  exact hret _ _ _ _ dX5_worst_406 ⟨by unfold lp_woA; rw [if_neg (by omega), if_pos ⟨hn0, hw9⟩, nI_clamp (by omega), nI_clamp (by omega), ← lp_rows_eq hP hn3, hend]; show nI (lp_wo 2 w) = nI (lp_wo wt w); rw [show wt = 2 by omega], wh0, wy0, tr0, by unfold lp_woT; rw [if_neg (by omega), if_pos ⟨hn0, hw9⟩, nI_clamp (by omega), ← lp_rows_eq hP hn3, hend], htr1⟩
                · refine la_iload K dX5_worst_399 rfl ?_
                  refine la_goto K 406 dX5_worst_401 rfl ?_
                  have hend : lp_wfd L fa B Kd n T (lp_rowsM P n (P ^ n)) = (w, T0) := by
                    rw [show P ^ n = r by omega]
                    exact hw0
                  exact hret _ _ _ _ dX5_worst_406 ⟨by unfold lp_woA; rw [if_neg (by omega), if_pos ⟨hn0, hw9⟩, nI_clamp (by omega), nI_clamp (by omega), ← lp_rows_eq hP hn3, hend]; show nI (lp_wo 1 w) = nI (lp_wo wt w); rw [h396], wh0, wy0, tr0, by unfold lp_woT; rw [if_neg (by omega), if_pos ⟨hn0, hw9⟩, nI_clamp (by omega), ← lp_rows_eq hP hn3, hend], htr1⟩
              · refine la_iload K dX5_worst_389 rfl ?_
                refine la_goto K 406 dX5_worst_391 rfl ?_
                have hend : lp_wfd L fa B Kd n T (lp_rowsM P n (P ^ n)) = (w, T0) := by
                  rw [show P ^ n = r by omega]
                  exact hw0
                exact hret _ _ _ _ dX5_worst_406 ⟨by unfold lp_woA; rw [if_neg (by omega), if_pos ⟨hn0, hw9⟩, nI_clamp (by omega), nI_clamp (by omega), ← lp_rows_eq hP hn3, hend]; show nI (lp_wo 0 w) = nI (lp_wo wt w); rw [h386], wh0, wy0, tr0, by unfold lp_woT; rw [if_neg (by omega), if_pos ⟨hn0, hw9⟩, nI_clamp (by omega), ← lp_rows_eq hP hn3, hend], htr1⟩
            · have lk : ∀ (j k : Nat) (T1 : Int64) (wh1 wy1 tr1 g1 g2 g3 g4 g5 : Nat → Nat) (g6 : Nat → Int32) (tn : Int32) (num cost by_ : Nat) (x14 x15 x16 : Option Value), k ≤ n → n < k + j → lm_Jx P R L B (k) Kd (tn) ra rb rl fa (wh1) (wy1) (g1) (g2) (g3) (g4) (g5) (g6) (tr1) (le) → (∀ i, i < k → g1 i = (lp_pd n (lp_xn P n r n)) i) → (∀ i, i < k → g2 i = lp_wl L fa B Kd (lp_pd n (lp_xn P n r n)) k i) → (∀ i, i < k → g4 i = Kd) → num = lp_xn P n r k → cost = lp_tot (fun i => lp_cf fa B (lp_pd n (lp_xn P n r n)) (lp_wl L fa B Kd (lp_pd n (lp_xn P n r n)) k) i) k → T1 = lp_wtr L fa B Kd (lp_pd n (lp_xn P n r n)) T0 k → by_ = P ^ (n - k) → la_At ω κ (0, 0) 171 [some (.ref (ad 0)), some (.int (nI (n))), some (.int (nI (wt))), some (.int (nI (ro))), some (.int (lp_wb w)), some (.int (nI (lp_wo 0 w))), some (.int (nI (lp_wo 1 w))), some (.int (nI (lp_wo 2 w))), some (.int (nI (r))), some (.int (tn)), some (.int (nI (num))), some (.int (nI (cost))), some (.int (nI (by_))), some (.int (nI (k))), x14, x15, x16] [] (lm_W ω.2.2 ad ((nI 0, S, T1, P, R, L, B, Kd, lt, C), (ra, rb, rl, fa), (aa, su), (cp, cl, cf, ck, cm, ct), (le, tr1, re), (bh, so, br, rs, ce), (wh1, wy1))) := by
                intro j
                induction j with
                | zero => intro k T1 wh1 wy1 tr1 g1 g2 g3 g4 g5 g6 tn num cost by_ x14 x15 x16 h1 h2; omega
                | succ j ihk =>
                  intro k T1 wh1 wy1 tr1 g1 g2 g3 g4 g5 g6 tn num cost by_ x14 x15 x16 h1 h2 hJ1 h1g h2g h4g hnu hco hT1 hby
                  have hbk := lp_pw216 hP hP1 (n := n - k) (by omega)
                  have hD := hJ1.2.2.2.2.2.2.2.2.2 hL1
                  have hg : ∀ s, s < 512 → tr1 (512 * k + s) = lp_rw L fa B g1 k s := fun s hs => hD.2.2.2.2.2.2.2.2.2.2.2.2 k (Nat.le_refl k) s hs
                  have hS := lm_aaP hJ1 hD
                  have hw : ∀ i, i < L → wh1 i < P := fun i hi => by rw [hD.2.2.2.2.2.2.1 i hi]; exact hS.2 i hi
                  have hfa := lm_fa36 hD
                  have htm := lp_tm_le (L := L) (B := B) (cp := g1) (cl := g2) (ck := g4) hL3 hD.2.2.1 k (Nat.le_refl k)
                  have hsu : ∀ i, i < L → wy1 i ≤ 100000000 := fun i hi => by
                    rw [hD.2.2.2.2.2.2.2.1 i hi]
                    have := lp_sm_le hP hL3 hD.1 hD.2.1 hD.2.2.1 (lm_fa6 hJ1 hD) i k (Nat.le_refl k)
                    omega
                  have hst : ∀ s, s < 512 → tr1 (512 * k + s) < 100000000 → lp_sd P L s := fun s hs h => lp_rw_stand hP hL3 hD.1 hD.2.1 k (Nat.le_refl k) s (by rw [← hg s hs]; exact h)
                  have hcost := (lp_rw_path hP hL3 hD.1 hD.2.1 hD.2.2.1 (lm_fa6 hJ1 hD) k (Nat.le_refl k) (by omega)).2
                  have ecost : cost = lp_tot (fun i => lp_cf fa B g1 g2 i) k := by
                    rw [hco]
                    exact lp_tot_congr k (fun i hi => (lp_cf_congr (C := k) h1g h2g hi).symm)
                  refine la_iload K dX5_worst_171 rfl ?_
                  refine la_iload_n K dX5_worst_173 rfl ?_
                  refine la_icmp_geN K 336 dX5_worst_174 rfl (by omega) (by omega) (fun h174 => ?_) (fun h174 => ?_)
                  · refine la_aload_n K dX5_worst_336 rfl ?_
                    refine lm_g_tr K q850 dX5_worst_337 ?_
                    refine la_sipush K dX5_worst_340 la_ks_512 ?_
                    refine la_iload_n K dX5_worst_343 rfl ?_
                    refine la_imulN K dX5_worst_344 ?_
                    refine la_callSp K ok_X5_leastOf q1068 (lm_leastOfT (by omega) hJ1.2.2.2.2.2.2.2.1) rfl rfl rfl (Nat.le_of_ble_eq_true rfl) ⟨Nat.le_of_ble_eq_true rfl, Nat.le_of_ble_eq_true rfl⟩ ⟨Nat.zero_le _, Nat.zero_le _⟩ dX5_worst_345 ?_
                    have hkn : n = k := by omega
                    subst hkn
                    have elo : lp_min 100000000 (lp_LQ (fun s => tr1 (512 * n + s)) 512) = lp_lo L fa B (lp_pd n (lp_xn P n r n)) n := by
                      refine (lp_LQ_congr (fun s hs => hg s hs)).trans ?_
                      unfold lp_lo
                      rw [lp_rw_congr (C := n) h1g n (Nat.le_refl n)]
                    have hcw : cost = lp_wct L fa B Kd (lp_pd n (lp_xn P n r n)) n := hco
                    have hlc : lp_lo L fa B (lp_pd n (lp_xn P n r n)) n ≤ cost := by
                      rw [hco]
                      exact lp_lo_le hP hL3 hD.1 (fun i hi => by rw [← h1g i hi]; exact hD.2.1 i hi) (fun i hi => by rw [← h2g i hi]; exact hD.2.2.1 i hi) (lm_fa6 hJ1 hD) (by omega)
                    rw [elo]
                    have hst1 : lp_wst L fa B Kd n (lp_wfd L fa B Kd n T (lp_rowsM P n r)) (lp_xn P n r n) = (lp_wup w num cost (lp_lo L fa B (lp_pd n (lp_xn P n r n)) n), T1) := by
                      unfold lp_wst
                      rw [hw0, hT1, hnu, hcw]
                    have hnext := (congrArg (lp_wfd L fa B Kd n T) (lp_rowsM_succ P n r)).trans ((lp_wfd_add L fa B Kd n T (lp_rowsM P n r) (lp_xn P n r n)).trans hst1)
                    have hwk := lp_wok_up (x := num) hwok hlc (by omega)
                    rcases w with _ | ⟨x0, c0, l0⟩
                    · skip
                      refine la_istore13 K dX5_worst_348 rfl ?_
                      refine la_iload K dX5_worst_350 rfl ?_
                      refine la_iload K dX5_worst_352 rfl ?_
                      refine la_isubN K dX5_worst_354 (by omega) ?_
                      refine la_iload K dX5_worst_355 rfl ?_
                      refine la_icmp_le K 379 dX5_worst_357 rfl (fun h357 => absurd h357 (lp_nneg (by omega))) (fun h357 => ?_)
                      refine la_iload K dX5_worst_360 rfl ?_
                      refine la_iload K dX5_worst_362 rfl ?_
                      refine la_isubN K dX5_worst_364 (by omega) ?_
                      refine la_istore4 K dX5_worst_365 rfl ?_
                      refine la_iload K dX5_worst_367 rfl ?_
                      refine la_istore5 K dX5_worst_369 rfl ?_
                      refine la_iload K dX5_worst_371 rfl ?_
                      refine la_istore6 K dX5_worst_373 rfl ?_
                      refine la_iload K dX5_worst_375 rfl ?_
                      refine la_istore7 K dX5_worst_377 rfl ?_
                      refine la_iinc8 K dX5_worst_379 (la_inc_N _) rfl ?_
                      refine la_goto K 100 dX5_worst_382 rfl ?_
                      exact ihr (r + 1) (some (num, cost, lp_lo L fa B (lp_pd n (lp_xn P n r n)) n)) T1 wh1 wy1 tr1 _ _ _ _ _ _ _ _ (by omega) (by omega) hnext hwk hJ1.2.2.2.2.2.2.2.1
                    have hok0 := hwok x0 c0 l0 rfl
                    have hev : lp_wb (some (x0, c0, l0)) = nI (c0 - l0) := rfl
                    rw [hev]
                    refine la_istore13 K dX5_worst_348 rfl ?_
                    refine la_iload K dX5_worst_350 rfl ?_
                    refine la_iload K dX5_worst_352 rfl ?_
                    refine la_isubN K dX5_worst_354 (by omega) ?_
                    refine la_iload K dX5_worst_355 rfl ?_
                    refine la_icmp_leN K 379 dX5_worst_357 rfl (by omega) (by omega) (fun h357 => ?_) (fun h357 => ?_)
                    · refine la_iinc8 K dX5_worst_379 (la_inc_N _) rfl ?_
                      refine la_goto K 100 dX5_worst_382 rfl ?_
                      have e7 : lp_wup (some (x0, c0, l0)) num cost (lp_lo L fa B (lp_pd n (lp_xn P n r n)) n) = some (x0, c0, l0) := if_neg (by omega)
                      rw [e7] at hnext hwk
                      exact ihr (r + 1) (some (x0, c0, l0)) T1 wh1 wy1 tr1 _ _ _ _ _ _ _ _ (by omega) (by omega) hnext hwk hJ1.2.2.2.2.2.2.2.1
                    · refine la_iload K dX5_worst_360 rfl ?_
                      refine la_iload K dX5_worst_362 rfl ?_
                      refine la_isubN K dX5_worst_364 (by omega) ?_
                      refine la_istore4 K dX5_worst_365 rfl ?_
                      refine la_iload K dX5_worst_367 rfl ?_
                      refine la_istore5 K dX5_worst_369 rfl ?_
                      refine la_iload K dX5_worst_371 rfl ?_
                      refine la_istore6 K dX5_worst_373 rfl ?_
                      refine la_iload K dX5_worst_375 rfl ?_
                      refine la_istore7 K dX5_worst_377 rfl ?_
                      refine la_iinc8 K dX5_worst_379 (la_inc_N _) rfl ?_
                      refine la_goto K 100 dX5_worst_382 rfl ?_
                      have e7 : lp_wup (some (x0, c0, l0)) num cost (lp_lo L fa B (lp_pd n (lp_xn P n r n)) n) = some (num, cost, lp_lo L fa B (lp_pd n (lp_xn P n r n)) n) := if_pos (by omega)
                      rw [e7] at hnext hwk
                      exact ihr (r + 1) (some (num, cost, lp_lo L fa B (lp_pd n (lp_xn P n r n)) n)) T1 wh1 wy1 tr1 _ _ _ _ _ _ _ _ (by omega) (by omega) hnext hwk hJ1.2.2.2.2.2.2.2.1
                  · obtain ⟨p, hp0⟩ : ∃ p, p = (lp_pd n (lp_xn P n r n)) k := ⟨_, rfl⟩
                    have hby2 : by_ / P = P ^ (n - 1 - k) := by
                      rw [hby, show n - k = n - 1 - k + 1 by omega]
                      exact lp_pw_div hP1
                    have hpl : r / (by_ / P) % P = p := by
                      rw [hby2, hp0]
                      exact (lp_xn_pd hP hP1 hn3 (by omega)).symm
                    have hp : p < P := by rw [← hpl]; exact Nat.mod_lt _ (by omega)
                    have hpwn := lp_pw216 hP hP1 (n := n - 1 - k) (by omega)
                    refine la_iload K dX5_worst_177 rfl ?_
                    refine la_aload_n K dX5_worst_179 rfl ?_
                    refine lm_g_P K q830 dX5_worst_180 ?_
                    refine la_idivN K dX5_worst_183 (by omega) (by omega) (by omega) ?_
                    refine la_istore12 K dX5_worst_184 rfl ?_
                    refine la_iload K dX5_worst_186 rfl ?_
                    refine la_iload K dX5_worst_188 rfl ?_
                    have hb3 : 0 < by_ / P := by rw [hby2]; omega
                    refine la_idivN K dX5_worst_190 (by omega) (by rw [hby2]; omega) (by omega) ?_
                    refine la_aload_n K dX5_worst_191 rfl ?_
                    refine lm_g_P K q830 dX5_worst_192 ?_
                    refine la_iremN K dX5_worst_195 (by omega) (by omega) (by have := Nat.div_le_self r (by_ / P); omega) ?_
                    rw [hpl]
                    refine la_istore14 K dX5_worst_196 rfl ?_
                    refine la_aload_n K dX5_worst_198 rfl ?_
                    refine la_aload_n K dX5_worst_199 rfl ?_
                    refine lm_g_wh K q857 dX5_worst_200 ?_
                    refine la_aload_n K dX5_worst_203 rfl ?_
                    refine lm_g_wy K q858 dX5_worst_204 ?_
                    refine la_iload K dX5_worst_207 rfl ?_
                    refine la_aload_n K dX5_worst_209 rfl ?_
                    refine lm_g_tr K q850 dX5_worst_210 ?_
                    refine la_sipush K dX5_worst_213 la_ks_512 ?_
                    refine la_iload K dX5_worst_216 rfl ?_
                    refine la_imulN K dX5_worst_218 ?_
                    refine la_iload K dX5_worst_219 rfl ?_
                    refine la_callVi0 K ok_X5_chosen q991 (lm_chosenWT (x := lp_sn B g1 g2 k) hP hL1 hL3 hp hfa hw hsu hKd hD.2.2.2.2.2.2.2.2.1 (by omega) (by omega) hJ1.2.2.2.2.2.2.2.1 hst hS hD.2.2.2.2.2.2.1 (fun _ _ _ => lm_hah hJ1 hL1 hD hp hg)) 0 rfl rfl rfl rfl rfl (Nat.le_of_ble_eq_true rfl) ⟨Nat.le_of_ble_eq_true rfl, Nat.le_of_ble_eq_true rfl⟩ ⟨Nat.zero_le _, Nat.zero_le _⟩ dX5_worst_221 (fun r221 u221 p221 => ?_)
                    obtain ⟨hr, f, T2, hT2, rfl, hk1, hf1⟩ := p221
                    rw [lm_cho hD p hg] at hr
                    rw [propext (lm_there hD p)] at hT2
                    subst hT2
                    obtain ⟨l, hl⟩ : ∃ l, l = lp_cho L fa B g1 g2 g4 k Kd p := ⟨_, rfl⟩
                    have hlL : l < L := by rw [hl]; exact lp_cho_lt hL1
                    rw [← hl] at hr
                    subst hr
                    have hg2 : ∀ s, s < 512 → f (512 * k + s) = lp_rw L fa B g1 k s := fun s hs => (hk1 _ (by omega)).trans (hg s hs)
                    have hst2 : ∀ s, s < 512 → f (512 * k + s) < 100000000 → lp_sd P L s := fun s hs h => lp_rw_stand hP hL3 hD.1 hD.2.1 k (Nat.le_refl k) s (by rw [← hg2 s hs]; exact h)
                    have hwl := hw l hlL
                    have elw : l = (lp_wl L fa B Kd (lp_pd n (lp_xn P n r n)) (k + 1)) k := by
                      rw [hl, lp_wl, va_up_self, ← hp0]
                      exact lp_cho_congr h1g h2g h4g
                    have hD6 := lm_fa6 hJ1 hD
                    have hcf6 : fa (6 * wh1 l + p) ≤ 6400 := hD6 _ _ hwl hp
                    have hsu6 := hsu l hlL
                    refine la_istore15 K dX5_worst_224 rfl ?_
                    refine la_aload_n K dX5_worst_226 rfl ?_
                    refine lm_g_Kd K q838 dX5_worst_227 ?_
                    refine la_iconst K dX5_worst_230 la_ki_2 ?_
                    refine la_icmp_neN K 252 dX5_worst_231 rfl (by omega) (by omega) (fun h231 => ?_) (fun h231 => ?_)
                    · refine la_iload K dX5_worst_252 rfl ?_
                      refine la_istore9 K dX5_worst_254 rfl ?_
                      refine la_aload_n K dX5_worst_256 rfl ?_
                      refine lm_g_fa K q835 dX5_worst_257 ?_
                      refine la_bipush K dX5_worst_260 la_kb_6 ?_
                      refine la_aload_n K dX5_worst_262 rfl ?_
                      refine lm_g_wh K q857 dX5_worst_263 ?_
                      refine la_iload K dX5_worst_266 rfl ?_
                      refine lm_ld_wh K (by omega) dX5_worst_268 ?_
                      refine la_imulN K dX5_worst_269 ?_
                      refine la_iload K dX5_worst_270 rfl ?_
                      refine la_iaddN K dX5_worst_272 ?_
                      refine lm_ld_fa K (by omega) dX5_worst_273 ?_
                      refine la_istore16 K dX5_worst_274 rfl ?_
                      refine la_aload_n K dX5_worst_276 rfl ?_
                      refine la_aload_n K dX5_worst_277 rfl ?_
                      refine lm_g_tr K q850 dX5_worst_278 ?_
                      refine la_sipush K dX5_worst_281 la_ks_512 ?_
                      refine la_iload K dX5_worst_284 rfl ?_
                      refine la_imulN K dX5_worst_286 ?_
                      refine la_iload K dX5_worst_287 rfl ?_
                      refine la_callVv0 K ok_X5_serves q1009 (lm_servesT hP hL3 hp hfa (by omega) hf1 hst2) 0 rfl rfl rfl rfl rfl (Nat.le_of_ble_eq_true rfl) ⟨Nat.le_of_ble_eq_true rfl, Nat.le_of_ble_eq_true rfl⟩ ⟨Nat.zero_le _, Nat.zero_le _⟩ dX5_worst_289 (fun u289 p289 => ?_)
                      obtain ⟨f2, rfl, hk2, hf2, hmn⟩ := p289
                      refine la_iload K dX5_worst_292 rfl ?_
                      refine la_iload K dX5_worst_294 rfl ?_
                      refine la_iaddN K dX5_worst_296 ?_
                      refine la_istore11 K dX5_worst_297 rfl ?_
                      refine la_aload_n K dX5_worst_299 rfl ?_
                      refine lm_g_wy K q858 dX5_worst_300 ?_
                      refine la_iload K dX5_worst_303 rfl ?_
                      refine la_dup2 K dX5_worst_305 rfl rfl ?_
                      refine lm_ld_wy K (by omega) dX5_worst_306 ?_
                      refine la_iload K dX5_worst_307 rfl ?_
                      refine la_iaddN K dX5_worst_309 ?_
                      refine lm_st_wy K (by omega) dX5_worst_310 ?_
                      refine la_aload_n K dX5_worst_311 rfl ?_
                      refine lm_g_wh K q857 dX5_worst_312 ?_
                      refine la_iload K dX5_worst_315 rfl ?_
                      refine la_iload K dX5_worst_317 rfl ?_
                      refine lm_st_wh K (by omega) dX5_worst_319 ?_
                      refine la_bipush K dX5_worst_320 la_kb_8 ?_
                      refine la_iload K dX5_worst_322 rfl ?_
                      refine la_imulN K dX5_worst_324 ?_
                      refine la_iload K dX5_worst_325 rfl ?_
                      refine la_iaddN K dX5_worst_327 ?_
                      refine la_istore10 K dX5_worst_328 rfl ?_
                      refine la_iinc13 K dX5_worst_330 (la_inc_N _) rfl ?_
                      refine la_goto K 171 dX5_worst_333 rfl ?_
                      have hco2 : cost + fa (6 * wh1 l + p) = lp_tot (fun i => lp_cf fa B (lp_pd n (lp_xn P n r n)) (lp_wl L fa B Kd (lp_pd n (lp_xn P n r n)) (k + 1)) i) (k + 1) := by
                        have c1 : ∀ i, i < k → (lp_wl L fa B Kd (lp_pd n (lp_xn P n r n))) k i = (lp_wl L fa B Kd (lp_pd n (lp_xn P n r n)) (k + 1)) i := fun i hi => (lp_wl_keep hi).trans (lp_wl_keep (by omega)).symm
                        rw [lp_tot, hco]
                        have e8 : lp_tot (fun i => lp_cf fa B (lp_pd n (lp_xn P n r n)) (lp_wl L fa B Kd (lp_pd n (lp_xn P n r n)) k) i) k = lp_tot (fun i => lp_cf fa B (lp_pd n (lp_xn P n r n)) (lp_wl L fa B Kd (lp_pd n (lp_xn P n r n)) (k + 1)) i) k := lp_tot_congr k (fun i hi => lp_cf_congr (C := k) (fun _ _ => rfl) c1 hi)
                        rw [e8]
                        have e9 : lp_cf fa B (lp_pd n (lp_xn P n r n)) (lp_wl L fa B Kd (lp_pd n (lp_xn P n r n)) (k + 1)) k = fa (6 * wh1 l + p) := by
                          unfold lp_cf
                          rw [← lp_sn_congr (C := k) h1g (fun i hi => (h2g i hi).trans (c1 i hi)) k (Nat.le_refl k), ← elw, ← hp0, hD.2.2.2.2.2.2.1 l hlL]
                        rw [e9]
                      exact ihk (k + 1) _ _ _ _ _ _ _ _ _ _ _ _ _ _ _ _ _ (by omega) (by omega) (lm_step hJ1 hL1 (by omega) hp hlL (fun z => absurd z.1 h231) (fun z => rfl) (fun i hi => (hk2 i (by omega)).trans (hk1 i (by omega))) hf2 hg2 hmn) (lt_s (fun i hi => (va_up_ne _ _ (by omega)).trans (h1g i hi)) (by rw [va_up_self, hp0])) (lt_s (fun i hi => ((va_up_ne _ _ (by omega)).trans (h2g i hi)).trans ((lp_wl_keep hi).trans (lp_wl_keep (by omega)).symm)) (by rw [va_up_self, elw])) (lt_s (fun i hi => (va_up_ne _ _ (by omega)).trans (h4g i hi)) (va_up_self _ _ _)) (by rw [lp_xn, ← hby2, hpl, hnu]) hco2 (by rw [lp_wtr, hT1, ← hp0, lp_sn_congr (C := k) h1g h2g k (Nat.le_refl k)]) (by rw [hby2]; congr 1; omega)
                    · refine la_aload_n K dX5_worst_234 rfl ?_
                      refine la_aload_n K dX5_worst_235 rfl ?_
                      refine lm_g_wh K q857 dX5_worst_236 ?_
                      refine la_iload K dX5_worst_239 rfl ?_
                      refine la_callVp K ok_X5_isThere q995 (lm_isThereW hP hL3 hp hw) 0 rfl rfl rfl rfl rfl (Nat.le_of_ble_eq_true rfl) ⟨Nat.le_of_ble_eq_true rfl, Nat.le_of_ble_eq_true rfl⟩ ⟨Nat.zero_le _, Nat.zero_le _⟩ dX5_worst_241 ?_
                      refine la_if_neB K 252 dX5_worst_244 rfl (fun h244 => ?_) (fun h244 => ?_)
                      · refine la_iload K dX5_worst_252 rfl ?_
                        refine la_istore9 K dX5_worst_254 rfl ?_
                        refine la_aload_n K dX5_worst_256 rfl ?_
                        refine lm_g_fa K q835 dX5_worst_257 ?_
                        refine la_bipush K dX5_worst_260 la_kb_6 ?_
                        refine la_aload_n K dX5_worst_262 rfl ?_
                        refine lm_g_wh K q857 dX5_worst_263 ?_
                        refine la_iload K dX5_worst_266 rfl ?_
                        refine lm_ld_wh K (by omega) dX5_worst_268 ?_
                        refine la_imulN K dX5_worst_269 ?_
                        refine la_iload K dX5_worst_270 rfl ?_
                        refine la_iaddN K dX5_worst_272 ?_
                        refine lm_ld_fa K (by omega) dX5_worst_273 ?_
                        refine la_istore16 K dX5_worst_274 rfl ?_
                        refine la_aload_n K dX5_worst_276 rfl ?_
                        refine la_aload_n K dX5_worst_277 rfl ?_
                        refine lm_g_tr K q850 dX5_worst_278 ?_
                        refine la_sipush K dX5_worst_281 la_ks_512 ?_
                        refine la_iload K dX5_worst_284 rfl ?_
                        refine la_imulN K dX5_worst_286 ?_
                        refine la_iload K dX5_worst_287 rfl ?_
                        refine la_callVv0 K ok_X5_serves q1009 (lm_servesT hP hL3 hp hfa (by omega) hf1 hst2) 0 rfl rfl rfl rfl rfl (Nat.le_of_ble_eq_true rfl) ⟨Nat.le_of_ble_eq_true rfl, Nat.le_of_ble_eq_true rfl⟩ ⟨Nat.zero_le _, Nat.zero_le _⟩ dX5_worst_289 (fun u289 p289 => ?_)
                        obtain ⟨f2, rfl, hk2, hf2, hmn⟩ := p289
                        refine la_iload K dX5_worst_292 rfl ?_
                        refine la_iload K dX5_worst_294 rfl ?_
                        refine la_iaddN K dX5_worst_296 ?_
                        refine la_istore11 K dX5_worst_297 rfl ?_
                        refine la_aload_n K dX5_worst_299 rfl ?_
                        refine lm_g_wy K q858 dX5_worst_300 ?_
                        refine la_iload K dX5_worst_303 rfl ?_
                        refine la_dup2 K dX5_worst_305 rfl rfl ?_
                        refine lm_ld_wy K (by omega) dX5_worst_306 ?_
                        refine la_iload K dX5_worst_307 rfl ?_
                        refine la_iaddN K dX5_worst_309 ?_
                        refine lm_st_wy K (by omega) dX5_worst_310 ?_
                        refine la_aload_n K dX5_worst_311 rfl ?_
                        refine lm_g_wh K q857 dX5_worst_312 ?_
                        refine la_iload K dX5_worst_315 rfl ?_
                        refine la_iload K dX5_worst_317 rfl ?_
                        refine lm_st_wh K (by omega) dX5_worst_319 ?_
                        refine la_bipush K dX5_worst_320 la_kb_8 ?_
                        refine la_iload K dX5_worst_322 rfl ?_
                        refine la_imulN K dX5_worst_324 ?_
                        refine la_iload K dX5_worst_325 rfl ?_
                        refine la_iaddN K dX5_worst_327 ?_
                        refine la_istore10 K dX5_worst_328 rfl ?_
                        refine la_iinc13 K dX5_worst_330 (la_inc_N _) rfl ?_
                        refine la_goto K 171 dX5_worst_333 rfl ?_
                        have hco2 : cost + fa (6 * wh1 l + p) = lp_tot (fun i => lp_cf fa B (lp_pd n (lp_xn P n r n)) (lp_wl L fa B Kd (lp_pd n (lp_xn P n r n)) (k + 1)) i) (k + 1) := by
                          have c1 : ∀ i, i < k → (lp_wl L fa B Kd (lp_pd n (lp_xn P n r n))) k i = (lp_wl L fa B Kd (lp_pd n (lp_xn P n r n)) (k + 1)) i := fun i hi => (lp_wl_keep hi).trans (lp_wl_keep (by omega)).symm
                          rw [lp_tot, hco]
                          have e8 : lp_tot (fun i => lp_cf fa B (lp_pd n (lp_xn P n r n)) (lp_wl L fa B Kd (lp_pd n (lp_xn P n r n)) k) i) k = lp_tot (fun i => lp_cf fa B (lp_pd n (lp_xn P n r n)) (lp_wl L fa B Kd (lp_pd n (lp_xn P n r n)) (k + 1)) i) k := lp_tot_congr k (fun i hi => lp_cf_congr (C := k) (fun _ _ => rfl) c1 hi)
                          rw [e8]
                          have e9 : lp_cf fa B (lp_pd n (lp_xn P n r n)) (lp_wl L fa B Kd (lp_pd n (lp_xn P n r n)) (k + 1)) k = fa (6 * wh1 l + p) := by
                            unfold lp_cf
                            rw [← lp_sn_congr (C := k) h1g (fun i hi => (h2g i hi).trans (c1 i hi)) k (Nat.le_refl k), ← elw, ← hp0, hD.2.2.2.2.2.2.1 l hlL]
                          rw [e9]
                        exact ihk (k + 1) _ _ _ _ _ _ _ _ _ _ _ _ _ _ _ _ _ (by omega) (by omega) (lm_step hJ1 hL1 (by omega) hp hlL (fun z => absurd h244 z.2) (fun z => rfl) (fun i hi => (hk2 i (by omega)).trans (hk1 i (by omega))) hf2 hg2 hmn) (lt_s (fun i hi => (va_up_ne _ _ (by omega)).trans (h1g i hi)) (by rw [va_up_self, hp0])) (lt_s (fun i hi => ((va_up_ne _ _ (by omega)).trans (h2g i hi)).trans ((lp_wl_keep hi).trans (lp_wl_keep (by omega)).symm)) (by rw [va_up_self, elw])) (lt_s (fun i hi => (va_up_ne _ _ (by omega)).trans (h4g i hi)) (va_up_self _ _ _)) (by rw [lp_xn, ← hby2, hpl, hnu]) hco2 (by rw [lp_wtr, hT1, ← hp0, lp_sn_congr (C := k) h1g h2g k (Nat.le_refl k)]) (by rw [hby2]; congr 1; omega)
                      · refine la_iload K dX5_worst_247 rfl ?_
                        refine la_goto K 254 dX5_worst_249 rfl ?_
                        refine la_istore9 K dX5_worst_254 rfl ?_
                        refine la_aload_n K dX5_worst_256 rfl ?_
                        refine lm_g_fa K q835 dX5_worst_257 ?_
                        refine la_bipush K dX5_worst_260 la_kb_6 ?_
                        refine la_aload_n K dX5_worst_262 rfl ?_
                        refine lm_g_wh K q857 dX5_worst_263 ?_
                        refine la_iload K dX5_worst_266 rfl ?_
                        refine lm_ld_wh K (by omega) dX5_worst_268 ?_
                        refine la_imulN K dX5_worst_269 ?_
                        refine la_iload K dX5_worst_270 rfl ?_
                        refine la_iaddN K dX5_worst_272 ?_
                        refine lm_ld_fa K (by omega) dX5_worst_273 ?_
                        refine la_istore16 K dX5_worst_274 rfl ?_
                        refine la_aload_n K dX5_worst_276 rfl ?_
                        refine la_aload_n K dX5_worst_277 rfl ?_
                        refine lm_g_tr K q850 dX5_worst_278 ?_
                        refine la_sipush K dX5_worst_281 la_ks_512 ?_
                        refine la_iload K dX5_worst_284 rfl ?_
                        refine la_imulN K dX5_worst_286 ?_
                        refine la_iload K dX5_worst_287 rfl ?_
                        refine la_callVv0 K ok_X5_serves q1009 (lm_servesT hP hL3 hp hfa (by omega) hf1 hst2) 0 rfl rfl rfl rfl rfl (Nat.le_of_ble_eq_true rfl) ⟨Nat.le_of_ble_eq_true rfl, Nat.le_of_ble_eq_true rfl⟩ ⟨Nat.zero_le _, Nat.zero_le _⟩ dX5_worst_289 (fun u289 p289 => ?_)
                        obtain ⟨f2, rfl, hk2, hf2, hmn⟩ := p289
                        refine la_iload K dX5_worst_292 rfl ?_
                        refine la_iload K dX5_worst_294 rfl ?_
                        refine la_iaddN K dX5_worst_296 ?_
                        refine la_istore11 K dX5_worst_297 rfl ?_
                        refine la_aload_n K dX5_worst_299 rfl ?_
                        refine lm_g_wy K q858 dX5_worst_300 ?_
                        refine la_iload K dX5_worst_303 rfl ?_
                        refine la_dup2 K dX5_worst_305 rfl rfl ?_
                        refine lm_ld_wy K (by omega) dX5_worst_306 ?_
                        refine la_iload K dX5_worst_307 rfl ?_
                        refine la_iaddN K dX5_worst_309 ?_
                        refine lm_st_wy K (by omega) dX5_worst_310 ?_
                        refine la_aload_n K dX5_worst_311 rfl ?_
                        refine lm_g_wh K q857 dX5_worst_312 ?_
                        refine la_iload K dX5_worst_315 rfl ?_
                        refine la_iload K dX5_worst_317 rfl ?_
                        refine lm_st_wh K (by omega) dX5_worst_319 ?_
                        refine la_bipush K dX5_worst_320 la_kb_8 ?_
                        refine la_iload K dX5_worst_322 rfl ?_
                        refine la_imulN K dX5_worst_324 ?_
                        refine la_iload K dX5_worst_325 rfl ?_
                        refine la_iaddN K dX5_worst_327 ?_
                        refine la_istore10 K dX5_worst_328 rfl ?_
                        refine la_iinc13 K dX5_worst_330 (la_inc_N _) rfl ?_
                        refine la_goto K 171 dX5_worst_333 rfl ?_
                        have hco2 : cost + fa (6 * wh1 l + p) = lp_tot (fun i => lp_cf fa B (lp_pd n (lp_xn P n r n)) (lp_wl L fa B Kd (lp_pd n (lp_xn P n r n)) (k + 1)) i) (k + 1) := by
                          have c1 : ∀ i, i < k → (lp_wl L fa B Kd (lp_pd n (lp_xn P n r n))) k i = (lp_wl L fa B Kd (lp_pd n (lp_xn P n r n)) (k + 1)) i := fun i hi => (lp_wl_keep hi).trans (lp_wl_keep (by omega)).symm
                          rw [lp_tot, hco]
                          have e8 : lp_tot (fun i => lp_cf fa B (lp_pd n (lp_xn P n r n)) (lp_wl L fa B Kd (lp_pd n (lp_xn P n r n)) k) i) k = lp_tot (fun i => lp_cf fa B (lp_pd n (lp_xn P n r n)) (lp_wl L fa B Kd (lp_pd n (lp_xn P n r n)) (k + 1)) i) k := lp_tot_congr k (fun i hi => lp_cf_congr (C := k) (fun _ _ => rfl) c1 hi)
                          rw [e8]
                          have e9 : lp_cf fa B (lp_pd n (lp_xn P n r n)) (lp_wl L fa B Kd (lp_pd n (lp_xn P n r n)) (k + 1)) k = fa (6 * wh1 l + p) := by
                            unfold lp_cf
                            rw [← lp_sn_congr (C := k) h1g (fun i hi => (h2g i hi).trans (c1 i hi)) k (Nat.le_refl k), ← elw, ← hp0, hD.2.2.2.2.2.2.1 l hlL]
                          rw [e9]
                        exact ihk (k + 1) _ _ _ _ _ _ _ _ _ _ _ _ _ _ _ _ _ (by omega) (by omega) (lm_step hJ1 hL1 (by omega) hp hlL (fun z => rfl) (fun z => absurd ⟨h231, h244⟩ z) (fun i hi => (hk2 i (by omega)).trans (hk1 i (by omega))) hf2 hg2 hmn) (lt_s (fun i hi => (va_up_ne _ _ (by omega)).trans (h1g i hi)) (by rw [va_up_self, hp0])) (lt_s (fun i hi => ((va_up_ne _ _ (by omega)).trans (h2g i hi)).trans ((lp_wl_keep hi).trans (lp_wl_keep (by omega)).symm)) (by rw [va_up_self, elw])) (lt_s (fun i hi => (va_up_ne _ _ (by omega)).trans (h4g i hi)) (va_up_self _ _ _)) (by rw [lp_xn, ← hby2, hpl, hnu]) hco2 (by rw [lp_wtr, hT1, ← hp0, lp_sn_congr (C := k) h1g h2g k (Nat.le_refl k)]) (by rw [hby2]; congr 1; omega)
              have li : ∀ (j q : Nat) (wh1 wy1 : Nat → Nat) (x10 x11 x12 x13 x14 x15 x16 : Option Value), q ≤ 3 → 3 < q + j → (∀ i, i < q → wh1 i = lp_dg B i) → (∀ i, i < q → wy1 i = 0) → la_At ω κ (0, 0) 109 [some (.ref (ad 0)), some (.int (nI (n))), some (.int (nI (wt))), some (.int (nI (ro))), some (.int (lp_wb w)), some (.int (nI (lp_wo 0 w))), some (.int (nI (lp_wo 1 w))), some (.int (nI (lp_wo 2 w))), some (.int (nI (r))), some (.int (nI (q))), x10, x11, x12, x13, x14, x15, x16] [] (lm_W ω.2.2 ad ((nI 0, S, T0, P, R, L, B, Kd, lt, C), (ra, rb, rl, fa), (aa, su), (cp, cl, cf, ck, cm, ct), (le, tr0, re), (bh, so, br, rs, ce), (wh1, wy1))) := by
                intro j
                induction j with
                | zero => intro q wh1 wy1 x10 x11 x12 x13 x14 x15 x16 h1 h2; omega
                | succ j ihi =>
                  intro q wh1 wy1 x10 x11 x12 x13 x14 x15 x16 h1 h2 ha hs
                  refine la_iload K dX5_worst_109 rfl ?_
                  refine la_iconst K dX5_worst_111 la_ki_3 ?_
                  refine la_icmp_geN K 148 dX5_worst_112 rfl (by omega) (by omega) (fun h112 => ?_) (fun h112 => ?_)
                  · refine la_aload_n K dX5_worst_148 rfl ?_
                    refine la_aload_n K dX5_worst_149 rfl ?_
                    refine lm_g_tr K q850 dX5_worst_150 ?_
                    refine la_callVv0 K ok_X5_starts q971 (lm_startsT hB5) 0 rfl rfl rfl rfl rfl (Nat.le_of_ble_eq_true rfl) ⟨Nat.le_of_ble_eq_true rfl, Nat.le_of_ble_eq_true rfl⟩ ⟨Nat.zero_le _, Nat.zero_le _⟩ dX5_worst_153 (fun u153 p153 => ?_)
                    obtain ⟨f0, rfl, hl1, hl2⟩ := p153
                    refine la_iconst K dX5_worst_156 la_ki_m1 ?_
                    refine la_istore9 K dX5_worst_157 rfl ?_
                    refine la_iconst K dX5_worst_159 la_ki_0 ?_
                    refine la_istore10 K dX5_worst_160 rfl ?_
                    refine la_iconst K dX5_worst_162 la_ki_0 ?_
                    refine la_istore11 K dX5_worst_163 rfl ?_
                    refine la_iload_n K dX5_worst_165 rfl ?_
                    refine la_istore12 K dX5_worst_166 rfl ?_
                    refine la_iconst K dX5_worst_168 la_ki_0 ?_
                    refine la_istore13 K dX5_worst_169 rfl ?_
                    have hb0 : ∀ i, f0 i ≤ 100000000 := by
                      intro i
                      by_cases h : i < 512
                      · rw [hl1 i h]; split <;> omega
                      · rw [hl2 i (by omega)]; exact htr1 i
                    exact lk (n + 1) 0 _ _ _ _ cp cl cf ck cm ct _ _ _ _ _ _ _ (by omega) (by omega) (lm_J_new2 hP hR hro hKd hD0.2.2.2.2.1 hD0.2.2.2.2.2.1 hL1 hL3 hD0.1 (fun i hi => ha i (by omega)) (fun i hi => hs i (by omega)) hl1 hb0 hle) (fun i hi => by omega) (fun i hi => by omega) (fun i hi => by omega) rfl rfl rfl (by rw [hro0]; rfl)
                  · refine la_aload_n K dX5_worst_115 rfl ?_
                    refine lm_g_wh K q857 dX5_worst_116 ?_
                    refine la_iload K dX5_worst_119 rfl ?_
                    refine la_aload_n K dX5_worst_121 rfl ?_
                    refine lm_g_B K q837 dX5_worst_122 ?_
                    refine la_iconst K dX5_worst_125 la_ki_3 ?_
                    refine la_iload K dX5_worst_126 rfl ?_
                    refine la_imulN K dX5_worst_128 ?_
                    refine la_ishrN K dX5_worst_129 (by omega) (by omega) ?_
                    refine la_bipush K dX5_worst_130 la_kb_7 ?_
                    refine la_iand7 K dX5_worst_132 (by have := Nat.div_le_self B (2 ^ (3 * q)); omega) ?_
                    refine lm_st_wh K (by omega) dX5_worst_133 ?_
                    refine la_aload_n K dX5_worst_134 rfl ?_
                    refine lm_g_wy K q858 dX5_worst_135 ?_
                    refine la_iload K dX5_worst_138 rfl ?_
                    refine la_iconst K dX5_worst_140 la_ki_0 ?_
                    refine lm_st_wy K (by omega) dX5_worst_141 ?_
                    refine la_iinc9 K dX5_worst_142 (la_inc_N _) rfl ?_
                    refine la_goto K 109 dX5_worst_145 rfl ?_
                    exact ihi (q + 1) _ _ _ _ _ _ _ _ _ (by omega) (by omega) (lt_s (fun i hi => by rw [va_up_ne _ _ (by omega)]; exact ha i hi) (va_up_self _ _ _)) (lt_s (fun i hi => by rw [va_up_ne _ _ (by omega)]; exact hs i hi) (va_up_self _ _ _))
              refine la_iconst K dX5_worst_106 la_ki_0 ?_
              refine la_istore9 K dX5_worst_107 rfl ?_
              exact li 4 0 _ _ _ _ _ _ _ _ _ (by omega) (by omega) (fun i hi => by omega) (fun i hi => by omega)
        refine la_iload_n K dX5_worst_41 rfl ?_
        refine la_iconst K dX5_worst_42 la_ki_1 ?_
        refine la_icmp_neN K 53 dX5_worst_43 rfl (by omega) (by omega) (fun h43 => ?_) (fun h43 => ?_)
        · refine la_iload_n K dX5_worst_53 rfl ?_
          refine la_iconst K dX5_worst_54 la_ki_2 ?_
          refine la_icmp_neN K 70 dX5_worst_55 rfl (by omega) (by omega) (fun h55 => ?_) (fun h55 => ?_)
          · refine la_aload_n K dX5_worst_70 rfl ?_
            refine lm_g_P K q830 dX5_worst_71 ?_
            refine la_aload_n K dX5_worst_74 rfl ?_
            refine lm_g_P K q830 dX5_worst_75 ?_
            refine la_imulN K dX5_worst_78 ?_
            refine la_aload_n K dX5_worst_79 rfl ?_
            refine lm_g_P K q830 dX5_worst_80 ?_
            refine la_imulN K dX5_worst_83 ?_
            refine la_istore3 K dX5_worst_84 rfl ?_
            refine la_iconst K dX5_worst_85 la_ki_m1 ?_
            refine la_istore4 K dX5_worst_86 rfl ?_
            refine la_iconst K dX5_worst_88 la_ki_0 ?_
            refine la_istore5 K dX5_worst_89 rfl ?_
            refine la_iconst K dX5_worst_91 la_ki_0 ?_
            refine la_istore6 K dX5_worst_92 rfl ?_
            refine la_iconst K dX5_worst_94 la_ki_0 ?_
            refine la_istore7 K dX5_worst_95 rfl ?_
            refine la_iconst K dX5_worst_97 la_ki_0 ?_
            refine la_istore8 K dX5_worst_98 rfl ?_
            exact lr _ (by rw [show n = 3 by omega, Nat.pow_succ, Nat.pow_succ, Nat.pow_one]) (P ^ n + 1) 0 none _ _ _ _ _ _ _ _ _ _ _ _ (by omega) (by omega) rfl (fun x c l z => by cases z) htr
          · refine la_aload_n K dX5_worst_58 rfl ?_
            refine lm_g_P K q830 dX5_worst_59 ?_
            refine la_aload_n K dX5_worst_62 rfl ?_
            refine lm_g_P K q830 dX5_worst_63 ?_
            refine la_imulN K dX5_worst_66 ?_
            refine la_goto K 84 dX5_worst_67 rfl ?_
            refine la_istore3 K dX5_worst_84 rfl ?_
            refine la_iconst K dX5_worst_85 la_ki_m1 ?_
            refine la_istore4 K dX5_worst_86 rfl ?_
            refine la_iconst K dX5_worst_88 la_ki_0 ?_
            refine la_istore5 K dX5_worst_89 rfl ?_
            refine la_iconst K dX5_worst_91 la_ki_0 ?_
            refine la_istore6 K dX5_worst_92 rfl ?_
            refine la_iconst K dX5_worst_94 la_ki_0 ?_
            refine la_istore7 K dX5_worst_95 rfl ?_
            refine la_iconst K dX5_worst_97 la_ki_0 ?_
            refine la_istore8 K dX5_worst_98 rfl ?_
            exact lr _ (by rw [h55, Nat.pow_succ, Nat.pow_one]) (P ^ n + 1) 0 none _ _ _ _ _ _ _ _ _ _ _ _ (by omega) (by omega) rfl (fun x c l z => by cases z) htr
        · refine la_aload_n K dX5_worst_46 rfl ?_
          refine lm_g_P K q830 dX5_worst_47 ?_
          refine la_goto K 84 dX5_worst_50 rfl ?_
          refine la_istore3 K dX5_worst_84 rfl ?_
          refine la_iconst K dX5_worst_85 la_ki_m1 ?_
          refine la_istore4 K dX5_worst_86 rfl ?_
          refine la_iconst K dX5_worst_88 la_ki_0 ?_
          refine la_istore5 K dX5_worst_89 rfl ?_
          refine la_iconst K dX5_worst_91 la_ki_0 ?_
          refine la_istore6 K dX5_worst_92 rfl ?_
          refine la_iconst K dX5_worst_94 la_ki_0 ?_
          refine la_istore7 K dX5_worst_95 rfl ?_
          refine la_iconst K dX5_worst_97 la_ki_0 ?_
          refine la_istore8 K dX5_worst_98 rfl ?_
          exact lr _ (by rw [h43, Nat.pow_one]) (P ^ n + 1) 0 none _ _ _ _ _ _ _ _ _ _ _ _ (by omega) (by omega) rfl (fun x c l z => by cases z) htr
      · refine la_iconst K dX5_worst_39 la_ki_m1 ?_
        exact hret _ _ _ _ dX5_worst_40 ⟨by unfold lp_woA; rw [if_neg h9, if_neg (fun z => h36 ((lp_ints wt (by decide) (by decide)).mpr z.2))], wh, wy, tr, by unfold lp_woT; rw [if_neg h9, if_neg (fun z => h36 ((lp_ints wt (by decide) (by decide)).mpr z.2))], htr⟩
  · refine la_bipush K dX5_worst_12 la_kb_m2 ?_
    exact hret _ _ _ _ dX5_worst_14 ⟨by unfold lp_woA; rw [if_pos h9], wh, wy, tr, by unfold lp_woT; rw [if_pos h9], htr⟩
end LM11
