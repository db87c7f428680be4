/-! THE COMPONENT's METHODS, part 16: worst. Printed by c16.py. -/
section LC16
variable {ω : la_O} {ad : Nat → Nat} {S : Int32} {T : Int64} {P R L B Nw U C Kd : Nat} {fr to ln aw su ca we fa sb tb wk nw wo k0 k1 k2 k3 k4 k5 : Nat → Nat} {RE : Nat → Nat → Nat} {BF : Nat → Option Nat} {BK : va_W}
set_option maxHeartbeats 16000000 in
theorem lb_worst (n wt : Int32) (hJ : lb_J ((P, R, T, S, L, B, Nw, U, C, Kd), (fr, to, ln, aw), (su, ca, we, fa, sb, tb), (wk, nw, wo), (k0, k1, k2, k3, k4, k5), RE, BF, BK)) : la_CI ω yX0_worst cX0_worst 14 (some .int) (la_rm 8) [.ref (ad 0), .int n, .int wt] (lb_W ω.2.2 ad ((P, R, T, S, L, B, Nw, U, C, Kd), (fr, to, ln, aw), (su, ca, we, fa, sb, tb), (wk, nw, wo), (k0, k1, k2, k3, k4, k5), RE, BF, BK)) (lb_W ω.2.2 ad) (fun (r : Int32) (u : lb_S) => r = lp_woA P L B Kd aw T n wt ∧ ∃ (su' ca' we' fa' sb' tb' wk' nw' wo' k0' k1' k2' k3' k4' k5' : Nat → Nat), u = ((P, R, (lp_woT P L B Kd aw T n wt), S, L, B, Nw, U, C, Kd), (fr, to, ln, aw), (su', ca', we', fa', sb', tb'), (wk', nw', wo'), (k0', k1', k2', k3', k4', k5'), RE, BF, BK) ∧ ((∀ i, i < 12 → ca' i = ca i) ∧ (∀ i, i < 12 → we' i = we i) ∧ (∀ i, i < 12 → sb' i = sb i)) ∧ lb_J u) := by
  refine la_CI_of (by decide) [some (.ref (ad 0)), some (.int (n)), some (.int (wt)), none, none, none, none, none, none, none, none, none, none, none] rfl rfl (Nat.le_of_ble_eq_true rfl) ?_
  intro κ K hret
  have hJx : lb_Jx P R L B Nw U C Kd fr to ln aw su ca we fa sb tb := hJ
  have hJ2 := hJx
  obtain ⟨hP, hR, hro, hL3, hC12, hKd, hLC, haw, hDay⟩ := hJ2
  refine la_aload_n K dX0_worst_0 rfl ?_
  refine lb_g_L K q140 dX0_worst_1 ?_
  refine la_if_neN K 10 dX0_worst_4 rfl (by omega) (fun h4 => ?_) (fun h4 => ?_)
  · refine la_iload_n K dX0_worst_10 rfl ?_
    refine la_iconst K dX0_worst_11 la_ki_1 ?_
    refine la_iconst K dX0_worst_12 la_ki_3 ?_
    refine la_callSp K ok_X0_in q258 (lb_in _ _ _ _) rfl rfl rfl (Nat.le_of_ble_eq_true rfl) ⟨Nat.le_of_ble_eq_true rfl, Nat.le_of_ble_eq_true rfl⟩ ⟨Nat.zero_le _, Nat.zero_le _⟩ dX0_worst_13 ?_
    refine la_if_eqC K 28 dX0_worst_16 rfl (fun h16 => ?_) (fun h16 => ?_)
    · refine la_iconst K dX0_worst_28 la_ki_m1 ?_
      exact hret _ _ _ _ dX0_worst_29 ⟨by unfold lp_woA; rw [if_neg h4, if_neg (fun z => h16 ((lp_intsC n (by decide) (by decide)).mpr z.1))], _, _, _, _, _, _, _, _, _, _, _, _, _, _, _, by unfold lp_woT; rw [if_neg h4, if_neg (fun z => h16 ((lp_intsC n (by decide) (by decide)).mpr z.1))], ⟨fun _ _ => rfl, fun _ _ => rfl, fun _ _ => rfl⟩, hJ⟩
    · refine la_iload_n K dX0_worst_19 rfl ?_
      refine la_iconst K dX0_worst_20 la_ki_0 ?_
      refine la_iconst K dX0_worst_21 la_ki_2 ?_
      refine la_callSp K ok_X0_in q258 (lb_in _ _ _ _) rfl rfl rfl (Nat.le_of_ble_eq_true rfl) ⟨Nat.le_of_ble_eq_true rfl, Nat.le_of_ble_eq_true rfl⟩ ⟨Nat.zero_le _, Nat.zero_le _⟩ dX0_worst_22 ?_
      refine la_if_neC K 30 dX0_worst_25 rfl (fun h25 => ?_) (fun h25 => ?_)
      · have hL1 : 1 ≤ L := by omega
        have hD := hDay hL1
        have hN := lb_D_now hP hL3 hD
        have hNw := lp_sd_lt hN hL3
        have hdg : ∀ k, k < L → lp_dg Nw k < P := hN.2
        have hd64 := hD.2.2.2.2.1
        have hd6 : ∀ a b, a < P → b < P → aw (6 * a + b) ≤ 1000000 := fun a b ha hb => Nat.le_trans (hd64 a b ha hb) (by decide)
        have hca := hD.2.1
        have hB := hD.1
        have hsu : ∀ k, k < L → su k ≤ 1000000 := fun k hk => Nat.le_trans (lb_D_su hP hL3 (by omega) hD k hk) (by decide)
        have hn0 := (lp_intsC n (by decide) (by decide)).mp h16
        have hw0 := (lp_intsC0 wt (by decide)).mp h25
        obtain ⟨n, hn1, hn3, rfl⟩ := lp_inI_N hn0 (by decide)
        obtain ⟨wt, -, hw2, rfl⟩ := lp_inI_N hw0 (by decide)
        have hpw : 8 ^ n ≤ 512 := Nat.le_trans (Nat.pow_le_pow_right (by decide) hn3) (by decide)
        have hg0 := hD.2.2.2.2.2.1
        have hcor : ∀ y, lp_vd P n y = true → lp_lo L aw B (lp_pd n y) n ≤ lp_wct L aw B Kd (lp_pd n y) n ∧ lp_wct L aw B Kd (lp_pd n y) n ≤ 1000000 := by
          intro y hy
          have hdy : ∀ i, i < n → lp_pd n y i < P := fun i hi => by
            unfold lp_vd at hy
            simp only [List.all_eq_true, List.mem_range, decide_eq_true_eq] at hy
            exact hy _ (by omega)
          have hwl : ∀ i, i < n → lp_wl L aw B Kd (lp_pd n y) n i < L := fun i hi => by
            rw [lp_wl_keep hi, lp_wl, va_up_self]
            exact lp_cho_lt hL1
          refine ⟨lp_lo_le hP hL3 hB hdy hwl hd64 (by omega), ?_⟩
          have := (lp_rw_path hP hL3 hB hdy hwl hd64 n (Nat.le_refl n) (by omega)).2
          unfold lp_wct
          omega
        have hwk : ∀ x, lp_wok ((lp_wfd L aw B Kd n T (lp_rowsC P n x)).1) := by
          intro x
          induction x with
          | zero => intro a b c e; cases e
          | succ x ih =>
            rw [lp_rowsC_succ]
            by_cases h : lp_vd P n x = true
            · rw [if_pos h, lp_wfd_add]
              exact lp_wok_up ih (hcor x h).1 (hcor x h).2
            · rw [if_neg h, List.append_nil]
              exact ih
        have fin : ∀ (T1 : Int64) (Nw1 U1 C1 : Nat) (su1 ca1 we1 fa1 sb1 tb1 wk1 nw1 wo1 : Nat → Nat) (x11 x12 x13 : Option Value), T1 = (lp_wfd L aw B Kd n T (lp_rowsC P n (8 ^ n))).2 → la_At ω κ (0, 0) 218 [some (.ref (ad 0)), some (.int (nI (n))), some (.int (nI (wt))), some (.int (nI (C))), some (.int (nI (Nw))), some (.int (nI (U))), some (.int (lp_wbC (lp_wfd L aw B Kd n T (lp_rowsC P n (8 ^ n))).1)), some (.int (nI (lp_wo 0 (lp_wfd L aw B Kd n T (lp_rowsC P n (8 ^ n))).1))), some (.int (nI (lp_wo 1 (lp_wfd L aw B Kd n T (lp_rowsC P n (8 ^ n))).1))), some (.int (nI (lp_wo 2 (lp_wfd L aw B Kd n T (lp_rowsC P n (8 ^ n))).1))), some (.int (nI (8 ^ n))), x11, x12, x13] [] (lb_W ω.2.2 ad ((P, R, T1, S, L, B, Nw1, U1, C1, Kd), (fr, to, ln, aw), (su1, ca1, we1, fa1, sb1, tb1), (wk1, nw1, wo1), ((va_cpy ca k0 0 0 12), (va_cpy we k1 0 0 12), (va_cpy fa k2 0 0 12), (va_cpy sb k3 0 0 12), (va_cpy tb k4 0 0 12), (va_cpy su k5 0 0 3)), RE, BF, BK)) := by
          intro T1 Nw1 U1 C1 su1 ca1 we1 fa1 sb1 tb1 wk1 nw1 wo1 x11 x12 x13 hT1
          subst hT1
          refine la_aload_n K dX0_worst_218 rfl ?_
          refine la_iconst K dX0_worst_219 la_ki_1 ?_
          refine la_callVv0 K ok_X0_keep q493 lb_keep1 0 rfl rfl rfl rfl rfl (Nat.le_of_ble_eq_true rfl) ⟨Nat.le_of_ble_eq_true rfl, Nat.le_of_ble_eq_true rfl⟩ ⟨Nat.zero_le _, Nat.zero_le _⟩ dX0_worst_220 (fun u220 p220 => ?_)
          subst p220
          refine la_aload_n K dX0_worst_223 rfl ?_
          refine la_iload_n K dX0_worst_224 rfl ?_
          refine lb_p_C K q152 dX0_worst_225 ?_
          refine la_aload_n K dX0_worst_228 rfl ?_
          refine la_iload K dX0_worst_229 rfl ?_
          refine lb_p_Nw K q146 dX0_worst_231 ?_
          refine la_aload_n K dX0_worst_234 rfl ?_
          refine la_iload K dX0_worst_235 rfl ?_
          refine lb_p_U K q150 dX0_worst_237 ?_
          refine la_iload_n K dX0_worst_240 rfl ?_
          refine la_if_neN K 249 dX0_worst_241 rfl (by omega) (fun h241 => ?_) (fun h241 => ?_)
          · refine la_iload_n K dX0_worst_249 rfl ?_
            refine la_iconst K dX0_worst_250 la_ki_1 ?_
            refine la_icmp_neN K 259 dX0_worst_251 rfl (by omega) (by omega) (fun h251 => ?_) (fun h251 => ?_)
            · refine la_iload K dX0_worst_259 rfl ?_
              exact hret _ _ _ _ dX0_worst_261 ⟨by unfold lp_woA; rw [if_neg (by omega), if_pos ⟨hn0, hw0⟩, nI_clamp (by omega), nI_clamp (by omega), show wt = 2 by omega], _, _, _, _, _, _, _, _, _, _, _, _, _, _, _, (by rw [show lp_woT P L B Kd aw T (nI n) (nI wt) = (lp_wfd L aw B Kd n T (lp_rowsC P n (8 ^ n))).2 by unfold lp_woT; rw [if_neg (by omega), if_pos ⟨hn0, hw0⟩, nI_clamp (by omega)]]), ⟨fun i hi => (lp_cpy0 hi).trans (lp_cpy0 hi), fun i hi => (lp_cpy0 hi).trans (lp_cpy0 hi), fun i hi => (lp_cpy0 hi).trans (lp_cpy0 hi)⟩, lb_J_day hJx hC12 hL1 (lb_D_congr hC12 hL3 hD (fun i hi => (lp_cpy0 hi).trans (lp_cpy0 hi)) (fun i hi => (lp_cpy0 hi).trans (lp_cpy0 hi)) (fun i hi => (lp_cpy0 hi).trans (lp_cpy0 hi)) (fun i hi => (lp_cpy0 hi).trans (lp_cpy0 hi)) (fun i hi => (lp_cpy0 hi).trans (lp_cpy0 hi)) (fun i hi => (lp_cpy0 hi).trans (lp_cpy0 hi)))⟩
            · refine la_iload K dX0_worst_254 rfl ?_
              refine la_goto K 261 dX0_worst_256 rfl ?_
              exact hret _ _ _ _ dX0_worst_261 ⟨by unfold lp_woA; rw [if_neg (by omega), if_pos ⟨hn0, hw0⟩, nI_clamp (by omega), nI_clamp (by omega), show wt = 1 by omega], _, _, _, _, _, _, _, _, _, _, _, _, _, _, _, (by rw [show lp_woT P L B Kd aw T (nI n) (nI wt) = (lp_wfd L aw B Kd n T (lp_rowsC P n (8 ^ n))).2 by unfold lp_woT; rw [if_neg (by omega), if_pos ⟨hn0, hw0⟩, nI_clamp (by omega)]]), ⟨fun i hi => (lp_cpy0 hi).trans (lp_cpy0 hi), fun i hi => (lp_cpy0 hi).trans (lp_cpy0 hi), fun i hi => (lp_cpy0 hi).trans (lp_cpy0 hi)⟩, lb_J_day hJx hC12 hL1 (lb_D_congr hC12 hL3 hD (fun i hi => (lp_cpy0 hi).trans (lp_cpy0 hi)) (fun i hi => (lp_cpy0 hi).trans (lp_cpy0 hi)) (fun i hi => (lp_cpy0 hi).trans (lp_cpy0 hi)) (fun i hi => (lp_cpy0 hi).trans (lp_cpy0 hi)) (fun i hi => (lp_cpy0 hi).trans (lp_cpy0 hi)) (fun i hi => (lp_cpy0 hi).trans (lp_cpy0 hi)))⟩
          · refine la_iload K dX0_worst_244 rfl ?_
            refine la_goto K 261 dX0_worst_246 rfl ?_
            exact hret _ _ _ _ dX0_worst_261 ⟨by unfold lp_woA; rw [if_neg (by omega), if_pos ⟨hn0, hw0⟩, nI_clamp (by omega), nI_clamp (by omega), show wt = 0 by omega], _, _, _, _, _, _, _, _, _, _, _, _, _, _, _, (by rw [show lp_woT P L B Kd aw T (nI n) (nI wt) = (lp_wfd L aw B Kd n T (lp_rowsC P n (8 ^ n))).2 by unfold lp_woT; rw [if_neg (by omega), if_pos ⟨hn0, hw0⟩, nI_clamp (by omega)]]), ⟨fun i hi => (lp_cpy0 hi).trans (lp_cpy0 hi), fun i hi => (lp_cpy0 hi).trans (lp_cpy0 hi), fun i hi => (lp_cpy0 hi).trans (lp_cpy0 hi)⟩, lb_J_day hJx hC12 hL1 (lb_D_congr hC12 hL3 hD (fun i hi => (lp_cpy0 hi).trans (lp_cpy0 hi)) (fun i hi => (lp_cpy0 hi).trans (lp_cpy0 hi)) (fun i hi => (lp_cpy0 hi).trans (lp_cpy0 hi)) (fun i hi => (lp_cpy0 hi).trans (lp_cpy0 hi)) (fun i hi => (lp_cpy0 hi).trans (lp_cpy0 hi)) (fun i hi => (lp_cpy0 hi).trans (lp_cpy0 hi)))⟩
        have lp : ∀ (j x : Nat) (T1 : Int64) (Nw1 U1 C1 : Nat) (su1 ca1 we1 fa1 sb1 tb1 wk1 nw1 wo1 : Nat → Nat) (x11 x12 x13 : Option Value), x ≤ (8 ^ n) → (8 ^ n) < x + j → T1 = (lp_wfd L aw B Kd n T (lp_rowsC P n x)).2 → la_At ω κ (0, 0) 68 [some (.ref (ad 0)), some (.int (nI (n))), some (.int (nI (wt))), some (.int (nI (C))), some (.int (nI (Nw))), some (.int (nI (U))), some (.int (lp_wbC (lp_wfd L aw B Kd n T (lp_rowsC P n x)).1)), some (.int (nI (lp_wo 0 (lp_wfd L aw B Kd n T (lp_rowsC P n x)).1))), some (.int (nI (lp_wo 1 (lp_wfd L aw B Kd n T (lp_rowsC P n x)).1))), some (.int (nI (lp_wo 2 (lp_wfd L aw B Kd n T (lp_rowsC P n x)).1))), some (.int (nI (x))), x11, x12, x13] [] (lb_W ω.2.2 ad ((P, R, T1, S, L, B, Nw1, U1, C1, Kd), (fr, to, ln, aw), (su1, ca1, we1, fa1, sb1, tb1), (wk1, nw1, wo1), ((va_cpy ca k0 0 0 12), (va_cpy we k1 0 0 12), (va_cpy fa k2 0 0 12), (va_cpy sb k3 0 0 12), (va_cpy tb k4 0 0 12), (va_cpy su k5 0 0 3)), RE, BF, BK)) := by
          intro j
          induction j with
          | zero => intro x T1 Nw1 U1 C1 su1 ca1 we1 fa1 sb1 tb1 wk1 nw1 wo1 x11 x12 x13 h1 h2; omega
          | succ j iho =>
            intro x T1 Nw1 U1 C1 su1 ca1 we1 fa1 sb1 tb1 wk1 nw1 wo1 x11 x12 x13 h1 h2 hT
            refine la_iload K dX0_worst_68 rfl ?_
            refine la_iconst K dX0_worst_70 la_ki_1 ?_
            refine la_iconst K dX0_worst_71 la_ki_3 ?_
            refine la_iload_n K dX0_worst_72 rfl ?_
            refine la_imulN K dX0_worst_73 ?_
            refine la_ishlN K dX0_worst_74 (by omega) (by rw [show 1 * 2 ^ (3 * n) = 8 ^ n by rw [Nat.one_mul, Nat.pow_mul]]; omega) ?_
            rw [show 1 * 2 ^ (3 * n) = 8 ^ n by rw [Nat.one_mul, Nat.pow_mul]]
            refine la_icmp_geN K 218 dX0_worst_75 rfl (by omega) (by omega) (fun h75 => ?_) (fun h75 => ?_)
            · rw [show x = 8 ^ n by omega] at hT ⊢
              exact fin _ _ _ _ _ _ _ _ _ _ _ _ _ _ _ _ hT
            · have hx8 : x < 512 := by omega
              have hwok := hwk x
              have hend : ∀ (w2 : Option (Nat × Nat × Nat)) (T1 : Int64) (Nw1 U1 C1 : Nat) (su1 ca1 we1 fa1 sb1 tb1 wk1 nw1 wo1 : Nat → Nat) (x11 x12 x13 : Option Value), w2 = (lp_wfd L aw B Kd n T (lp_rowsC P n (x + 1))).1 → T1 = (lp_wfd L aw B Kd n T (lp_rowsC P n (x + 1))).2 → la_At ω κ (0, 0) 212 [some (.ref (ad 0)), some (.int (nI (n))), some (.int (nI (wt))), some (.int (nI (C))), some (.int (nI (Nw))), some (.int (nI (U))), some (.int (lp_wbC w2)), some (.int (nI (lp_wo 0 w2))), some (.int (nI (lp_wo 1 w2))), some (.int (nI (lp_wo 2 w2))), some (.int (nI (x))), x11, x12, x13] [] (lb_W ω.2.2 ad ((P, R, T1, S, L, B, Nw1, U1, C1, Kd), (fr, to, ln, aw), (su1, ca1, we1, fa1, sb1, tb1), (wk1, nw1, wo1), ((va_cpy ca k0 0 0 12), (va_cpy we k1 0 0 12), (va_cpy fa k2 0 0 12), (va_cpy sb k3 0 0 12), (va_cpy tb k4 0 0 12), (va_cpy su k5 0 0 3)), RE, BF, BK)) := by
                intro w2 T1 Nw1 U1 C1 su1 ca1 we1 fa1 sb1 tb1 wk1 nw1 wo1 x11 x12 x13 hw2 hT2
                subst hw2
                refine la_iinc10 K dX0_worst_212 (la_inc_N _) rfl ?_
                refine la_goto K 68 dX0_worst_215 rfl ?_
                exact iho (x + 1) _ _ _ _ _ _ _ _ _ _ _ _ _ _ _ _ (by omega) (by omega) hT2
              have ch : ∀ (j k : Nat) (z : Nat), k ≤ n → n < k + j → lp_VQ P x k z → la_At ω κ (0, 0) 84 [some (.ref (ad 0)), some (.int (nI (n))), some (.int (nI (wt))), some (.int (nI (C))), some (.int (nI (Nw))), some (.int (nI (U))), some (.int (lp_wbC (lp_wfd L aw B Kd n T (lp_rowsC P n x)).1)), some (.int (nI (lp_wo 0 (lp_wfd L aw B Kd n T (lp_rowsC P n x)).1))), some (.int (nI (lp_wo 1 (lp_wfd L aw B Kd n T (lp_rowsC P n x)).1))), some (.int (nI (lp_wo 2 (lp_wfd L aw B Kd n T (lp_rowsC P n x)).1))), some (.int (nI (x))), some (.int (nI (z))), some (.int (nI (k))), x13] [] (lb_W ω.2.2 ad ((P, R, T1, S, L, B, Nw1, U1, C1, Kd), (fr, to, ln, aw), (su1, ca1, we1, fa1, sb1, tb1), (wk1, nw1, wo1), ((va_cpy ca k0 0 0 12), (va_cpy we k1 0 0 12), (va_cpy fa k2 0 0 12), (va_cpy sb k3 0 0 12), (va_cpy tb k4 0 0 12), (va_cpy su k5 0 0 3)), RE, BF, BK)) := by
                intro j
                induction j with
                | zero => intro k z h1 h2; omega
                | succ j ihz =>
                  intro k z h1 h2 hz
                  refine la_iload K dX0_worst_84 rfl ?_
                  refine la_iload_n K dX0_worst_86 rfl ?_
                  refine la_icmp_geN K 125 dX0_worst_87 rfl (by omega) (by omega) (fun h87 => ?_) (fun h87 => ?_)
                  · rw [show k = n by omega] at hz
                    refine la_iload K dX0_worst_125 rfl ?_
                    refine la_if_eqN K 212 dX0_worst_127 rfl (by have := hz.1; omega) (fun h127 => ?_) (fun h127 => ?_)
                    · have hvd : ¬ lp_vd P n x = true := fun q => by have := (lp_VQ_end hz).mpr q; omega
                      have hrow : (lp_wfd L aw B Kd n T (lp_rowsC P n (x + 1))) = (lp_wfd L aw B Kd n T (lp_rowsC P n x)) := by rw [lp_rowsC_succ, if_neg hvd, List.append_nil]
                      exact hend _ _ _ _ _ _ _ _ _ _ _ _ _ _ _ _ _ (by rw [hrow]) (by rw [hrow]; exact hT)
                    · have hz1 : z = 1 := by have := hz.1; omega
                      have hvd := (lp_VQ_end hz).mp hz1
                      have hdx := hz.2.mp hz1
                      have hrow : (lp_wfd L aw B Kd n T (lp_rowsC P n (x + 1))) = lp_wst L aw B Kd n (lp_wfd L aw B Kd n T (lp_rowsC P n x)) x := by rw [lp_rowsC_succ, if_pos hvd, lp_wfd_add]
                      have sl : ∀ (k : Nat) (T1 : Int64) (Nw1 U1 : Nat) (su1 ca1 we1 fa1 sb1 tb1 wk1 nw1 wo1 : Nat → Nat) (x13 : Option Value), k ≤ n → lb_Jx P R L B (Nw1) (U1) (n - k) Kd fr to ln aw (su1) (ca1) (we1) (fa1) (sb1) (tb1) → lp_WR L aw B Kd (lp_pd n x) ca1 we1 sb1 (n - k) → T1 = lp_wtr L aw B Kd (lp_pd n x) (lp_wfd L aw B Kd n T (lp_rowsC P n x)).2 (n - k) → la_At ω κ (0, 0) 143 [some (.ref (ad 0)), some (.int (nI (n))), some (.int (nI (wt))), some (.int (nI (C))), some (.int (nI (Nw))), some (.int (nI (U))), some (.int (lp_wbC (lp_wfd L aw B Kd n T (lp_rowsC P n x)).1)), some (.int (nI (lp_wo 0 (lp_wfd L aw B Kd n T (lp_rowsC P n x)).1))), some (.int (nI (lp_wo 1 (lp_wfd L aw B Kd n T (lp_rowsC P n x)).1))), some (.int (nI (lp_wo 2 (lp_wfd L aw B Kd n T (lp_rowsC P n x)).1))), some (.int (nI (x))), some (.int (nI (1))), some (.int (nI k - nI 1)), x13] [] (lb_W ω.2.2 ad ((P, R, T1, S, L, B, Nw1, U1, n - k, Kd), (fr, to, ln, aw), (su1, ca1, we1, fa1, sb1, tb1), (wk1, nw1, wo1), ((va_cpy ca k0 0 0 12), (va_cpy we k1 0 0 12), (va_cpy fa k2 0 0 12), (va_cpy sb k3 0 0 12), (va_cpy tb k4 0 0 12), (va_cpy su k5 0 0 3)), RE, BF, BK)) := by
                        intro k
                        induction k with
                        | zero =>
                          intro T1 Nw1 U1 su1 ca1 we1 fa1 sb1 tb1 wk1 nw1 wo1 x13 hkn hJ1 hW hT1
                          rw [Nat.sub_zero] at hJ1 hW hT1 ⊢
                          rw [show nI 0 - nI 1 = -1 by decide +kernel]
                          refine la_iload K dX0_worst_143 rfl ?_
                          refine la_if_lt K 170 dX0_worst_145 rfl (fun h145 => ?_) (fun h145 => absurd (by decide) h145)
                          have hD1 := hJ1.2.2.2.2.2.2.2.2 hL1
                          have hcost : lp_tot su1 L = lp_wct L aw B Kd (lp_pd n x) n := by
                            rw [lp_tot_congr (g := fun k => lp_sm aw B ca1 we1 k n) L (fun k hk => hD1.2.2.2.2.2.2.2.1 k hk), lp_tot_sm n hD1.2.2.1, lp_WR_ct hW]
                          have hleast : lp_min 1000000 (lp_LQ (lp_wc P L aw B ca1 n) (2 ^ (3 * L))) = lp_lo L aw B (lp_pd n x) n := by
                            rw [lp_least hP hL1 hL3 hB hd64 hg0 (by omega) hD1.2.1, lp_lo_congr (fun i hi => (hW i hi).1)]
                          have hlle : lp_lo L aw B (lp_pd n x) n ≤ lp_wct L aw B Kd (lp_pd n x) n := by
                            rw [← hcost, ← hleast, lp_least hP hL1 hL3 hB hd64 hg0 (by omega) hD1.2.1, lp_tot_congr (g := fun k => lp_sm aw B ca1 we1 k n) L (fun k hk => hD1.2.2.2.2.2.2.2.1 k hk), lp_tot_sm n hD1.2.2.1]
                            exact lp_lo_le hP hL3 hB hD1.2.1 hD1.2.2.1 hd64 (by omega)
                          have hcle : lp_wct L aw B Kd (lp_pd n x) n ≤ 1000000 := by
                            rw [← hcost]
                            have := lp_tot_le (f := su1) (m := 76800) L (fun k hk => lb_D_su hP hL3 (by omega) hD1 k hk)
                            have : 76800 * L ≤ 76800 * 3 := Nat.mul_le_mul_left _ hL3
                            omega
                          refine la_aload_n K dX0_worst_170 rfl ?_
                          refine la_callVp K ok_X0_costNow q457 (lb_costNow hL3) 0 rfl rfl rfl rfl rfl (Nat.le_of_ble_eq_true rfl) ⟨Nat.le_of_ble_eq_true rfl, Nat.le_of_ble_eq_true rfl⟩ ⟨Nat.zero_le _, Nat.zero_le _⟩ dX0_worst_171 ?_
                          rw [hcost]
                          refine la_istore12 K dX0_worst_174 rfl ?_
                          refine la_aload_n K dX0_worst_176 rfl ?_
                          refine la_iload_n K dX0_worst_177 rfl ?_
                          refine la_callVi0 K ok_X0_leastOf q473 (lb_leastOf (n := n) hP hL1 hL3 hd64 hB (by omega) (fun i hi => hJ1.2.2.2.2.2.2.2.2 hL1 |>.2.1 i hi)) 0 rfl rfl rfl rfl rfl (Nat.le_of_ble_eq_true rfl) ⟨Nat.le_of_ble_eq_true rfl, Nat.le_of_ble_eq_true rfl⟩ ⟨Nat.zero_le _, Nat.zero_le _⟩ dX0_worst_178 (fun r178 u178 p178 => ?_)
                          obtain ⟨rfl, wk2, nw2, rfl⟩ := p178
                          rw [hleast]
                          refine la_istore13 K dX0_worst_181 rfl ?_
                          refine la_iload K dX0_worst_183 rfl ?_
                          refine la_iload K dX0_worst_185 rfl ?_
                          refine la_isubN K dX0_worst_187 (by omega) ?_
                          refine la_iload K dX0_worst_188 rfl ?_
                          refine la_icmp_le K 212 dX0_worst_190 rfl (fun h190 => ?_) (fun h190 => ?_)
                          · exact hend _ _ _ _ _ _ _ _ _ _ _ _ _ _ _ _ _ (by rw [hrow]; exact (lp_wup_in hwok hcle h190).symm) (by rw [hrow]; exact hT1)
                          · refine la_iload K dX0_worst_193 rfl ?_
                            refine la_iload K dX0_worst_195 rfl ?_
                            refine la_isubN K dX0_worst_197 (by omega) ?_
                            refine la_istore6 K dX0_worst_198 rfl ?_
                            refine la_iload K dX0_worst_200 rfl ?_
                            refine la_istore7 K dX0_worst_202 rfl ?_
                            refine la_iload K dX0_worst_204 rfl ?_
                            refine la_istore8 K dX0_worst_206 rfl ?_
                            refine la_iload K dX0_worst_208 rfl ?_
                            refine la_istore9 K dX0_worst_210 rfl ?_
                            exact hend (some (x, lp_wct L aw B Kd (lp_pd n x) n, lp_lo L aw B (lp_pd n x) n)) _ _ _ _ _ _ _ _ _ _ _ _ _ _ _ _ (by rw [hrow]; exact (lp_wup_out hwok hcle h190).symm) (by rw [hrow]; exact hT1)
                        | succ k ihs =>
                          intro T1 Nw1 U1 su1 ca1 we1 fa1 sb1 tb1 wk1 nw1 wo1 x13 hkn hJ1 hW hT1
                          rw [pk_sub (by omega), show k + 1 - 1 = k by omega]
                          refine la_iload K dX0_worst_143 rfl ?_
                          refine la_if_ltN K 170 dX0_worst_145 rfl (by omega) ?_
                          refine la_aload_n K dX0_worst_148 rfl ?_
                          refine la_iload K dX0_worst_149 rfl ?_
                          refine la_iconst K dX0_worst_151 la_ki_3 ?_
                          refine la_iload K dX0_worst_152 rfl ?_
                          refine la_imulN K dX0_worst_154 ?_
                          refine la_ishrN K dX0_worst_155 (by omega) (by omega) ?_
                          refine la_bipush K dX0_worst_156 la_kb_7 ?_
                          refine la_iand7 K dX0_worst_158 (by have := Nat.div_le_self x (2 ^ (3 * k)); omega) ?_
                          rw [show x / 2 ^ (3 * k) % 8 = lp_dg x k from rfl]
                          refine la_callVi0 K ok_X0_serve q322 (lb_serve hJ1 hL1 (by omega) (hdx k (by omega))) 0 rfl rfl rfl rfl rfl (Nat.le_of_ble_eq_true rfl) ⟨Nat.le_of_ble_eq_true rfl, Nat.le_of_ble_eq_true rfl⟩ ⟨Nat.zero_le _, Nat.zero_le _⟩ dX0_worst_159 (fun r159 u159 p159 => ?_)
                          obtain ⟨-, Nw2, U2, su2, ca2, fa2, tb2, wk2, nw2, wo2, rfl, hc2, hc3, hJ2⟩ := p159
                          refine la_istore13 K dX0_worst_162 rfl ?_
                          refine la_iinc12 K dX0_worst_164 (la_dec_R _) rfl ?_
                          refine la_goto K 143 dX0_worst_167 rfl ?_
                          have ej : lp_pd n x (n - (k + 1)) = lp_dg x k := by unfold lp_pd; rw [show n - 1 - (n - (k + 1)) = k by omega]
                          have ek : n - (k + 1) + 1 = n - k := by omega
                          have hD1 := hJ1.2.2.2.2.2.2.2.2 hL1
                          have hW2 := lp_WR_step hW hc2 (hc3.trans ej.symm)
                          rw [ej, ek] at hW2
                          rw [ek] at hJ2 ⊢
                          refine ihs _ _ _ _ _ _ _ _ _ _ _ _ _ (by omega) hJ2 hW2 ?_
                          rw [hT1, ← ek, lp_wtr, ← lp_WR_sn hW, ej, ← hD1.2.2.2.2.2.2.1]
                      refine la_aload_n K dX0_worst_130 rfl ?_
                      refine la_aload_n K dX0_worst_131 rfl ?_
                      refine lb_g_B K q141 dX0_worst_132 ?_
                      refine la_callVv0 K ok_X0_forget q288 lb_forget 0 rfl rfl rfl rfl rfl (Nat.le_of_ble_eq_true rfl) ⟨Nat.le_of_ble_eq_true rfl, Nat.le_of_ble_eq_true rfl⟩ ⟨Nat.zero_le _, Nat.zero_le _⟩ dX0_worst_135 (fun u135 p135 => ?_)
                      obtain ⟨su2, rfl, hsu2⟩ := p135
                      refine la_iload_n K dX0_worst_138 rfl ?_
                      refine la_iconst K dX0_worst_139 la_ki_1 ?_
                      refine la_isub K dX0_worst_140 ?_
                      refine la_istore12 K dX0_worst_141 rfl ?_
                      have hJ0 : lb_Jx P R L B (B) (0) (0) Kd fr to ln aw (su2) (ca1) (we1) (fa1) (sb1) (tb1) := ⟨hP, hR, hro, hL3, by omega, hKd, fun _ => rfl, haw, fun _ => ⟨hB, fun i hi => by omega, fun i hi => by omega, fun i hi => by omega, hd64, hg0, rfl, fun k hk => hsu2 k (by omega), (Nat.zero_mod L).symm, fun i hi => by omega, fun i hi => by omega⟩⟩
                      subst hz1
                      have := sl n T1 B 0 su2 ca1 we1 fa1 sb1 tb1 wk1 nw1 wo1 x13 (Nat.le_refl n)
                      rw [Nat.sub_self] at this
                      exact this hJ0 lp_WR_0 hT
                  · refine la_iload K dX0_worst_90 rfl ?_
                    refine la_if_eqN K 116 dX0_worst_92 rfl (by have := hz.1; omega) (fun h92 => ?_) (fun h92 => ?_)
                    · refine la_iconst K dX0_worst_116 la_ki_0 ?_
                      refine la_istore11 K dX0_worst_117 rfl ?_
                      refine la_iinc12 K dX0_worst_119 (la_inc_N _) rfl ?_
                      refine la_goto K 84 dX0_worst_122 rfl ?_
                      exact ihz (k + 1) 0 (by omega) (by omega) (lp_VQ_f hz (Or.inl h92))
                    · refine la_iload K dX0_worst_95 rfl ?_
                      refine la_iconst K dX0_worst_97 la_ki_3 ?_
                      refine la_iload K dX0_worst_98 rfl ?_
                      refine la_imulN K dX0_worst_100 ?_
                      refine la_ishrN K dX0_worst_101 (by omega) (by omega) ?_
                      refine la_bipush K dX0_worst_102 la_kb_7 ?_
                      refine la_iand7 K dX0_worst_104 (by have := Nat.div_le_self x (2 ^ (3 * k)); omega) ?_
                      rw [show x / 2 ^ (3 * k) % 8 = lp_dg x k from rfl]
                      have hd8 := lp_dg_lt x k
                      refine la_aload_n K dX0_worst_105 rfl ?_
                      refine lb_g_P K q124 dX0_worst_106 ?_
                      refine la_icmp_geN K 116 dX0_worst_109 rfl (by omega) (by omega) (fun h109 => ?_) (fun h109 => ?_)
                      · refine la_iconst K dX0_worst_116 la_ki_0 ?_
                        refine la_istore11 K dX0_worst_117 rfl ?_
                        refine la_iinc12 K dX0_worst_119 (la_inc_N _) rfl ?_
                        refine la_goto K 84 dX0_worst_122 rfl ?_
                        exact ihz (k + 1) 0 (by omega) (by omega) (lp_VQ_f hz (Or.inr h109))
                      · refine la_iconst K dX0_worst_112 la_ki_1 ?_
                        refine la_goto K 117 dX0_worst_113 rfl ?_
                        refine la_istore11 K dX0_worst_117 rfl ?_
                        refine la_iinc12 K dX0_worst_119 (la_inc_N _) rfl ?_
                        refine la_goto K 84 dX0_worst_122 rfl ?_
                        exact ihz (k + 1) 1 (by omega) (by omega) (lp_VQ_t hz h92 h109)
              refine la_iconst K dX0_worst_78 la_ki_1 ?_
              refine la_istore11 K dX0_worst_79 rfl ?_
              refine la_iconst K dX0_worst_81 la_ki_0 ?_
              refine la_istore12 K dX0_worst_82 rfl ?_
              exact ch (n + 1) 0 1 (by omega) (by omega) lp_VQ_0
        refine la_aload_n K dX0_worst_30 rfl ?_
        refine lb_g_C K q152 dX0_worst_31 ?_
        refine la_istore3 K dX0_worst_34 rfl ?_
        refine la_aload_n K dX0_worst_35 rfl ?_
        refine lb_g_Nw K q146 dX0_worst_36 ?_
        refine la_istore4 K dX0_worst_39 rfl ?_
        refine la_aload_n K dX0_worst_41 rfl ?_
        refine lb_g_U K q150 dX0_worst_42 ?_
        refine la_istore5 K dX0_worst_45 rfl ?_
        refine la_aload_n K dX0_worst_47 rfl ?_
        refine la_iconst K dX0_worst_48 la_ki_0 ?_
        refine la_callVv0 K ok_X0_keep q493 lb_keep0 0 rfl rfl rfl rfl rfl (Nat.le_of_ble_eq_true rfl) ⟨Nat.le_of_ble_eq_true rfl, Nat.le_of_ble_eq_true rfl⟩ ⟨Nat.zero_le _, Nat.zero_le _⟩ dX0_worst_49 (fun u49 p49 => ?_)
        subst p49
        refine la_ldc K q497 la_kl_m1000000 dX0_worst_52 ?_
        refine la_istore6 K dX0_worst_54 rfl ?_
        refine la_iconst K dX0_worst_56 la_ki_0 ?_
        refine la_istore7 K dX0_worst_57 rfl ?_
        refine la_iconst K dX0_worst_59 la_ki_0 ?_
        refine la_istore8 K dX0_worst_60 rfl ?_
        refine la_iconst K dX0_worst_62 la_ki_0 ?_
        refine la_istore9 K dX0_worst_63 rfl ?_
        refine la_iconst K dX0_worst_65 la_ki_0 ?_
        refine la_istore10 K dX0_worst_66 rfl ?_
        exact lp (8 ^ n + 1) 0 T _ _ _ _ _ _ _ _ _ _ _ _ _ _ _ (Nat.zero_le _) (by omega) rfl
      · refine la_iconst K dX0_worst_28 la_ki_m1 ?_
        exact hret _ _ _ _ dX0_worst_29 ⟨by unfold lp_woA; rw [if_neg h4, if_neg (fun z => h25 ((lp_intsC0 wt (by decide)).mpr z.2))], _, _, _, _, _, _, _, _, _, _, _, _, _, _, _, by unfold lp_woT; rw [if_neg h4, if_neg (fun z => h25 ((lp_intsC0 wt (by decide)).mpr z.2))], ⟨fun _ _ => rfl, fun _ _ => rfl, fun _ _ => rfl⟩, hJ⟩
  · refine la_bipush K dX0_worst_7 la_kb_m2 ?_
    exact hret _ _ _ _ dX0_worst_9 ⟨by unfold lp_woA; rw [if_pos h4], _, _, _, _, _, _, _, _, _, _, _, _, _, _, _, by unfold lp_woT; rw [if_pos h4], ⟨fun _ _ => rfl, fun _ _ => rfl, fun _ _ => rfl⟩, hJ⟩
end LC16
