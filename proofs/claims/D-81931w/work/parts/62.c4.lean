/-! THE COMPONENT's METHODS, part 4. Printed by c4.py. -/
section LC4
variable {ω : la_O} {ad : Nat → Nat} {S : Int32} {T : Int64} {P R L B Nw U C Kd : Nat} {fr to ln aw su ca we fa sb tb wk nw wo k0 k1 k2 k3 k4 k5 : Nat → Nat} {RE : Nat → Nat → Nat} {BF : Nat → Option Nat} {BK : va_W}
theorem lp_costC (x : Int32) {L : Nat} (hL : L ≤ 3) : ((-1 : Int32) ≤ x ∧ x ≤ nI L - nI 1) ↔ (x = -1 ∨ lp_in x L) := by
  have m : (-1 : Int32).toInt = -1 := by decide
  have e : x = -1 ↔ x.toInt = -1 := by rw [← Int32.toInt_inj, m]
  rw [e, Int32.le_iff_toInt_le, Int32.le_iff_toInt_le, pk_sub_toInt (by omega) (by omega), m]
  unfold lp_in
  omega
theorem lb_cost (x : Int32) (hL3 : L ≤ 3) : la_CP ω yX0_cost cX0_cost 2 (some .int) (la_rm 1) [.ref (ad 0), .int x] (lb_W ω.2.2 ad ((P, R, T, S, L, B, Nw, U, C, Kd), (fr, to, ln, aw), (su, ca, we, fa, sb, tb), (wk, nw, wo), (k0, k1, k2, k3, k4, k5), RE, BF, BK)) (lp_csA L su x) := by
  refine la_CI_of (by decide) [some (.ref (ad 0)), some (.int (x))] rfl rfl (Nat.le_of_ble_eq_true rfl) ?_
  intro κ K hret
  refine la_aload_n K dX0_cost_0 rfl ?_
  refine lb_g_L K q140 dX0_cost_1 ?_
  refine la_if_neN K 10 dX0_cost_4 rfl (by omega) (fun h4 => ?_) (fun h4 => ?_)
  · refine la_iload_n K dX0_cost_10 rfl ?_
    refine la_iconst K dX0_cost_11 la_ki_m1 ?_
    refine la_aload_n K dX0_cost_12 rfl ?_
    refine lb_g_L K q140 dX0_cost_13 ?_
    refine la_iconst K dX0_cost_16 la_ki_1 ?_
    refine la_isub K dX0_cost_17 ?_
    refine la_callSp K ok_X0_in q258 (lb_in _ _ _ _) rfl rfl rfl (Nat.le_of_ble_eq_true rfl) ⟨Nat.le_of_ble_eq_true rfl, Nat.le_of_ble_eq_true rfl⟩ ⟨Nat.zero_le _, Nat.zero_le _⟩ dX0_cost_18 ?_
    refine la_if_neC K 28 dX0_cost_21 rfl (fun h21 => ?_) (fun h21 => ?_)
    · have hx0 := (lp_costC x hL3).mp h21
      refine la_iload_n K dX0_cost_28 rfl ?_
      refine la_if_ge K 39 dX0_cost_29 rfl (fun h29 => ?_) (fun h29 => ?_)
      · have hi0 : lp_in x L := hx0.resolve_left (fun z => absurd h29 (by rw [z]; decide))
        obtain ⟨k, hk, rfl⟩ := lp_in_N hi0 (by omega)
        refine la_aload_n K dX0_cost_39 rfl ?_
        refine lb_g_su K q147 dX0_cost_40 ?_
        refine la_iload_n K dX0_cost_43 rfl ?_
        refine lb_ld_su K (by omega) dX0_cost_44 ?_
        exact hret _ _ _ () dX0_cost_45 (by unfold lp_csA; rw [if_neg h4, if_neg (by rintro e; rw [e] at hi0; exact absurd hi0.1 (by decide)), if_pos hi0, nI_clamp (by omega)])
      · have hxm : x = -1 := hx0.resolve_right (fun z => h29 (by rw [Int32.le_iff_toInt_le]; exact z.1))
        refine la_aload_n K dX0_cost_32 rfl ?_
        refine la_callVp K ok_X0_costNow q457 (lb_costNow hL3) 0 rfl rfl rfl rfl rfl (Nat.le_of_ble_eq_true rfl) ⟨Nat.le_of_ble_eq_true rfl, Nat.le_of_ble_eq_true rfl⟩ ⟨Nat.zero_le _, Nat.zero_le _⟩ dX0_cost_33 ?_
        refine la_goto K 45 dX0_cost_36 rfl ?_
        exact hret _ _ _ () dX0_cost_45 (by unfold lp_csA; rw [if_neg h4, if_pos hxm])
    · refine la_iconst K dX0_cost_24 la_ki_m1 ?_
      refine la_goto K 45 dX0_cost_25 rfl ?_
      exact hret _ _ _ () dX0_cost_45 (by unfold lp_csA; rw [if_neg h4, if_neg (fun z => h21 ((lp_costC x hL3).mpr (Or.inl z))), if_neg (fun z => h21 ((lp_costC x hL3).mpr (Or.inr z)))])
  · refine la_bipush K dX0_cost_7 la_kb_m2 ?_
    exact hret _ _ _ () dX0_cost_9 (by unfold lp_csA; rw [if_pos h4])
theorem lp_intsC0 (x : Int32) {b : Nat} (hb : b < 2 ^ 31) : (nI 0 ≤ x ∧ x ≤ nI b) ↔ lp_inI x 0 b := lp_intsC x (by decide) hb
set_option maxHeartbeats 4000000 in
theorem lb_work (n s : Int32) (hP : P ≤ 6) (hL3 : L ≤ 3) (hd6 : 1 ≤ L → ∀ a b, a < P → b < P → aw (6 * a + b) ≤ 6400) (hB : 1 ≤ L → lp_sd P L B) (hC : C ≤ 12) (hca : ∀ i, i < C → ca i < P) : la_CI ω yX0_work cX0_work 3 (some .int) (la_rm 6) [.ref (ad 0), .int n, .int s] (lb_W ω.2.2 ad ((P, R, T, S, L, B, Nw, U, C, Kd), (fr, to, ln, aw), (su, ca, we, fa, sb, tb), (wk, nw, wo), (k0, k1, k2, k3, k4, k5), RE, BF, BK)) (lb_W ω.2.2 ad) (fun (r : Int32) (u : lb_S) => r = (if L = 0 then -2 else @ite _ (lp_inI n 0 C ∧ lp_st P L s) (Classical.propDecidable _) (nI (lp_wc P L aw B ca n.toNatClampNeg s.toNatClampNeg)) (-1)) ∧ ∃ wk' nw', u = ((P, R, T, S, L, B, Nw, U, C, Kd), (fr, to, ln, aw), (su, ca, we, fa, sb, tb), (wk', nw', wo), (k0, k1, k2, k3, k4, k5), RE, BF, BK)) := by
  refine la_CI_of (by decide) [some (.ref (ad 0)), some (.int (n)), some (.int (s))] rfl rfl (Nat.le_of_ble_eq_true rfl) ?_
  intro κ K hret
  refine la_aload_n K dX0_work_0 rfl ?_
  refine lb_g_L K q140 dX0_work_1 ?_
  refine la_if_neN K 10 dX0_work_4 rfl (by omega) (fun h4 => ?_) (fun h4 => ?_)
  · refine la_iload_n K dX0_work_10 rfl ?_
    refine la_iconst K dX0_work_11 la_ki_0 ?_
    refine la_aload_n K dX0_work_12 rfl ?_
    refine lb_g_C K q152 dX0_work_13 ?_
    refine la_callSp K ok_X0_in q258 (lb_in _ _ _ _) rfl rfl rfl (Nat.le_of_ble_eq_true rfl) ⟨Nat.le_of_ble_eq_true rfl, Nat.le_of_ble_eq_true rfl⟩ ⟨Nat.zero_le _, Nat.zero_le _⟩ dX0_work_16 ?_
    refine la_if_eqC K 40 dX0_work_19 rfl (fun h19 => ?_) (fun h19 => ?_)
    · refine la_iconst K dX0_work_40 la_ki_m1 ?_
      exact hret _ _ _ _ dX0_work_41 ⟨by rw [if_neg h4, if_neg (fun z => h19 ((lp_intsC0 n (by omega)).mpr z.1))], _, _, rfl⟩
    · refine la_aload_n K dX0_work_22 rfl ?_
      refine la_iload_n K dX0_work_23 rfl ?_
      refine la_callVp K ok_X0_isStand q277 (lb_isStand _ hL3 hP) 0 rfl rfl rfl rfl rfl (Nat.le_of_ble_eq_true rfl) ⟨Nat.le_of_ble_eq_true rfl, Nat.le_of_ble_eq_true rfl⟩ ⟨Nat.zero_le _, Nat.zero_le _⟩ dX0_work_24 ?_
      refine la_if_eqB K 40 dX0_work_27 rfl (fun h27 => ?_) (fun h27 => ?_)
      · refine la_iconst K dX0_work_40 la_ki_m1 ?_
        exact hret _ _ _ _ dX0_work_41 ⟨by rw [if_neg h4, if_neg (fun z => h27 z.2)], _, _, rfl⟩
      · have hL1 : 1 ≤ L := by omega
        have hn0 := (lp_intsC0 n (by omega)).mp h19
        obtain ⟨n, -, hn, rfl⟩ := lp_inI_N hn0 (by omega)
        obtain ⟨b, rfl, hb, g2⟩ := id h27
        refine la_aload_n K dX0_work_30 rfl ?_
        refine la_iload_n K dX0_work_31 rfl ?_
        refine la_callVr0 K ok_X0_workOf q443 (lb_workOf (n := n) hP hL1 hL3 (hd6 hL1) (hB hL1) (by omega) (fun i hi => hca i (by omega))) 0 rfl rfl rfl rfl rfl (Nat.le_of_ble_eq_true rfl) ⟨Nat.le_of_ble_eq_true rfl, Nat.le_of_ble_eq_true rfl⟩ ⟨Nat.zero_le _, Nat.zero_le _⟩ dX0_work_32 (fun u32 p32 => ?_)
        obtain ⟨wk1, nw1, rfl, hwk⟩ := p32
        refine la_iload_n K dX0_work_35 rfl ?_
        refine lb_ld_wk K (by have := lp_pw hL3; have := g2.1; omega) dX0_work_36 ?_
        refine la_goto K 41 dX0_work_37 rfl ?_
        exact hret _ _ _ _ dX0_work_41 ⟨by rw [if_neg h4, if_pos ⟨hn0, h27⟩, nI_clamp (by omega), nI_clamp hb, hwk b g2.1], _, _, rfl⟩
  · refine la_bipush K dX0_work_7 la_kb_m2 ?_
    exact hret _ _ _ _ dX0_work_9 ⟨by rw [if_pos h4], _, _, rfl⟩
set_option maxHeartbeats 4000000 in
theorem lb_least (n : Int32) (hP : P ≤ 6) (hL3 : L ≤ 3) (hd6 : 1 ≤ L → ∀ a b, a < P → b < P → aw (6 * a + b) ≤ 6400) (hB : 1 ≤ L → lp_sd P L B) (hC : C ≤ 12) (hca : ∀ i, i < C → ca i < P) : la_CI ω yX0_least cX0_least 2 (some .int) (la_rm 7) [.ref (ad 0), .int n] (lb_W ω.2.2 ad ((P, R, T, S, L, B, Nw, U, C, Kd), (fr, to, ln, aw), (su, ca, we, fa, sb, tb), (wk, nw, wo), (k0, k1, k2, k3, k4, k5), RE, BF, BK)) (lb_W ω.2.2 ad) (fun (r : Int32) (u : lb_S) => r = (if L = 0 then -2 else if lp_inI n 0 C then nI (lp_min 1000000 (lp_LQ (lp_wc P L aw B ca n.toNatClampNeg) (2 ^ (3 * L)))) else -1) ∧ ∃ wk' nw', u = ((P, R, T, S, L, B, Nw, U, C, Kd), (fr, to, ln, aw), (su, ca, we, fa, sb, tb), (wk', nw', wo), (k0, k1, k2, k3, k4, k5), RE, BF, BK)) := by
  refine la_CI_of (by decide) [some (.ref (ad 0)), some (.int (n))] rfl rfl (Nat.le_of_ble_eq_true rfl) ?_
  intro κ K hret
  refine la_aload_n K dX0_least_0 rfl ?_
  refine lb_g_L K q140 dX0_least_1 ?_
  refine la_if_neN K 10 dX0_least_4 rfl (by omega) (fun h4 => ?_) (fun h4 => ?_)
  · refine la_iload_n K dX0_least_10 rfl ?_
    refine la_iconst K dX0_least_11 la_ki_0 ?_
    refine la_aload_n K dX0_least_12 rfl ?_
    refine lb_g_C K q152 dX0_least_13 ?_
    refine la_callSp K ok_X0_in q258 (lb_in _ _ _ _) rfl rfl rfl (Nat.le_of_ble_eq_true rfl) ⟨Nat.le_of_ble_eq_true rfl, Nat.le_of_ble_eq_true rfl⟩ ⟨Nat.zero_le _, Nat.zero_le _⟩ dX0_least_16 ?_
    refine la_if_eqC K 30 dX0_least_19 rfl (fun h19 => ?_) (fun h19 => ?_)
    · refine la_iconst K dX0_least_30 la_ki_m1 ?_
      exact hret _ _ _ _ dX0_least_31 ⟨by rw [if_neg h4, if_neg (fun z => h19 ((lp_intsC0 n (by omega)).mpr z))], _, _, rfl⟩
    · have hL1 : 1 ≤ L := by omega
      have hn0 := (lp_intsC0 n (by omega)).mp h19
      obtain ⟨n, -, hn, rfl⟩ := lp_inI_N hn0 (by omega)
      refine la_aload_n K dX0_least_22 rfl ?_
      refine la_iload_n K dX0_least_23 rfl ?_
      refine la_callVi0 K ok_X0_leastOf q473 (lb_leastOf (n := n) hP hL1 hL3 (hd6 hL1) (hB hL1) (by omega) (fun i hi => hca i (by omega))) 0 rfl rfl rfl rfl rfl (Nat.le_of_ble_eq_true rfl) ⟨Nat.le_of_ble_eq_true rfl, Nat.le_of_ble_eq_true rfl⟩ ⟨Nat.zero_le _, Nat.zero_le _⟩ dX0_least_24 (fun r24 u24 p24 => ?_)
      obtain ⟨rfl, wk1, nw1, rfl⟩ := p24
      refine la_goto K 31 dX0_least_27 rfl ?_
      exact hret _ _ _ _ dX0_least_31 ⟨by rw [if_neg h4, if_pos hn0, nI_clamp (by omega)], _, _, rfl⟩
  · refine la_bipush K dX0_least_7 la_kb_m2 ?_
    exact hret _ _ _ _ dX0_least_9 ⟨by rw [if_pos h4], _, _, rfl⟩
set_option maxHeartbeats 4000000 in
theorem lb_ratio (hP : P ≤ 6) (hL3 : L ≤ 3) (hd6 : 1 ≤ L → ∀ a b, a < P → b < P → aw (6 * a + b) ≤ 6400) (hB : 1 ≤ L → lp_sd P L B) (hC : C ≤ 12) (hca : ∀ i, i < C → ca i < P) (hto : lp_tot su L ≤ 1000000) : la_CI ω yX0_ratio cX0_ratio 2 (some .int) (la_rm 7) [.ref (ad 0)] (lb_W ω.2.2 ad ((P, R, T, S, L, B, Nw, U, C, Kd), (fr, to, ln, aw), (su, ca, we, fa, sb, tb), (wk, nw, wo), (k0, k1, k2, k3, k4, k5), RE, BF, BK)) (lb_W ω.2.2 ad) (fun (r : Int32) (u : lb_S) => r = (if L = 0 then -2 else if lp_min 1000000 (lp_LQ (lp_wc P L aw B ca C) (2 ^ (3 * L))) = 0 then -9 else nI (1000 * lp_tot su L / lp_min 1000000 (lp_LQ (lp_wc P L aw B ca C) (2 ^ (3 * L))))) ∧ ∃ wk' nw', u = ((P, R, T, S, L, B, Nw, U, C, Kd), (fr, to, ln, aw), (su, ca, we, fa, sb, tb), (wk', nw', wo), (k0, k1, k2, k3, k4, k5), RE, BF, BK)) := by
  refine la_CI_of (by decide) [some (.ref (ad 0)), none] rfl rfl (Nat.le_of_ble_eq_true rfl) ?_
  intro κ K hret
  refine la_aload_n K dX0_ratio_0 rfl ?_
  refine lb_g_L K q140 dX0_ratio_1 ?_
  refine la_if_neN K 10 dX0_ratio_4 rfl (by omega) (fun h4 => ?_) (fun h4 => ?_)
  · refine la_aload_n K dX0_ratio_10 rfl ?_
    refine la_aload_n K dX0_ratio_11 rfl ?_
    refine lb_g_C K q152 dX0_ratio_12 ?_
    refine la_callVi0 K ok_X0_leastOf q473 (lb_leastOf (n := C) hP (by omega) hL3 (hd6 (by omega)) (hB (by omega)) (by omega) (fun i hi => hca i (by omega))) 0 rfl rfl rfl rfl rfl (Nat.le_of_ble_eq_true rfl) ⟨Nat.le_of_ble_eq_true rfl, Nat.le_of_ble_eq_true rfl⟩ ⟨Nat.zero_le _, Nat.zero_le _⟩ dX0_ratio_15 (fun r15 u15 p15 => ?_)
    obtain ⟨rfl, wk1, nw1, rfl⟩ := p15
    have hlo := lp_min_le 1000000 (lp_LQ (lp_wc P L aw B ca C) (2 ^ (3 * L)))
    refine la_istore1 K dX0_ratio_18 rfl ?_
    refine la_iload_n K dX0_ratio_19 rfl ?_
    refine la_if_neN K 28 dX0_ratio_20 rfl (by omega) (fun h20 => ?_) (fun h20 => ?_)
    · refine la_sipush K dX0_ratio_28 la_ks_1000 ?_
      refine la_aload_n K dX0_ratio_31 rfl ?_
      refine la_callVp K ok_X0_costNow q457 (lb_costNow hL3) 0 rfl rfl rfl rfl rfl (Nat.le_of_ble_eq_true rfl) ⟨Nat.le_of_ble_eq_true rfl, Nat.le_of_ble_eq_true rfl⟩ ⟨Nat.zero_le _, Nat.zero_le _⟩ dX0_ratio_32 ?_
      refine la_imulN K dX0_ratio_35 ?_
      refine la_iload_n K dX0_ratio_36 rfl ?_
      refine la_idivN K dX0_ratio_37 (by omega) (by omega) (by omega) ?_
      exact hret _ _ _ _ dX0_ratio_38 ⟨by rw [if_neg h4, if_neg h20], _, _, rfl⟩
    · refine la_bipush K dX0_ratio_23 la_kb_m9 ?_
      refine la_goto K 38 dX0_ratio_25 rfl ?_
      exact hret _ _ _ _ dX0_ratio_38 ⟨by rw [if_neg h4, if_pos h20], _, _, rfl⟩
  · refine la_bipush K dX0_ratio_7 la_kb_m2 ?_
    exact hret _ _ _ _ dX0_ratio_9 ⟨by rw [if_pos h4], _, _, rfl⟩
set_option maxHeartbeats 4000000 in
theorem lb_back (hC : C ≤ 12) (hNw : 1 ≤ C → Nw < 512) (hb : ∀ c, C = c + 1 → we c < 3 ∧ fa c / 8 ≤ su (we c) ∧ fa c < 1000000) : la_CI ω yX0_back cX0_back 2 (some .int) (la_rm 1) [.ref (ad 0)] (lb_W ω.2.2 ad ((P, R, T, S, L, B, Nw, U, C, Kd), (fr, to, ln, aw), (su, ca, we, fa, sb, tb), (wk, nw, wo), (k0, k1, k2, k3, k4, k5), RE, BF, BK)) (lb_W ω.2.2 ad) (fun (r : Int32) (u : lb_S) => (C = 0 ∧ r = -2 ∧ u = ((P, R, T, S, L, B, Nw, U, C, Kd), (fr, to, ln, aw), (su, ca, we, fa, sb, tb), (wk, nw, wo), (k0, k1, k2, k3, k4, k5), RE, BF, BK)) ∨ (∃ c, C = c + 1 ∧ r = nI c ∧ u = ((P, R, T, S, L, B, lp_mv Nw (we c) (fa c % 8), tb c, c, Kd), (fr, to, ln, aw), (va_up su (we c) (su (we c) - fa c / 8), ca, we, fa, sb, tb), (wk, nw, wo), (k0, k1, k2, k3, k4, k5), RE, BF, BK))) := by
  refine la_CI_of (by decide) [some (.ref (ad 0)), none] rfl rfl (Nat.le_of_ble_eq_true rfl) ?_
  intro κ K hret
  refine la_aload_n K dX0_back_0 rfl ?_
  refine lb_g_C K q152 dX0_back_1 ?_
  refine la_if_neN K 10 dX0_back_4 rfl (by omega) (fun h4 => ?_) (fun h4 => ?_)
  · obtain ⟨c, rfl⟩ : ∃ c, C = c + 1 := ⟨C - 1, by omega⟩
    obtain ⟨g1, g2, g3⟩ := hb c rfl
    refine la_aload_n K dX0_back_10 rfl ?_
    refine la_dup K dX0_back_11 rfl ?_
    refine lb_g_C K q152 dX0_back_12 ?_
    refine la_iconst K dX0_back_15 la_ki_1 ?_
    refine la_isubN K dX0_back_16 (by omega) ?_
    rw [show c + 1 - 1 = c by omega]
    refine lb_p_C K q152 dX0_back_17 ?_
    refine la_aload_n K dX0_back_20 rfl ?_
    refine lb_g_we K q155 dX0_back_21 ?_
    refine la_aload_n K dX0_back_24 rfl ?_
    refine lb_g_C K q152 dX0_back_25 ?_
    refine lb_ld_we K (by omega) dX0_back_28 ?_
    refine la_istore1 K dX0_back_29 rfl ?_
    refine la_aload_n K dX0_back_30 rfl ?_
    refine lb_g_su K q147 dX0_back_31 ?_
    refine la_iload_n K dX0_back_34 rfl ?_
    refine la_dup2 K dX0_back_35 rfl rfl ?_
    refine lb_ld_su K (by omega) dX0_back_36 ?_
    refine la_aload_n K dX0_back_37 rfl ?_
    refine lb_g_fa K q156 dX0_back_38 ?_
    refine la_aload_n K dX0_back_41 rfl ?_
    refine lb_g_C K q152 dX0_back_42 ?_
    refine lb_ld_fa K (by omega) dX0_back_45 ?_
    refine la_bipush K dX0_back_46 la_kb_8 ?_
    refine la_idivN K dX0_back_48 (by omega) (by omega) (by omega) ?_
    refine la_isubN K dX0_back_49 (by omega) ?_
    refine lb_st_su K (by omega) dX0_back_50 ?_
    refine la_aload_n K dX0_back_51 rfl ?_
    refine la_aload_n K dX0_back_52 rfl ?_
    refine lb_g_Nw K q146 dX0_back_53 ?_
    refine la_iload_n K dX0_back_56 rfl ?_
    refine la_aload_n K dX0_back_57 rfl ?_
    refine lb_g_fa K q156 dX0_back_58 ?_
    refine la_aload_n K dX0_back_61 rfl ?_
    refine lb_g_C K q152 dX0_back_62 ?_
    refine lb_ld_fa K (by omega) dX0_back_65 ?_
    refine la_bipush K dX0_back_66 la_kb_8 ?_
    refine la_iremN K dX0_back_68 (by omega) (by omega) (by omega) ?_
    refine la_callSp K ok_X0_moved q384 (lb_moved (hNw (by omega)) (by omega) (by omega) _) rfl rfl rfl (Nat.le_of_ble_eq_true rfl) ⟨Nat.le_of_ble_eq_true rfl, Nat.le_of_ble_eq_true rfl⟩ ⟨Nat.zero_le _, Nat.zero_le _⟩ dX0_back_69 ?_
    refine lb_p_Nw K q146 dX0_back_72 ?_
    refine la_aload_n K dX0_back_75 rfl ?_
    refine la_aload_n K dX0_back_76 rfl ?_
    refine lb_g_tb K q158 dX0_back_77 ?_
    refine la_aload_n K dX0_back_80 rfl ?_
    refine lb_g_C K q152 dX0_back_81 ?_
    refine lb_ld_tb K (by omega) dX0_back_84 ?_
    refine lb_p_U K q150 dX0_back_85 ?_
    refine la_aload_n K dX0_back_88 rfl ?_
    refine lb_g_C K q152 dX0_back_89 ?_
    exact hret _ _ _ _ dX0_back_92 (Or.inr ⟨c, rfl, rfl, rfl⟩)
  · refine la_bipush K dX0_back_7 la_kb_m2 ?_
    exact hret _ _ _ _ dX0_back_9 (Or.inl ⟨h4, rfl, rfl⟩)
theorem lb_told (i w : Int32) (hC : C ≤ 12) (hfa : ∀ i, i < C → fa i < 1000000) : la_CP ω yX0_told cX0_told 3 (some .int) (la_rm 1) [.ref (ad 0), .int i, .int w] (lb_W ω.2.2 ad ((P, R, T, S, L, B, Nw, U, C, Kd), (fr, to, ln, aw), (su, ca, we, fa, sb, tb), (wk, nw, wo), (k0, k1, k2, k3, k4, k5), RE, BF, BK)) (lp_tdA C ca we (fun q => fa q / 8) sb i w) := by
  refine la_CI_of (by decide) [some (.ref (ad 0)), some (.int (i)), some (.int (w))] rfl rfl (Nat.le_of_ble_eq_true rfl) ?_
  intro κ K hret
  refine la_iload_n K dX0_told_0 rfl ?_
  refine la_iconst K dX0_told_1 la_ki_0 ?_
  refine la_aload_n K dX0_told_2 rfl ?_
  refine lb_g_C K q152 dX0_told_3 ?_
  refine la_iconst K dX0_told_6 la_ki_1 ?_
  refine la_isub K dX0_told_7 ?_
  refine la_callSp K ok_X0_in q258 (lb_in _ _ _ _) rfl rfl rfl (Nat.le_of_ble_eq_true rfl) ⟨Nat.le_of_ble_eq_true rfl, Nat.le_of_ble_eq_true rfl⟩ ⟨Nat.zero_le _, Nat.zero_le _⟩ dX0_told_8 ?_
  refine la_if_neC K 16 dX0_told_11 rfl (fun h11 => ?_) (fun h11 => ?_)
  · refine la_iload_n K dX0_told_16 rfl ?_
    have hi0 := (lp_isPlaceC i (by omega)).mp h11
    obtain ⟨ki, hki, rfl⟩ := lp_in_N hi0 (by omega)
    by_cases hx : lp_inI w 0 3
    · obtain ⟨k, -, hk, rfl⟩ := lp_inI_N hx (by decide)
      have hk4 : k = 0 ∨ k = 1 ∨ k = 2 ∨ k = 3 := by omega
      rcases hk4 with rfl | rfl | rfl | rfl
      · refine la_tabIn K 48 dX0_told_17 (by decide +kernel) (by decide +kernel) rfl rfl ?_
        refine la_aload_n K dX0_told_48 rfl ?_
        refine lb_g_ca K q153 dX0_told_49 ?_
        refine la_iload_n K dX0_told_52 rfl ?_
        refine lb_ld_ca K (by omega) dX0_told_53 ?_
        exact hret _ _ _ () dX0_told_54 (by unfold lp_tdA; rw [if_pos ⟨hi0, hx⟩, nI_clamp (by omega)]; simp [la_nnI])
      · refine la_tabIn K 55 dX0_told_17 (by decide +kernel) (by decide +kernel) rfl rfl ?_
        refine la_aload_n K dX0_told_55 rfl ?_
        refine lb_g_we K q155 dX0_told_56 ?_
        refine la_iload_n K dX0_told_59 rfl ?_
        refine lb_ld_we K (by omega) dX0_told_60 ?_
        exact hret _ _ _ () dX0_told_61 (by unfold lp_tdA; rw [if_pos ⟨hi0, hx⟩, nI_clamp (by omega)]; simp [la_nnI])
      · refine la_tabIn K 62 dX0_told_17 (by decide +kernel) (by decide +kernel) rfl rfl ?_
        refine la_aload_n K dX0_told_62 rfl ?_
        refine lb_g_fa K q156 dX0_told_63 ?_
        refine la_iload_n K dX0_told_66 rfl ?_
        refine lb_ld_fa K (by omega) dX0_told_67 ?_
        refine la_bipush K dX0_told_68 la_kb_8 ?_
        refine la_idivN K dX0_told_70 (by omega) (by omega) (by have := hfa ki (by omega); omega) ?_
        exact hret _ _ _ () dX0_told_71 (by unfold lp_tdA; rw [if_pos ⟨hi0, hx⟩, nI_clamp (by omega)]; simp [la_nnI])
      · refine la_tabIn K 72 dX0_told_17 (by decide +kernel) (by decide +kernel) rfl rfl ?_
        refine la_aload_n K dX0_told_72 rfl ?_
        refine lb_g_sb K q157 dX0_told_73 ?_
        refine la_iload_n K dX0_told_76 rfl ?_
        refine lb_ld_sb K (by omega) dX0_told_77 ?_
        exact hret _ _ _ () dX0_told_78 (by unfold lp_tdA; rw [if_pos ⟨hi0, hx⟩, nI_clamp (by omega)]; simp [la_nnI])
    · refine la_tabOut K 79 dX0_told_17 (by unfold lp_inI at hx; omega) rfl ?_
      refine la_iconst K dX0_told_79 la_ki_m1 ?_
      exact hret _ _ _ () dX0_told_80 (by unfold lp_tdA; rw [if_neg (fun z => hx z.2)])
  · refine la_iconst K dX0_told_14 la_ki_m1 ?_
    exact hret _ _ _ () dX0_told_15 (by unfold lp_tdA; rw [if_neg (fun z => h11 ((lp_isPlaceC i (by omega)).mpr z.1))])
section LPWAY
variable {d : Nat → Nat → Nat} {fr to ln : Nat → Nat} {a b k : Nat}
theorem lp_wfo_no (h1 : ¬ fr k = a) (h2 : ¬ to k = a) : lp_wfo d fr to ln a b (k + 1) = lp_wfo d fr to ln a b k := by
  rw [lp_wfo]; unfold lp_wsd; rw [if_neg (fun z => h2 z.1), if_neg (fun z => h1 z.1)]
theorem lp_wfo_to (h1 : ¬ fr k = a) (h2 : to k = a) (h : ln k + d (fr k) b = d a b) : lp_wfo d fr to ln a b (k + 1) = lp_mg (lp_wfo d fr to ln a b k) (fr k) := by
  rw [lp_wfo]; unfold lp_wsd; rw [if_pos ⟨h2, h⟩, if_neg (fun z => h1 z.1)]
theorem lp_wfo_ton (h1 : ¬ fr k = a) (h : ¬ ln k + d (fr k) b = d a b) : lp_wfo d fr to ln a b (k + 1) = lp_wfo d fr to ln a b k := by
  rw [lp_wfo]; unfold lp_wsd; rw [if_neg (fun z => h z.2), if_neg (fun z => h1 z.1)]
theorem lp_wfo_fr (h1 : fr k = a) (h2 : ¬ to k = a) (h : ln k + d (to k) b = d a b) : lp_wfo d fr to ln a b (k + 1) = lp_mg (lp_wfo d fr to ln a b k) (to k) := by
  rw [lp_wfo]; unfold lp_wsd; rw [if_neg (fun z => h2 z.1), if_pos ⟨h1, h⟩]
theorem lp_wfo_frn (h2 : ¬ to k = a) (h : ¬ ln k + d (to k) b = d a b) : lp_wfo d fr to ln a b (k + 1) = lp_wfo d fr to ln a b k := by
  rw [lp_wfo]; unfold lp_wsd; rw [if_neg (fun z => h2 z.1), if_neg (fun z => h z.2)]
end LPWAY
set_option maxHeartbeats 4000000 in
theorem lb_way (a b : Int32) (hP : P ≤ 6) (hR : R ≤ 15) (hro : ∀ k, k < R → fr k < P ∧ to k < P ∧ ¬ fr k = to k ∧ ln k ≤ 100) (haw : ∀ a b, a < P → b < P → aw (6 * a + b) ≤ 1000000) : la_CP ω yX0_way cX0_way 6 (some .int) (la_rm 2) [.ref (ad 0), .int a, .int b] (lb_W ω.2.2 ad ((P, R, T, S, L, B, Nw, U, C, Kd), (fr, to, ln, aw), (su, ca, we, fa, sb, tb), (wk, nw, wo), (k0, k1, k2, k3, k4, k5), RE, BF, BK)) (lp_waA 1000000 P R (fun a b => aw (6 * a + b)) fr to ln a b) := by
  refine la_CI_of (by decide) [some (.ref (ad 0)), some (.int (a)), some (.int (b)), none, none, none] rfl rfl (Nat.le_of_ble_eq_true rfl) ?_
  intro κ K hret
  refine la_aload_n K dX0_way_0 rfl ?_
  refine la_iload_n K dX0_way_1 rfl ?_
  refine la_callVp K ok_X0_isPlace q254 (lb_isPlace _ hP) 0 rfl rfl rfl rfl rfl (Nat.le_of_ble_eq_true rfl) ⟨Nat.le_of_ble_eq_true rfl, Nat.le_of_ble_eq_true rfl⟩ ⟨Nat.zero_le _, Nat.zero_le _⟩ dX0_way_2 ?_
  refine la_if_eqC K 16 dX0_way_5 rfl (fun h5 => ?_) (fun h5 => ?_)
  · refine la_iconst K dX0_way_16 la_ki_m1 ?_
    exact hret _ _ _ () dX0_way_17 (by unfold lp_waA; rw [if_neg (fun z => h5 z.1)])
  · refine la_aload_n K dX0_way_8 rfl ?_
    refine la_iload_n K dX0_way_9 rfl ?_
    refine la_callVp K ok_X0_isPlace q254 (lb_isPlace _ hP) 0 rfl rfl rfl rfl rfl (Nat.le_of_ble_eq_true rfl) ⟨Nat.le_of_ble_eq_true rfl, Nat.le_of_ble_eq_true rfl⟩ ⟨Nat.zero_le _, Nat.zero_le _⟩ dX0_way_10 ?_
    refine la_if_neC K 18 dX0_way_13 rfl (fun h13 => ?_) (fun h13 => ?_)
    · obtain ⟨a, ha, rfl⟩ := lp_in_N h5 (by omega)
      obtain ⟨b, hb, rfl⟩ := lp_in_N h13 (by omega)
      refine la_iload_n K dX0_way_18 rfl ?_
      refine la_iload_n K dX0_way_19 rfl ?_
      refine la_icmp_neN K 25 dX0_way_20 rfl (by omega) (by omega) (fun h20 => ?_) (fun h20 => ?_)
      · refine la_bipush K dX0_way_25 la_kb_m9 ?_
        refine la_istore3 K dX0_way_27 rfl ?_
        refine la_iconst K dX0_way_28 la_ki_0 ?_
        refine la_istore4 K dX0_way_29 rfl ?_
        by_cases hfar : 1000000 ≤ aw (6 * a + b)
        · skip
          refine la_iload K dX0_way_31 rfl ?_
          refine la_aload_n K dX0_way_33 rfl ?_
          refine lb_g_R K q125 dX0_way_34 ?_
          refine la_icmp_geN K 148 dX0_way_37 rfl (by omega) (by omega) (fun h37 => ?_) (fun h37 => ?_)
          · refine la_iload_n K dX0_way_148 rfl ?_
            exact hret _ _ _ () dX0_way_149 (by unfold lp_waA; rw [if_pos ⟨h5, h13⟩, if_neg (fun z => h20 ((nI_eq (by omega) (by omega)).mp z)), nI_clamp (by omega), nI_clamp (by omega), if_pos (by exact hfar)])
          · refine la_aload_n K dX0_way_40 rfl ?_
            refine la_iload_n K dX0_way_41 rfl ?_
            refine la_iload_n K dX0_way_42 rfl ?_
            refine la_callVp K ok_X0_distance q265 (lb_distance (by omega)) 0 rfl rfl rfl rfl rfl (Nat.le_of_ble_eq_true rfl) ⟨Nat.le_of_ble_eq_true rfl, Nat.le_of_ble_eq_true rfl⟩ ⟨Nat.zero_le _, Nat.zero_le _⟩ dX0_way_43 ?_
            refine la_ldc K q242 la_kl_1000000 dX0_way_46 ?_
            refine la_icmp_geN K 148 dX0_way_48 rfl (by have := haw a b (by omega) (by omega); omega) (by omega) (fun h48 => ?_) (fun h48 => absurd h48 (by omega))
            refine la_iload_n K dX0_way_148 rfl ?_
            exact hret _ _ _ () dX0_way_149 (by unfold lp_waA; rw [if_pos ⟨h5, h13⟩, if_neg (fun z => h20 ((nI_eq (by omega) (by omega)).mp z)), nI_clamp (by omega), nI_clamp (by omega), if_pos (by exact hfar)])
        · skip
          have lp : ∀ (j k : Nat) (w : Option Nat) (x5 : Option Value), k ≤ R → R < k + j → w = (lp_wfo (fun a b => aw (6 * a + b)) fr to ln a b k) → la_At ω κ (0, 0) 31 [some (.ref (ad 0)), some (.int (nI (a))), some (.int (nI (b))), some (.int (lp_wv w)), some (.int (nI (k))), x5] [] (lb_W ω.2.2 ad ((P, R, T, S, L, B, Nw, U, C, Kd), (fr, to, ln, aw), (su, ca, we, fa, sb, tb), (wk, nw, wo), (k0, k1, k2, k3, k4, k5), RE, BF, BK)) := by
            intro j
            induction j with
            | zero => intro k w x5 h1 h2; omega
            | succ j ih =>
              intro k w x5 h1 h2 hw0
              refine la_iload K dX0_way_31 rfl ?_
              refine la_aload_n K dX0_way_33 rfl ?_
              refine lb_g_R K q125 dX0_way_34 ?_
              refine la_icmp_geN K 148 dX0_way_37 rfl (by omega) (by omega) (fun h37 => ?_) (fun h37 => ?_)
              · refine la_iload_n K dX0_way_148 rfl ?_
                exact hret _ _ _ () dX0_way_149 (by unfold lp_waA; rw [if_pos ⟨h5, h13⟩, if_neg (fun z => h20 ((nI_eq (by omega) (by omega)).mp z)), nI_clamp (by omega), nI_clamp (by omega), if_neg (by show ¬ 1000000 ≤ aw (6 * a + b); omega), hw0, show k = R by omega])
              · refine la_aload_n K dX0_way_40 rfl ?_
                refine la_iload_n K dX0_way_41 rfl ?_
                refine la_iload_n K dX0_way_42 rfl ?_
                refine la_callVp K ok_X0_distance q265 (lb_distance (by omega)) 0 rfl rfl rfl rfl rfl (Nat.le_of_ble_eq_true rfl) ⟨Nat.le_of_ble_eq_true rfl, Nat.le_of_ble_eq_true rfl⟩ ⟨Nat.zero_le _, Nat.zero_le _⟩ dX0_way_43 ?_
                refine la_ldc K q242 la_kl_1000000 dX0_way_46 ?_
                refine la_icmp_geN K 148 dX0_way_48 rfl (by have := haw a b (by omega) (by omega); omega) (by omega) (fun h48 => absurd h48 (by omega)) (fun h48 => ?_)
                obtain ⟨g1, g2, g3, g4⟩ := hro k (by omega)
                refine la_aload_n K dX0_way_51 rfl ?_
                refine lb_g_fr K q126 dX0_way_52 ?_
                refine la_iload K dX0_way_55 rfl ?_
                refine lb_ld_fr K (by omega) dX0_way_57 ?_
                refine la_iload_n K dX0_way_58 rfl ?_
                refine la_icmp_neN K 72 dX0_way_59 rfl (by omega) (by omega) (fun h59 => ?_) (fun h59 => ?_)
                · refine la_aload_n K dX0_way_72 rfl ?_
                  refine lb_g_to K q127 dX0_way_73 ?_
                  refine la_iload K dX0_way_76 rfl ?_
                  refine lb_ld_to K (by omega) dX0_way_78 ?_
                  refine la_iload_n K dX0_way_79 rfl ?_
                  refine la_icmp_neN K 93 dX0_way_80 rfl (by omega) (by omega) (fun h80 => ?_) (fun h80 => ?_)
                  · refine la_bipush K dX0_way_93 la_kb_m9 ?_
                    refine la_istore5 K dX0_way_95 rfl ?_
                    refine la_iload K dX0_way_97 rfl ?_
                    refine la_if_lt K 142 dX0_way_99 rfl (fun h99 => ?_) (fun h99 => absurd (by decide) h99)
                    refine la_iinc4 K dX0_way_142 (la_inc_N _) rfl ?_
                    refine la_goto K 31 dX0_way_145 rfl ?_
                    exact ih (k + 1) _ _ (by omega) (by omega) (by rw [hw0, lp_wfo_no h59 h80])
                  · refine la_aload_n K dX0_way_83 rfl ?_
                    refine lb_g_fr K q126 dX0_way_84 ?_
                    refine la_iload K dX0_way_87 rfl ?_
                    refine lb_ld_fr K (by omega) dX0_way_89 ?_
                    refine la_goto K 95 dX0_way_90 rfl ?_
                    refine la_istore5 K dX0_way_95 rfl ?_
                    refine la_iload K dX0_way_97 rfl ?_
                    refine la_if_ltN K 142 dX0_way_99 rfl (by omega) ?_
                    refine la_aload_n K dX0_way_102 rfl ?_
                    refine lb_g_ln K q128 dX0_way_103 ?_
                    refine la_iload K dX0_way_106 rfl ?_
                    refine lb_ld_ln K (by omega) dX0_way_108 ?_
                    refine la_aload_n K dX0_way_109 rfl ?_
                    refine la_iload K dX0_way_110 rfl ?_
                    refine la_iload_n K dX0_way_112 rfl ?_
                    refine la_callVp K ok_X0_distance q265 (lb_distance (by omega)) 0 rfl rfl rfl rfl rfl (Nat.le_of_ble_eq_true rfl) ⟨Nat.le_of_ble_eq_true rfl, Nat.le_of_ble_eq_true rfl⟩ ⟨Nat.zero_le _, Nat.zero_le _⟩ dX0_way_113 ?_
                    refine la_iaddN K dX0_way_116 ?_
                    refine la_aload_n K dX0_way_117 rfl ?_
                    refine la_iload_n K dX0_way_118 rfl ?_
                    refine la_iload_n K dX0_way_119 rfl ?_
                    refine la_callVp K ok_X0_distance q265 (lb_distance (by omega)) 0 rfl rfl rfl rfl rfl (Nat.le_of_ble_eq_true rfl) ⟨Nat.le_of_ble_eq_true rfl, Nat.le_of_ble_eq_true rfl⟩ ⟨Nat.zero_le _, Nat.zero_le _⟩ dX0_way_120 ?_
                    refine la_icmp_neN K 142 dX0_way_123 rfl (by have := haw (fr k) b (by omega) (by omega); omega) (by have := haw a b (by omega) (by omega); omega) (fun h123 => ?_) (fun h123 => ?_)
                    · refine la_iinc4 K dX0_way_142 (la_inc_N _) rfl ?_
                      refine la_goto K 31 dX0_way_145 rfl ?_
                      exact ih (k + 1) _ _ (by omega) (by omega) (by rw [hw0]; exact (lp_wfo_ton (d := (fun a b => aw (6 * a + b))) h59 h123).symm)
                    · have hc : ln k + aw (6 * (fr k) + b) = aw (6 * a + b) := h123
                      rcases w with _ | z
                      · skip
                        refine la_iload_n K dX0_way_126 rfl ?_
                        refine la_if_ge K 135 dX0_way_127 rfl (fun h127 => absurd h127 (by decide)) (fun h127 => ?_)
                        refine la_iload K dX0_way_130 rfl ?_
                        refine la_goto K 141 dX0_way_132 rfl ?_
                        refine la_istore3 K dX0_way_141 rfl ?_
                        refine la_iinc4 K dX0_way_142 (la_inc_N _) rfl ?_
                        refine la_goto K 31 dX0_way_145 rfl ?_
                        exact ih (k + 1) (some (fr k)) _ (by omega) (by omega) (by rw [lp_wfo_to (d := (fun a b => aw (6 * a + b))) h59 h80 hc, ← hw0]; rfl)
                      have hz : z < 6 := (hw0 ▸ lp_w6_fo k (fun j hj => ⟨by have := hro j (by omega); omega, by have := hro j (by omega); omega⟩) : lp_w6 (some z)) z rfl
                      have hev : lp_wv (some z) = nI z := rfl
                      rw [hev]
                      refine la_iload_n K dX0_way_126 rfl ?_
                      refine la_if_geN K 135 dX0_way_127 rfl (by omega) ?_
                      refine la_iload_n K dX0_way_135 rfl ?_
                      refine la_iload K dX0_way_136 rfl ?_
                      refine la_minN K (by omega) (by omega) q243 rfl (by decide) (Nat.le_of_ble_eq_true rfl) ⟨Nat.zero_le _, Nat.zero_le _⟩ dX0_way_138 ?_
                      refine la_istore3 K dX0_way_141 rfl ?_
                      refine la_iinc4 K dX0_way_142 (la_inc_N _) rfl ?_
                      refine la_goto K 31 dX0_way_145 rfl ?_
                      exact ih (k + 1) (some (min z (fr k))) _ (by omega) (by omega) (by rw [lp_wfo_to (d := (fun a b => aw (6 * a + b))) h59 h80 hc, ← hw0]; rfl)
                · refine la_aload_n K dX0_way_62 rfl ?_
                  refine lb_g_to K q127 dX0_way_63 ?_
                  refine la_iload K dX0_way_66 rfl ?_
                  refine lb_ld_to K (by omega) dX0_way_68 ?_
                  refine la_goto K 95 dX0_way_69 rfl ?_
                  refine la_istore5 K dX0_way_95 rfl ?_
                  refine la_iload K dX0_way_97 rfl ?_
                  refine la_if_ltN K 142 dX0_way_99 rfl (by omega) ?_
                  refine la_aload_n K dX0_way_102 rfl ?_
                  refine lb_g_ln K q128 dX0_way_103 ?_
                  refine la_iload K dX0_way_106 rfl ?_
                  refine lb_ld_ln K (by omega) dX0_way_108 ?_
                  refine la_aload_n K dX0_way_109 rfl ?_
                  refine la_iload K dX0_way_110 rfl ?_
                  refine la_iload_n K dX0_way_112 rfl ?_
                  refine la_callVp K ok_X0_distance q265 (lb_distance (by omega)) 0 rfl rfl rfl rfl rfl (Nat.le_of_ble_eq_true rfl) ⟨Nat.le_of_ble_eq_true rfl, Nat.le_of_ble_eq_true rfl⟩ ⟨Nat.zero_le _, Nat.zero_le _⟩ dX0_way_113 ?_
                  refine la_iaddN K dX0_way_116 ?_
                  refine la_aload_n K dX0_way_117 rfl ?_
                  refine la_iload_n K dX0_way_118 rfl ?_
                  refine la_iload_n K dX0_way_119 rfl ?_
                  refine la_callVp K ok_X0_distance q265 (lb_distance (by omega)) 0 rfl rfl rfl rfl rfl (Nat.le_of_ble_eq_true rfl) ⟨Nat.le_of_ble_eq_true rfl, Nat.le_of_ble_eq_true rfl⟩ ⟨Nat.zero_le _, Nat.zero_le _⟩ dX0_way_120 ?_
                  refine la_icmp_neN K 142 dX0_way_123 rfl (by have := haw (to k) b (by omega) (by omega); omega) (by have := haw a b (by omega) (by omega); omega) (fun h123 => ?_) (fun h123 => ?_)
                  · refine la_iinc4 K dX0_way_142 (la_inc_N _) rfl ?_
                    refine la_goto K 31 dX0_way_145 rfl ?_
                    exact ih (k + 1) _ _ (by omega) (by omega) (by rw [hw0]; exact (lp_wfo_frn (d := (fun a b => aw (6 * a + b))) (fun z => g3 (by omega)) h123).symm)
                  · have hc : ln k + aw (6 * (to k) + b) = aw (6 * a + b) := h123
                    rcases w with _ | z
                    · skip
                      refine la_iload_n K dX0_way_126 rfl ?_
                      refine la_if_ge K 135 dX0_way_127 rfl (fun h127 => absurd h127 (by decide)) (fun h127 => ?_)
                      refine la_iload K dX0_way_130 rfl ?_
                      refine la_goto K 141 dX0_way_132 rfl ?_
                      refine la_istore3 K dX0_way_141 rfl ?_
                      refine la_iinc4 K dX0_way_142 (la_inc_N _) rfl ?_
                      refine la_goto K 31 dX0_way_145 rfl ?_
                      exact ih (k + 1) (some (to k)) _ (by omega) (by omega) (by rw [lp_wfo_fr (d := (fun a b => aw (6 * a + b))) h59 (fun z => g3 (by omega)) hc, ← hw0]; rfl)
                    have hz : z < 6 := (hw0 ▸ lp_w6_fo k (fun j hj => ⟨by have := hro j (by omega); omega, by have := hro j (by omega); omega⟩) : lp_w6 (some z)) z rfl
                    have hev : lp_wv (some z) = nI z := rfl
                    rw [hev]
                    refine la_iload_n K dX0_way_126 rfl ?_
                    refine la_if_geN K 135 dX0_way_127 rfl (by omega) ?_
                    refine la_iload_n K dX0_way_135 rfl ?_
                    refine la_iload K dX0_way_136 rfl ?_
                    refine la_minN K (by omega) (by omega) q243 rfl (by decide) (Nat.le_of_ble_eq_true rfl) ⟨Nat.zero_le _, Nat.zero_le _⟩ dX0_way_138 ?_
                    refine la_istore3 K dX0_way_141 rfl ?_
                    refine la_iinc4 K dX0_way_142 (la_inc_N _) rfl ?_
                    refine la_goto K 31 dX0_way_145 rfl ?_
                    exact ih (k + 1) (some (min z (to k))) _ (by omega) (by omega) (by rw [lp_wfo_fr (d := (fun a b => aw (6 * a + b))) h59 (fun z => g3 (by omega)) hc, ← hw0]; rfl)
          exact lp (R + 1) 0 none _ (by omega) (by omega) rfl
      · refine la_iload_n K dX0_way_23 rfl ?_
        exact hret _ _ _ () dX0_way_24 (by unfold lp_waA; rw [if_pos ⟨h5, h13⟩, if_pos (by rw [h20])])
    · refine la_iconst K dX0_way_16 la_ki_m1 ?_
      exact hret _ _ _ () dX0_way_17 (by unfold lp_waA; rw [if_neg (fun z => h13 z.2)])
end LC4
