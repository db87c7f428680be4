/-! THE COMPONENT's METHODS, part 13: serve, call, cruel, ask. Printed by c13.py. -/
section LC13
variable {ω : la_O} {ad : Nat → Nat} {S : Int32} {T : Int64} {P R L B Nw U C Kd : Nat} {fr to ln aw su ca we fa sb tb wk nw wo k0 k1 k2 k3 k4 k5 : Nat → Nat} {RE : Nat → Nat → Nat} {BF : Nat → Option Nat} {BK : va_W}
theorem lb_J_day {Nw' U' C' : Nat} {su' ca' we' fa' sb' tb' : Nat → Nat} (h : lb_Jx P R L B Nw U C Kd fr to ln aw su ca we fa sb tb) (hC : C' ≤ 12) (hL : 1 ≤ L) (hD : lb_Dx P L B Nw' U' C' aw su' ca' we' fa' sb' tb') : lb_Jx P R L B (Nw') (U') (C') Kd fr to ln aw (su') (ca') (we') (fa') (sb') (tb') :=
  ⟨h.1, h.2.1, h.2.2.1, h.2.2.2.1, hC, h.2.2.2.2.2.1, fun z => by omega, h.2.2.2.2.2.2.2.1, fun _ => hD⟩
theorem lb_D_ca {ca' : Nat → Nat} (h : lb_Dx P L B Nw U C aw su ca we fa sb tb) (e : ∀ i, i < C → ca' i = ca i) : lb_Dx P L B Nw U C aw su ca' we fa sb tb := by
  obtain ⟨hB, h1, h2, h3, h4, h5, h6, h7, h8, h9, h10⟩ := h
  have c1 : ∀ i, i < C → ca i = ca' i := fun i hi => (e i hi).symm
  have c2 : ∀ i, i < C → we i = we i := fun _ _ => rfl
  have c3 : ∀ i, i < C → sb i = sb i := fun _ _ => rfl
  refine ⟨hB, fun i hi => by rw [e i hi]; exact h1 i hi, h2, h3, h4, h5, by rw [← lp_sn_congr c1 c2 C (Nat.le_refl C)]; exact h6, fun k hk => by rw [← lp_sm_congr c1 c2 C (Nat.le_refl C)]; exact h7 k hk, by rw [← lp_tm_congr c1 c2 c3 C (Nat.le_refl C)]; exact h8, fun i hi => ?_, fun i hi => by rw [← lp_tm_congr c1 c2 c3 i (by omega)]; exact h10 i hi⟩
  rw [← lp_cf_congr c1 c2 hi, ← lp_sn_congr c1 c2 i (by omega)]
  exact h9 i hi
set_option maxHeartbeats 4000000 in
theorem lb_serve {p : Nat} (hJ : lb_J ((P, R, T, S, L, B, Nw, U, C, Kd), (fr, to, ln, aw), (su, ca, we, fa, sb, tb), (wk, nw, wo), (k0, k1, k2, k3, k4, k5), RE, BF, BK)) (hL1 : 1 ≤ L) (hC : C < 12) (hp : p < P) : la_CI ω yX0_serve cX0_serve 6 (some .int) (la_rm 7) [.ref (ad 0), .int (nI p)] (lb_W ω.2.2 ad ((P, R, T, S, L, B, Nw, U, C, Kd), (fr, to, ln, aw), (su, ca, we, fa, sb, tb), (wk, nw, wo), (k0, k1, k2, k3, k4, k5), RE, BF, BK)) (lb_W ω.2.2 ad) (fun (r : Int32) (u : lb_S) => r = nI (lp_cho L aw B ca we sb C Kd p) ∧ ∃ (Nw' U' : Nat) (su' ca' fa' tb' wk' nw' wo' : Nat → Nat), u = ((P, R, (lp_trc Kd L (lp_hs L Nw p) T), S, L, B, Nw', U', C + 1, Kd), (fr, to, ln, aw), (su', ca', va_up we C (lp_cho L aw B ca we sb C Kd p), fa', va_up sb C Kd, tb'), (wk', nw', wo'), (k0, k1, k2, k3, k4, k5), RE, BF, BK) ∧ (∀ i, i < C → ca' i = ca i) ∧ ca' C = p ∧ lb_J u) := by
  refine la_CI_of (by decide) [some (.ref (ad 0)), some (.int (nI (p))), none, none, none, none] rfl rfl (Nat.le_of_ble_eq_true rfl) ?_
  intro κ K hret
  have hJx : lb_Jx P R L B Nw U C Kd fr to ln aw su ca we fa sb tb := hJ
  have hJ2 := hJx
  obtain ⟨hP, hR, hro, hL3, hC12, hKd, hLC, haw, hDay⟩ := hJ2
  have hD := hDay hL1
  have hN := lb_D_now hP hL3 hD
  have hNw := lp_sd_lt hN hL3
  have hdg : ∀ k, k < L → lp_dg Nw k < P := hN.2
  have hd64 := hD.2.2.2.2.1
  have hd6 : ∀ a b, a < P → b < P → aw (6 * a + b) ≤ 1000000 := fun a b ha hb => Nat.le_trans (hd64 a b ha hb) (by decide)
  have hca := hD.2.1
  have hB := hD.1
  have hsu : ∀ k, k < L → su k ≤ 1000000 := fun k hk => Nat.le_trans (lb_D_su hP hL3 (by omega) hD k hk) (by decide)
  refine la_aload_n K dX0_serve_0 rfl ?_
  refine lb_g_Kd K q160 dX0_serve_1 ?_
  refine la_astore2 K dX0_serve_4 rfl ?_
  refine la_aload_n K dX0_serve_5 rfl ?_
  refine la_iload_n K dX0_serve_6 rfl ?_
  refine lb_r_sendsF K (by omega) (Or.inr (Or.inl hC)) hP hL1 hL3 hp hNw hdg hd6 hd64 hB hN hca hsu q327 rfl (Nat.le_of_ble_eq_true rfl) ⟨Nat.le_of_ble_eq_true rfl, Nat.le_of_ble_eq_true rfl⟩ ⟨Nat.zero_le _, Nat.zero_le _⟩ dX0_serve_7 (fun ca1 wk1 nw1 wo1 hc1 => ?_)
  rw [lb_cho hP hL1 hL3 (by omega) hD hp]
  obtain ⟨l, hle⟩ : ∃ l, l = lp_cho L aw B ca we sb C Kd p := ⟨_, rfl⟩
  rw [← hle]
  have hl : l < L := by rw [hle]; exact lp_cho_lt hL1
  have hdl := hdg l hl
  refine la_istore3 K dX0_serve_12 rfl ?_
  refine la_aload_n K dX0_serve_13 rfl ?_
  refine la_aload_n K dX0_serve_14 rfl ?_
  refine lb_g_Nw K q146 dX0_serve_15 ?_
  refine la_aload_n K dX0_serve_18 rfl ?_
  refine lb_g_L K q140 dX0_serve_19 ?_
  refine la_iload_n K dX0_serve_22 rfl ?_
  refine lb_r_hasSends K (j := Kd) (by omega) hL3 (by omega) hNw rfl (Nat.le_of_ble_eq_true rfl) ⟨Nat.le_of_ble_eq_true rfl, Nat.le_of_ble_eq_true rfl⟩ ⟨Nat.zero_le _, Nat.zero_le _⟩ dX0_serve_23 ?_
  refine la_istore4 K dX0_serve_28 rfl ?_
  refine la_aload_n K dX0_serve_30 rfl ?_
  refine lb_g_C K q152 dX0_serve_31 ?_
  refine la_istore5 K dX0_serve_34 rfl ?_
  refine la_aload_n K dX0_serve_36 rfl ?_
  refine lb_g_ca K q153 dX0_serve_37 ?_
  refine la_iload K dX0_serve_40 rfl ?_
  refine la_iload_n K dX0_serve_42 rfl ?_
  refine lb_st_ca K (by omega) dX0_serve_43 ?_
  refine la_aload_n K dX0_serve_44 rfl ?_
  refine lb_g_we K q155 dX0_serve_45 ?_
  refine la_iload K dX0_serve_48 rfl ?_
  refine la_iload_n K dX0_serve_50 rfl ?_
  refine lb_st_we K (by omega) dX0_serve_51 ?_
  refine la_aload_n K dX0_serve_52 rfl ?_
  refine lb_g_fa K q156 dX0_serve_53 ?_
  refine la_iload K dX0_serve_56 rfl ?_
  refine la_bipush K dX0_serve_58 la_kb_8 ?_
  refine la_aload_n K dX0_serve_60 rfl ?_
  refine la_aload_n K dX0_serve_61 rfl ?_
  refine lb_g_Nw K q146 dX0_serve_62 ?_
  refine la_iload_n K dX0_serve_65 rfl ?_
  refine la_callSp K ok_X0_at q281 (lb_at (by omega) (by omega) _) rfl rfl rfl (Nat.le_of_ble_eq_true rfl) ⟨Nat.le_of_ble_eq_true rfl, Nat.le_of_ble_eq_true rfl⟩ ⟨Nat.zero_le _, Nat.zero_le _⟩ dX0_serve_66 ?_
  refine la_iload_n K dX0_serve_69 rfl ?_
  refine la_callVp K ok_X0_distance q265 (lb_distance (by omega)) 0 rfl rfl rfl rfl rfl (Nat.le_of_ble_eq_true rfl) ⟨Nat.le_of_ble_eq_true rfl, Nat.le_of_ble_eq_true rfl⟩ ⟨Nat.zero_le _, Nat.zero_le _⟩ dX0_serve_70 ?_
  refine la_imulN K dX0_serve_73 ?_
  refine la_aload_n K dX0_serve_74 rfl ?_
  refine lb_g_Nw K q146 dX0_serve_75 ?_
  refine la_iload_n K dX0_serve_78 rfl ?_
  refine la_callSp K ok_X0_at q281 (lb_at (by omega) (by omega) _) rfl rfl rfl (Nat.le_of_ble_eq_true rfl) ⟨Nat.le_of_ble_eq_true rfl, Nat.le_of_ble_eq_true rfl⟩ ⟨Nat.zero_le _, Nat.zero_le _⟩ dX0_serve_79 ?_
  refine la_iaddN K dX0_serve_82 ?_
  refine lb_st_fa K (by omega) dX0_serve_83 ?_
  refine la_aload_n K dX0_serve_84 rfl ?_
  refine lb_g_sb K q157 dX0_serve_85 ?_
  refine la_iload K dX0_serve_88 rfl ?_
  refine la_aload_n K dX0_serve_90 rfl ?_
  refine lb_g_Kd K q160 dX0_serve_91 ?_
  refine lb_r_kind K (by omega) q300 rfl (Nat.le_of_ble_eq_true rfl) ⟨Nat.le_of_ble_eq_true rfl, Nat.le_of_ble_eq_true rfl⟩ ⟨Nat.zero_le _, Nat.zero_le _⟩ dX0_serve_94 ?_
  refine lb_st_sb K (by omega) dX0_serve_97 ?_
  refine la_aload_n K dX0_serve_98 rfl ?_
  refine lb_g_tb K q158 dX0_serve_99 ?_
  refine la_iload K dX0_serve_102 rfl ?_
  refine la_aload_n K dX0_serve_104 rfl ?_
  refine lb_g_U K q150 dX0_serve_105 ?_
  refine lb_st_tb K (by omega) dX0_serve_108 ?_
  refine la_aload_n K dX0_serve_109 rfl ?_
  refine lb_g_su K q147 dX0_serve_110 ?_
  refine la_iload_n K dX0_serve_113 rfl ?_
  refine la_dup2 K dX0_serve_114 rfl rfl ?_
  refine lb_ld_su K (by omega) dX0_serve_115 ?_
  refine la_aload_n K dX0_serve_116 rfl ?_
  refine la_aload_n K dX0_serve_117 rfl ?_
  refine lb_g_Nw K q146 dX0_serve_118 ?_
  refine la_iload_n K dX0_serve_121 rfl ?_
  refine la_callSp K ok_X0_at q281 (lb_at (by omega) (by omega) _) rfl rfl rfl (Nat.le_of_ble_eq_true rfl) ⟨Nat.le_of_ble_eq_true rfl, Nat.le_of_ble_eq_true rfl⟩ ⟨Nat.zero_le _, Nat.zero_le _⟩ dX0_serve_122 ?_
  refine la_iload_n K dX0_serve_125 rfl ?_
  refine la_callVp K ok_X0_distance q265 (lb_distance (by omega)) 0 rfl rfl rfl rfl rfl (Nat.le_of_ble_eq_true rfl) ⟨Nat.le_of_ble_eq_true rfl, Nat.le_of_ble_eq_true rfl⟩ ⟨Nat.zero_le _, Nat.zero_le _⟩ dX0_serve_126 ?_
  refine la_iaddN K dX0_serve_129 ?_
  refine lb_st_su K (by omega) dX0_serve_130 ?_
  refine la_aload_n K dX0_serve_131 rfl ?_
  refine la_aload_n K dX0_serve_132 rfl ?_
  refine lb_g_Nw K q146 dX0_serve_133 ?_
  refine la_iload_n K dX0_serve_136 rfl ?_
  refine la_iload_n K dX0_serve_137 rfl ?_
  refine la_callSp K ok_X0_moved q384 (lb_moved (by omega) (by omega) (by omega) _) rfl rfl rfl (Nat.le_of_ble_eq_true rfl) ⟨Nat.le_of_ble_eq_true rfl, Nat.le_of_ble_eq_true rfl⟩ ⟨Nat.zero_le _, Nat.zero_le _⟩ dX0_serve_138 ?_
  refine lb_p_Nw K q146 dX0_serve_141 ?_
  refine la_aload_n K dX0_serve_144 rfl ?_
  refine lb_g_Kd K q160 dX0_serve_145 ?_
  refine la_iload_n K dX0_serve_148 rfl ?_
  refine la_iload K dX0_serve_149 rfl ?_
  refine lb_r_went K (by omega) hL1 hL3 hl q415 rfl (Nat.le_of_ble_eq_true rfl) ⟨Nat.le_of_ble_eq_true rfl, Nat.le_of_ble_eq_true rfl⟩ ⟨Nat.zero_le _, Nat.zero_le _⟩ dX0_serve_151 ?_
  refine la_aload_n K dX0_serve_154 rfl ?_
  refine la_dup K dX0_serve_155 rfl ?_
  refine lb_g_C K q152 dX0_serve_156 ?_
  refine la_iconst K dX0_serve_159 la_ki_1 ?_
  refine la_iaddN K dX0_serve_160 ?_
  refine lb_p_C K q152 dX0_serve_161 ?_
  subst hle
  refine la_iload_n K dX0_serve_164 rfl ?_
  exact hret _ _ _ _ dX0_serve_165 ⟨rfl, _, _, _, _, _, _, _, _, _, rfl, fun i hi => (va_up_ne _ _ (by omega)).trans (hc1 i (by omega)), va_up_self _ _ _, lb_J_day (C' := C + 1) hJx (by omega) hL1 (lb_step hP hL1 hL3 hC hKd hD hc1 hp hl)⟩
set_option maxHeartbeats 4000000 in
theorem lb_call (x : Int32) (hJ : lb_J ((P, R, T, S, L, B, Nw, U, C, Kd), (fr, to, ln, aw), (su, ca, we, fa, sb, tb), (wk, nw, wo), (k0, k1, k2, k3, k4, k5), RE, BF, BK)) : la_CI ω yX0_call cX0_call 3 (some .int) (la_rm 8) [.ref (ad 0), .int x] (lb_W ω.2.2 ad ((P, R, T, S, L, B, Nw, U, C, Kd), (fr, to, ln, aw), (su, ca, we, fa, sb, tb), (wk, nw, wo), (k0, k1, k2, k3, k4, k5), RE, BF, BK)) (lb_W ω.2.2 ad) (fun (r : Int32) (u : lb_S) => (¬ lp_in x P ∧ r = -1 ∧ u = ((P, R, T, S, L, B, Nw, U, C, Kd), (fr, to, ln, aw), (su, ca, we, fa, sb, tb), (wk, nw, wo), (k0, k1, k2, k3, k4, k5), RE, BF, BK)) ∨ (lp_in x P ∧ L = 0 ∧ r = -2 ∧ u = ((P, R, T, S, L, B, Nw, U, C, Kd), (fr, to, ln, aw), (su, ca, we, fa, sb, tb), (wk, nw, wo), (k0, k1, k2, k3, k4, k5), RE, BF, BK)) ∨ (lp_in x P ∧ 1 ≤ L ∧ C = 12 ∧ r = -3 ∧ u = ((P, R, T, S, L, B, Nw, U, C, Kd), (fr, to, ln, aw), (su, ca, we, fa, sb, tb), (wk, nw, wo), (k0, k1, k2, k3, k4, k5), RE, BF, BK)) ∨ (∃ p, x = nI p ∧ p < P ∧ 1 ≤ L ∧ C < 12 ∧ r = nI (lp_cho L aw B ca we sb C Kd p) ∧ ∃ (Nw' U' : Nat) (su' ca' fa' tb' wk' nw' wo' : Nat → Nat), u = ((P, R, (lp_trc Kd L (lp_hs L Nw p) T), S, L, B, Nw', U', C + 1, Kd), (fr, to, ln, aw), (su', ca', va_up we C (lp_cho L aw B ca we sb C Kd p), fa', va_up sb C Kd, tb'), (wk', nw', wo'), (k0, k1, k2, k3, k4, k5), RE, BF, BK) ∧ (∀ i, i < C → ca' i = ca i) ∧ ca' C = p ∧ lb_J u)) := by
  refine la_CI_of (by decide) [some (.ref (ad 0)), some (.int (x)), none] rfl rfl (Nat.le_of_ble_eq_true rfl) ?_
  intro κ K hret
  have hJx : lb_Jx P R L B Nw U C Kd fr to ln aw su ca we fa sb tb := hJ
  have hJ2 := hJx
  obtain ⟨hP, hR, hro, hL3, hC12, hKd, hLC, haw, hDay⟩ := hJ2
  by_cases hx : lp_in x P
  rotate_left
  · refine la_aload_n K dX0_call_0 rfl ?_
    refine la_iload_n K dX0_call_1 rfl ?_
    refine la_callVp K ok_X0_againstCall q318 (lb_againstCall _ hP hL3 hC12) 0 rfl rfl rfl rfl rfl (Nat.le_of_ble_eq_true rfl) ⟨Nat.le_of_ble_eq_true rfl, Nat.le_of_ble_eq_true rfl⟩ ⟨Nat.zero_le _, Nat.zero_le _⟩ dX0_call_2 ?_
    rw [if_neg hx]
    refine la_istore2 K dX0_call_5 rfl ?_
    refine la_iload_n K dX0_call_6 rfl ?_
    refine la_if_ne K 18 dX0_call_7 rfl (fun h7 => ?_) (fun h7 => absurd h7 (by decide))
    refine la_iload_n K dX0_call_18 rfl ?_
    exact hret _ _ _ _ dX0_call_19 (Or.inl ⟨hx, rfl, rfl⟩)
  by_cases h0 : L = 0
  · refine la_aload_n K dX0_call_0 rfl ?_
    refine la_iload_n K dX0_call_1 rfl ?_
    refine la_callVp K ok_X0_againstCall q318 (lb_againstCall _ hP hL3 hC12) 0 rfl rfl rfl rfl rfl (Nat.le_of_ble_eq_true rfl) ⟨Nat.le_of_ble_eq_true rfl, Nat.le_of_ble_eq_true rfl⟩ ⟨Nat.zero_le _, Nat.zero_le _⟩ dX0_call_2 ?_
    rw [if_pos hx, if_pos h0]
    refine la_istore2 K dX0_call_5 rfl ?_
    refine la_iload_n K dX0_call_6 rfl ?_
    refine la_if_ne K 18 dX0_call_7 rfl (fun h7 => ?_) (fun h7 => absurd h7 (by decide))
    refine la_iload_n K dX0_call_18 rfl ?_
    exact hret _ _ _ _ dX0_call_19 (Or.inr (Or.inl ⟨hx, h0, rfl, rfl⟩))
  by_cases hc : C = 12
  · refine la_aload_n K dX0_call_0 rfl ?_
    refine la_iload_n K dX0_call_1 rfl ?_
    refine la_callVp K ok_X0_againstCall q318 (lb_againstCall _ hP hL3 hC12) 0 rfl rfl rfl rfl rfl (Nat.le_of_ble_eq_true rfl) ⟨Nat.le_of_ble_eq_true rfl, Nat.le_of_ble_eq_true rfl⟩ ⟨Nat.zero_le _, Nat.zero_le _⟩ dX0_call_2 ?_
    rw [if_pos hx, if_neg h0, if_pos hc]
    refine la_istore2 K dX0_call_5 rfl ?_
    refine la_iload_n K dX0_call_6 rfl ?_
    refine la_if_ne K 18 dX0_call_7 rfl (fun h7 => ?_) (fun h7 => absurd h7 (by decide))
    refine la_iload_n K dX0_call_18 rfl ?_
    exact hret _ _ _ _ dX0_call_19 (Or.inr (Or.inr (Or.inl ⟨hx, by omega, hc, rfl, rfl⟩)))
  obtain ⟨p, hp, rfl⟩ := lp_in_N hx (by omega)
  have hL1 : 1 ≤ L := by omega
  have hC : C < 12 := by omega
  refine la_aload_n K dX0_call_0 rfl ?_
  refine la_iload_n K dX0_call_1 rfl ?_
  refine la_callVp K ok_X0_againstCall q318 (lb_againstCall _ hP hL3 hC12) 0 rfl rfl rfl rfl rfl (Nat.le_of_ble_eq_true rfl) ⟨Nat.le_of_ble_eq_true rfl, Nat.le_of_ble_eq_true rfl⟩ ⟨Nat.zero_le _, Nat.zero_le _⟩ dX0_call_2 ?_
  rw [if_pos hx, if_neg h0, if_neg hc]
  refine la_istore2 K dX0_call_5 rfl ?_
  refine la_iload_n K dX0_call_6 rfl ?_
  refine la_if_ne K 18 dX0_call_7 rfl (fun h7 => absurd rfl h7) (fun h7 => ?_)
  refine la_aload_n K dX0_call_10 rfl ?_
  refine la_iload_n K dX0_call_11 rfl ?_
  refine la_callVi0 K ok_X0_serve q322 (lb_serve hJ hL1 hC hp) 0 rfl rfl rfl rfl rfl (Nat.le_of_ble_eq_true rfl) ⟨Nat.le_of_ble_eq_true rfl, Nat.le_of_ble_eq_true rfl⟩ ⟨Nat.zero_le _, Nat.zero_le _⟩ dX0_call_12 (fun r12 u12 p12 => ?_)
  obtain ⟨rfl, hs12⟩ := p12
  refine la_goto K 19 dX0_call_15 rfl ?_
  exact hret _ _ _ _ dX0_call_19 (Or.inr (Or.inr (Or.inr ⟨p, rfl, hp, hL1, hC, rfl, hs12⟩)))
set_option maxHeartbeats 4000000 in
theorem lb_cruel (hJ : lb_J ((P, R, T, S, L, B, Nw, U, C, Kd), (fr, to, ln, aw), (su, ca, we, fa, sb, tb), (wk, nw, wo), (k0, k1, k2, k3, k4, k5), RE, BF, BK)) : la_CI ω yX0_cruel cX0_cruel 3 (some .int) (la_rm 8) [.ref (ad 0)] (lb_W ω.2.2 ad ((P, R, T, S, L, B, Nw, U, C, Kd), (fr, to, ln, aw), (su, ca, we, fa, sb, tb), (wk, nw, wo), (k0, k1, k2, k3, k4, k5), RE, BF, BK)) (lb_W ω.2.2 ad) (fun (r : Int32) (u : lb_S) => ((L = 0 ∨ ∀ p, p < P → lp_hs L Nw p) ∧ r = -2 ∧ u = ((P, R, T, S, L, B, Nw, U, C, Kd), (fr, to, ln, aw), (su, ca, we, fa, sb, tb), (wk, nw, wo), (k0, k1, k2, k3, k4, k5), RE, BF, BK)) ∨ (1 ≤ L ∧ ∃ p, lp_free P L Nw p ∧ ((C = 12 ∧ r = -3 ∧ u = ((P, R, T, S, L, B, Nw, U, C, Kd), (fr, to, ln, aw), (su, ca, we, fa, sb, tb), (wk, nw, wo), (k0, k1, k2, k3, k4, k5), RE, BF, BK)) ∨ (C < 12 ∧ r = nI p ∧ ∃ (Nw' U' : Nat) (su' ca' fa' tb' wk' nw' wo' : Nat → Nat), u = ((P, R, (lp_trc Kd L (lp_hs L Nw p) T), S, L, B, Nw', U', C + 1, Kd), (fr, to, ln, aw), (su', ca', va_up we C (lp_cho L aw B ca we sb C Kd p), fa', va_up sb C Kd, tb'), (wk', nw', wo'), (k0, k1, k2, k3, k4, k5), RE, BF, BK) ∧ (∀ i, i < C → ca' i = ca i) ∧ ca' C = p ∧ lb_J u)))) := by
  refine la_CI_of (by decide) [some (.ref (ad 0)), none, none] rfl rfl (Nat.le_of_ble_eq_true rfl) ?_
  intro κ K hret
  have hJx : lb_Jx P R L B Nw U C Kd fr to ln aw su ca we fa sb tb := hJ
  have hJ2 := hJx
  obtain ⟨hP, hR, hro, hL3, hC12, hKd, hLC, haw, hDay⟩ := hJ2
  have lp : ∀ (j p : Nat), p ≤ P → P < p + j → (∀ q, q < p → 1 ≤ L → lp_hs L Nw q) → la_At ω κ (0, 0) 2 [some (.ref (ad 0)), some (.int (nI (p))), none] [] (lb_W ω.2.2 ad ((P, R, T, S, L, B, Nw, U, C, Kd), (fr, to, ln, aw), (su, ca, we, fa, sb, tb), (wk, nw, wo), (k0, k1, k2, k3, k4, k5), RE, BF, BK)) := by
    intro j
    induction j with
    | zero => intro p  h1 h2; omega
    | succ j ih =>
      intro p  h1 h2 hq0
      refine la_iload_n K dX0_cruel_2 rfl ?_
      refine la_aload_n K dX0_cruel_3 rfl ?_
      refine lb_g_P K q124 dX0_cruel_4 ?_
      refine la_icmp_geN K 42 dX0_cruel_7 rfl (by omega) (by omega) (fun h7 => ?_) (fun h7 => ?_)
      · refine la_aload_n K dX0_cruel_42 rfl ?_
        refine lb_g_L K q140 dX0_cruel_43 ?_
        refine la_if_eqN K 57 dX0_cruel_46 rfl (by omega) (fun h46 => ?_) (fun h46 => ?_)
        · refine la_bipush K dX0_cruel_57 la_kb_m2 ?_
          exact hret _ _ _ _ dX0_cruel_59 (Or.inl ⟨Or.inl h46, rfl, rfl⟩)
        · refine la_iload_n K dX0_cruel_49 rfl ?_
          refine la_aload_n K dX0_cruel_50 rfl ?_
          refine lb_g_P K q124 dX0_cruel_51 ?_
          refine la_icmp_neN K 60 dX0_cruel_54 rfl (by omega) (by omega) (fun h54 => (by omega)) (fun h54 => ?_)
          refine la_bipush K dX0_cruel_57 la_kb_m2 ?_
          exact hret _ _ _ _ dX0_cruel_59 (Or.inl ⟨Or.inr (fun q hq => hq0 q (by omega) (by omega)), rfl, rfl⟩)
      · refine la_aload_n K dX0_cruel_10 rfl ?_
        refine lb_g_L K q140 dX0_cruel_11 ?_
        refine la_if_leN K 42 dX0_cruel_14 rfl (by omega) (fun h14 => ?_) (fun h14 => ?_)
        · refine la_aload_n K dX0_cruel_42 rfl ?_
          refine lb_g_L K q140 dX0_cruel_43 ?_
          refine la_if_eqN K 57 dX0_cruel_46 rfl (by omega) (fun h46 => ?_) (fun h46 => absurd h14 h46)
          refine la_bipush K dX0_cruel_57 la_kb_m2 ?_
          exact hret _ _ _ _ dX0_cruel_59 (Or.inl ⟨Or.inl h14, rfl, rfl⟩)
        · refine la_aload_n K dX0_cruel_17 rfl ?_
          refine lb_g_Kd K q160 dX0_cruel_18 ?_
          refine la_aload_n K dX0_cruel_21 rfl ?_
          refine lb_g_Nw K q146 dX0_cruel_22 ?_
          refine la_aload_n K dX0_cruel_25 rfl ?_
          refine lb_g_L K q140 dX0_cruel_26 ?_
          refine la_iload_n K dX0_cruel_29 rfl ?_
          refine lb_r_hasNear K (j := Kd) (by omega) hL3 (by omega) (lp_sd_lt (lb_D_now hP hL3 (hDay (by omega))) hL3) rfl (Nat.le_of_ble_eq_true rfl) ⟨Nat.le_of_ble_eq_true rfl, Nat.le_of_ble_eq_true rfl⟩ ⟨Nat.zero_le _, Nat.zero_le _⟩ dX0_cruel_30 ?_
          refine la_if_eqB K 42 dX0_cruel_33 rfl (fun h33 => ?_) (fun h33 => ?_)
          · refine la_aload_n K dX0_cruel_42 rfl ?_
            refine lb_g_L K q140 dX0_cruel_43 ?_
            refine la_if_eqN K 57 dX0_cruel_46 rfl (by omega) (fun h46 => (by omega)) (fun h46 => ?_)
            refine la_iload_n K dX0_cruel_49 rfl ?_
            refine la_aload_n K dX0_cruel_50 rfl ?_
            refine lb_g_P K q124 dX0_cruel_51 ?_
            refine la_icmp_neN K 60 dX0_cruel_54 rfl (by omega) (by omega) (fun h54 => ?_) (fun h54 => (by omega))
            refine la_aload_n K dX0_cruel_60 rfl ?_
            refine lb_g_C K q152 dX0_cruel_61 ?_
            refine la_bipush K dX0_cruel_64 la_kb_12 ?_
            refine la_icmp_neN K 72 dX0_cruel_66 rfl (by omega) (by omega) (fun h66 => ?_) (fun h66 => ?_)
            · refine la_aload_n K dX0_cruel_72 rfl ?_
              refine la_iload_n K dX0_cruel_73 rfl ?_
              refine la_callVi0 K ok_X0_serve q322 (lb_serve hJ (by omega) (by omega) h7) 0 rfl rfl rfl rfl rfl (Nat.le_of_ble_eq_true rfl) ⟨Nat.le_of_ble_eq_true rfl, Nat.le_of_ble_eq_true rfl⟩ ⟨Nat.zero_le _, Nat.zero_le _⟩ dX0_cruel_74 (fun r74 u74 p74 => ?_)
              obtain ⟨-, hs74⟩ := p74
              refine la_istore2 K dX0_cruel_77 rfl ?_
              refine la_iload_n K dX0_cruel_78 rfl ?_
              exact hret _ _ _ _ dX0_cruel_79 (Or.inr ⟨by omega, p, ⟨h7, h33, fun q hq => hq0 q hq (by omega)⟩, Or.inr ⟨by omega, rfl, hs74⟩⟩)
            · refine la_bipush K dX0_cruel_69 la_kb_m3 ?_
              exact hret _ _ _ _ dX0_cruel_71 (Or.inr ⟨by omega, p, ⟨h7, h33, fun q hq => hq0 q hq (by omega)⟩, Or.inl ⟨by omega, rfl, rfl⟩⟩)
          · refine la_iinc1 K dX0_cruel_36 (la_inc_N _) rfl ?_
            refine la_goto K 2 dX0_cruel_39 rfl ?_
            exact ih (p + 1) (by omega) (by omega) (fun q hq hL => by by_cases e : q = p; (· subst e; exact h33); exact hq0 q (by omega) hL)
  refine la_iconst K dX0_cruel_0 la_ki_0 ?_
  refine la_istore1 K dX0_cruel_1 rfl ?_
  exact lp (P + 1) 0 (by omega) (by omega) (fun q hq => by omega)
end LC13
