/-! THE COMPONENT's METHODS, part 14: ask. Printed by c14.py. -/
section LC14
variable {ω : la_O} {ad : Nat → Nat} {S : Int32} {T : Int64} {P R L B Nw U C Kd : Nat} {fr to ln aw su ca we fa sb tb wk nw wo k0 k1 k2 k3 k4 k5 : Nat → Nat} {RE : Nat → Nat → Nat} {BF : Nat → Option Nat} {BK : va_W}
theorem la_kb_11 : (Int8.ofInt (11)).toInt32 = nI 11 := by decide +kernel
theorem lp_wc_congr {P L B : Nat} {d cp cp' : Nat → Nat} : ∀ i, (∀ j, j < i → cp j = cp' j) → lp_wc P L d B cp i = lp_wc P L d B cp' i := by
  intro i
  induction i with
  | zero => intro _; funext x; rfl
  | succ i ih =>
    intro h
    funext x
    have e := ih (fun j hj => h j (by omega))
    rw [lp_wc, lp_wc, e, h i (by omega)]
theorem lp_first2 {v : Nat → Nat} {I k l best : Nat} (h : (k = 0 ∧ l = 0 ∧ best = I) ∨ (0 < k ∧ l = lp_ag v k ∧ best = v l)) (h0 : v 0 < I) : (if v k < best then k else l) = lp_ag v (k + 1) ∧ min best (v k) = v (lp_ag v (k + 1)) := by
  rcases h with ⟨rfl, rfl, rfl⟩ | ⟨hk, rfl, rfl⟩
  · have e : lp_ag v 1 = 0 := lp_ag_1 v
    rw [e]
    exact ⟨by split <;> rfl, by omega⟩
  · have e := lp_ag_step (f := v) (k := k) rfl
    refine ⟨e, ?_⟩
    rw [← e]
    split <;> omega
set_option maxHeartbeats 4000000 in
theorem lb_askBehindAll {p : Nat} (hJ : lb_J ((P, R, T, S, L, B, Nw, U, C, Kd), (fr, to, ln, aw), (su, ca, we, fa, sb, tb), (wk, nw, wo), (k0, k1, k2, k3, k4, k5), RE, BF, BK)) (hL1 : 1 ≤ L) (hC : C = 12) (hp : p < P) : la_CI ω yX0_askBehindAll cX0_askBehindAll 10 (some .int) (la_rm 7) [.ref (ad 0), .int (nI p)] (lb_W ω.2.2 ad ((P, R, T, S, L, B, Nw, U, C, Kd), (fr, to, ln, aw), (su, ca, we, fa, sb, tb), (wk, nw, wo), (k0, k1, k2, k3, k4, k5), RE, BF, BK)) (lb_W ω.2.2 ad) (fun (r : Int32) (u : lb_S) => r = nI (lp_cho L aw B ca we sb C Kd p) ∧ ∃ ca' wk' nw' wo', u = ((P, R, (lp_trc Kd L (lp_hs L Nw p) T), S, L, B, Nw, U, C, Kd), (fr, to, ln, aw), (su, ca', we, fa, sb, tb), (wk', nw', wo'), (k0, k1, k2, k3, k4, k5), RE, BF, BK) ∧ (∀ i, i < C → ca' i = ca i)) := by
  subst hC
  refine la_CI_of (by decide) [some (.ref (ad 0)), some (.int (nI (p))), none, none, none, none, none, none, none, none] rfl rfl (Nat.le_of_ble_eq_true rfl) ?_
  intro κ K hret
  have hJx : lb_Jx P R L B Nw U 12 Kd fr to ln aw su ca we fa sb tb := hJ
  have hJ2 := hJx
  obtain ⟨hP, hR, hro, hL3, hC12, hKd, hLC, haw, hDay⟩ := hJ2
  have hD := hDay hL1
  have hN := lb_D_now hP hL3 hD
  have hNw := lp_sd_lt hN hL3
  have hdg : ∀ k, k < L → lp_dg Nw k < P := hN.2
  have hd64 := hD.2.2.2.2.1
  have hd6 : ∀ a b, a < P → b < P → aw (6 * a + b) ≤ 1000000 := fun a b ha hb => Nat.le_trans (hd64 a b ha hb) (by decide)
  have hca := hD.2.1
  have hB := hD.1
  have hsu : ∀ k, k < L → su k ≤ 1000000 := fun k hk => Nat.le_trans (lb_D_su hP hL3 (by omega) hD k hk) (by decide)
  refine la_aload_n K dX0_askBehindAll_0 rfl ?_
  refine lb_g_ca K q153 dX0_askBehindAll_1 ?_
  refine la_bipush K dX0_askBehindAll_4 la_kb_11 ?_
  refine lb_ld_ca K (by omega) dX0_askBehindAll_6 ?_
  refine la_istore2 K dX0_askBehindAll_7 rfl ?_
  refine la_aload_n K dX0_askBehindAll_8 rfl ?_
  refine lb_g_Kd K q160 dX0_askBehindAll_9 ?_
  refine lb_r_kind K (by omega) q300 rfl (Nat.le_of_ble_eq_true rfl) ⟨Nat.le_of_ble_eq_true rfl, Nat.le_of_ble_eq_true rfl⟩ ⟨Nat.zero_le _, Nat.zero_le _⟩ dX0_askBehindAll_12 ?_
  refine la_iconst K dX0_askBehindAll_15 la_ki_3 ?_
  refine la_icmp_ltN K 46 dX0_askBehindAll_16 rfl (by omega) (by omega) (fun h16 => ?_) (fun h16 => ?_)
  · have hsd : Kd < 3 ∨ (12 : Nat) < 12 ∨ lp_there L (fun k => lp_dg Nw k) p ∨ L = 1 := by first | exact Or.inl h16 | exact Or.inr (Or.inr (Or.inl h35)) | exact Or.inr (Or.inr (Or.inr h43))
    refine la_aload_n K dX0_askBehindAll_46 rfl ?_
    refine lb_g_Kd K q160 dX0_askBehindAll_47 ?_
    refine la_iload_n K dX0_askBehindAll_50 rfl ?_
    refine lb_r_sends K (by omega) hsd hP hL1 hL3 hp hNw hdg hd6 hd64 hB hN hca hsu q437 rfl (Nat.le_of_ble_eq_true rfl) ⟨Nat.le_of_ble_eq_true rfl, Nat.le_of_ble_eq_true rfl⟩ ⟨Nat.zero_le _, Nat.zero_le _⟩ dX0_askBehindAll_51 (fun ca1 wk1 nw1 wo1 hc1 => ?_)
    exact hret _ _ _ _ dX0_askBehindAll_54 ⟨congrArg nI (lb_cho hP hL1 hL3 (by omega) hD hp), ca1, wk1, nw1, wo1, rfl, fun i hi => hc1 i (by omega)⟩
  · refine la_aload_n K dX0_askBehindAll_19 rfl ?_
    refine lb_g_Kd K q160 dX0_askBehindAll_20 ?_
    refine la_aload_n K dX0_askBehindAll_23 rfl ?_
    refine lb_g_Nw K q146 dX0_askBehindAll_24 ?_
    refine la_aload_n K dX0_askBehindAll_27 rfl ?_
    refine lb_g_L K q140 dX0_askBehindAll_28 ?_
    refine la_iload_n K dX0_askBehindAll_31 rfl ?_
    refine lb_r_hasNear K (j := Kd) (by omega) hL3 (by omega) hNw rfl (Nat.le_of_ble_eq_true rfl) ⟨Nat.le_of_ble_eq_true rfl, Nat.le_of_ble_eq_true rfl⟩ ⟨Nat.zero_le _, Nat.zero_le _⟩ dX0_askBehindAll_32 ?_
    refine la_if_neB K 46 dX0_askBehindAll_35 rfl (fun h35 => ?_) (fun h35 => ?_)
    · have hsd : Kd < 3 ∨ (12 : Nat) < 12 ∨ lp_there L (fun k => lp_dg Nw k) p ∨ L = 1 := by first | exact Or.inl h16 | exact Or.inr (Or.inr (Or.inl h35)) | exact Or.inr (Or.inr (Or.inr h43))
      refine la_aload_n K dX0_askBehindAll_46 rfl ?_
      refine lb_g_Kd K q160 dX0_askBehindAll_47 ?_
      refine la_iload_n K dX0_askBehindAll_50 rfl ?_
      refine lb_r_sends K (by omega) hsd hP hL1 hL3 hp hNw hdg hd6 hd64 hB hN hca hsu q437 rfl (Nat.le_of_ble_eq_true rfl) ⟨Nat.le_of_ble_eq_true rfl, Nat.le_of_ble_eq_true rfl⟩ ⟨Nat.zero_le _, Nat.zero_le _⟩ dX0_askBehindAll_51 (fun ca1 wk1 nw1 wo1 hc1 => ?_)
      exact hret _ _ _ _ dX0_askBehindAll_54 ⟨congrArg nI (lb_cho hP hL1 hL3 (by omega) hD hp), ca1, wk1, nw1, wo1, rfl, fun i hi => hc1 i (by omega)⟩
    · refine la_aload_n K dX0_askBehindAll_38 rfl ?_
      refine lb_g_L K q140 dX0_askBehindAll_39 ?_
      refine la_iconst K dX0_askBehindAll_42 la_ki_1 ?_
      refine la_icmp_neN K 55 dX0_askBehindAll_43 rfl (by omega) (by omega) (fun h43 => ?_) (fun h43 => ?_)
      · refine la_aload_n K dX0_askBehindAll_55 rfl ?_
        refine la_dup K dX0_askBehindAll_56 rfl ?_
        refine lb_g_T K q134 dX0_askBehindAll_57 ?_
        refine la_ldc2 K q442 la_kL_1000 dX0_askBehindAll_60 ?_
        refine la_ladd K dX0_askBehindAll_63 ?_
        refine lb_p_T K q134 dX0_askBehindAll_64 ?_
        refine la_aload_n K dX0_askBehindAll_67 rfl ?_
        refine la_bipush K dX0_askBehindAll_68 la_kb_12 ?_
        refine la_callVr0 K ok_X0_workOf q443 (lb_workOf (n := 12) hP hL1 hL3 hd64 hB (by omega) (fun i hi => hca i hi)) 0 rfl rfl rfl rfl rfl (Nat.le_of_ble_eq_true rfl) ⟨Nat.le_of_ble_eq_true rfl, Nat.le_of_ble_eq_true rfl⟩ ⟨Nat.zero_le _, Nat.zero_le _⟩ dX0_askBehindAll_70 (fun u70 p70 => ?_)
        obtain ⟨wk1, nw1, rfl, hwk⟩ := p70
        refine la_astore3 K dX0_askBehindAll_73 rfl ?_
        have hw2 : ∀ y, y < 2 ^ (3 * L) → wk1 y = lp_wc P L aw B (va_up ca 12 p) 12 y := fun y hy => by rw [hwk y hy, lp_wc_congr (cp := ca) (cp' := va_up ca 12 p) 12 (fun j hj => (va_up_ne _ _ (by omega)).symm)]
        have hV0 : (fun k => lp_wc P L aw B (va_up ca 12 p) 13 (lp_mv Nw k p) + aw (6 * lp_dg Nw k + p)) 0 < 2000000 := by
          have h1 := lp_wc_le (P := P) (L := L) (d := aw) (B := B) (cp := va_up ca 12 p) (i := 13) (x := lp_mv Nw 0 p)
          have h2 := hd64 (lp_dg Nw 0) p (hdg 0 (by omega)) hp
          show lp_wc P L aw B (va_up ca 12 p) 13 (lp_mv Nw 0 p) + aw (6 * lp_dg Nw 0 + p) < 2000000
          omega
        have hK3 : Kd = 3 := by omega
        have fin : ∀ b, b = lp_ag (fun k => lp_wc P L aw B (va_up ca 12 p) 13 (lp_mv Nw k p) + aw (6 * lp_dg Nw k + p)) L → nI b = nI (lp_cho L aw B ca we sb 12 Kd p) ∧ ∃ ca' wk' nw' wo', ((P, R, (T + lN 1000), S, L, B, Nw, U, 12, Kd), (fr, to, ln, aw), (su, ca, we, fa, sb, tb), (wk1, nw1, wo), (k0, k1, k2, k3, k4, k5), RE, BF, BK) = ((P, R, (lp_trc Kd L (lp_hs L Nw p) T), S, L, B, Nw, U, 12, Kd), (fr, to, ln, aw), (su, ca', we, fa, sb, tb), (wk', nw', wo'), (k0, k1, k2, k3, k4, k5), RE, BF, BK) ∧ (∀ i, i < 12 → ca' i = ca i) := by
          intro b hb
          have hch := lb_cho (Kd := Kd) hP hL1 hL3 (by omega) hD hp
          refine ⟨?_, ca, wk1, nw1, wo, ?_, fun _ _ => rfl⟩
          · rw [← hch, hb]
            unfold lp_chl
            rw [if_neg (by omega), if_neg (by omega), if_neg (by omega), if_neg h35, if_neg h43]
            exact congrArg nI (lp_ag_congr L (fun k hk => Nat.add_comm _ _))
          · unfold lp_trc
            rw [if_neg (by omega), if_neg (by omega), if_neg (by omega), if_neg (show ¬ lp_hs L Nw p from h35), if_neg h43]
        have lp : ∀ (j l : Nat) (b m : Nat) (x7 x8 x9 : Option Value), l ≤ L → L < l + j → ((l = 0 ∧ b = 0 ∧ m = 2000000) ∨ (0 < l ∧ b = lp_ag (fun k => lp_wc P L aw B (va_up ca 12 p) 13 (lp_mv Nw k p) + aw (6 * lp_dg Nw k + p)) l ∧ m = (fun k => lp_wc P L aw B (va_up ca 12 p) 13 (lp_mv Nw k p) + aw (6 * lp_dg Nw k + p)) b)) → m ≤ 2000000 → la_At ω κ (0, 0) 84 [some (.ref (ad 0)), some (.int (nI (p))), some (.int (nI (ca 11))), some (.ref (ad 11)), some (.int (nI (b))), some (.int (nI (m))), some (.int (nI (l))), x7, x8, x9] [] (lb_W ω.2.2 ad ((P, R, (T + lN 1000), S, L, B, Nw, U, 12, Kd), (fr, to, ln, aw), (su, ca, we, fa, sb, tb), (wk1, nw1, wo), (k0, k1, k2, k3, k4, k5), RE, BF, BK)) := by
          intro j
          induction j with
          | zero => intro l b m x7 x8 x9 h1 h2; omega
          | succ j ih =>
            intro l b m x7 x8 x9 h1 h2 hinv hm
            refine la_iload K dX0_askBehindAll_84 rfl ?_
            refine la_aload_n K dX0_askBehindAll_86 rfl ?_
            refine lb_g_L K q140 dX0_askBehindAll_87 ?_
            refine la_icmp_geN K 207 dX0_askBehindAll_90 rfl (by omega) (by omega) (fun h90 => ?_) (fun h90 => ?_)
            · refine la_iload K dX0_askBehindAll_207 rfl ?_
              exact hret _ _ _ _ dX0_askBehindAll_209 (fin b (by rcases hinv with ⟨h, -, -⟩ | ⟨-, h, -⟩; (· omega); rw [show l = L by omega] at h; exact h))
            · have hX := lp_mv_lt hNw (show l < 3 by omega) (show p < 8 by omega)
              have hXs : lp_sd P L (lp_mv Nw l p) := lp_sd_mv hN hL3 h90 hp hP
              have kk : ∀ v, lp_mn 1000000 (lp_wcQ P L aw B (va_up ca 12 p) 12 (lp_mv Nw l p) L) v → la_At ω κ (0, 0) 157 [some (.ref (ad 0)), some (.int (nI (p))), some (.int (nI (ca 11))), some (.ref (ad 11)), some (.int (nI (b))), some (.int (nI (m))), some (.int (nI (l))), some (.int (nI (lp_mv Nw l p))), some (.int (nI (v))), some (.int (nI (L)))] [] (lb_W ω.2.2 ad ((P, R, (T + lN 1000), S, L, B, Nw, U, 12, Kd), (fr, to, ln, aw), (su, ca, we, fa, sb, tb), (wk1, nw1, wo), (k0, k1, k2, k3, k4, k5), RE, BF, BK)) := by
                intro v hv
                have hv2 : v = lp_wc P L aw B (va_up ca 12 p) 13 (lp_mv Nw l p) := lp_wc_in hXs hv
                have hv1 := hv.1
                have hdl := hdg l h90
                have hdp := hd64 (lp_dg Nw l) p hdl hp
                have hF := lp_first2 (v := (fun k => lp_wc P L aw B (va_up ca 12 p) 13 (lp_mv Nw k p) + aw (6 * lp_dg Nw k + p))) (I := 2000000) hinv hV0
                rw [← hv2] at hF
                refine la_iload K dX0_askBehindAll_157 rfl ?_
                refine la_aload_n K dX0_askBehindAll_159 rfl ?_
                refine la_aload_n K dX0_askBehindAll_160 rfl ?_
                refine lb_g_Nw K q146 dX0_askBehindAll_161 ?_
                refine la_iload K dX0_askBehindAll_164 rfl ?_
                refine la_callSp K ok_X0_at q281 (lb_at (by omega) (by omega) _) rfl rfl rfl (Nat.le_of_ble_eq_true rfl) ⟨Nat.le_of_ble_eq_true rfl, Nat.le_of_ble_eq_true rfl⟩ ⟨Nat.zero_le _, Nat.zero_le _⟩ dX0_askBehindAll_166 ?_
                refine la_iload_n K dX0_askBehindAll_169 rfl ?_
                refine la_callVp K ok_X0_distance q265 (lb_distance (by omega)) 0 rfl rfl rfl rfl rfl (Nat.le_of_ble_eq_true rfl) ⟨Nat.le_of_ble_eq_true rfl, Nat.le_of_ble_eq_true rfl⟩ ⟨Nat.zero_le _, Nat.zero_le _⟩ dX0_askBehindAll_170 ?_
                refine la_iaddN K dX0_askBehindAll_173 ?_
                refine la_istore8 K dX0_askBehindAll_174 rfl ?_
                refine la_iload K dX0_askBehindAll_176 rfl ?_
                refine la_iload K dX0_askBehindAll_178 rfl ?_
                refine la_icmp_geN K 188 dX0_askBehindAll_180 rfl (by omega) (by omega) (fun h180 => ?_) (fun h180 => ?_)
                · refine la_iload K dX0_askBehindAll_188 rfl ?_
                  refine la_istore4 K dX0_askBehindAll_190 rfl ?_
                  refine la_iload K dX0_askBehindAll_192 rfl ?_
                  refine la_iload K dX0_askBehindAll_194 rfl ?_
                  refine la_minN K (by omega) (by omega) q243 rfl (by decide) (Nat.le_of_ble_eq_true rfl) ⟨Nat.zero_le _, Nat.zero_le _⟩ dX0_askBehindAll_196 ?_
                  refine la_istore5 K dX0_askBehindAll_199 rfl ?_
                  refine la_iinc6 K dX0_askBehindAll_201 (la_inc_N _) rfl ?_
                  refine la_goto K 84 dX0_askBehindAll_204 rfl ?_
                  have hA : b = lp_ag (fun k => lp_wc P L aw B (va_up ca 12 p) 13 (lp_mv Nw k p) + aw (6 * lp_dg Nw k + p)) (l + 1) := by have := hF.1; rw [if_neg (by omega)] at this; exact this
                  exact ih (l + 1) _ _ _ _ _ (by omega) (by omega) (Or.inr ⟨by omega, hA, hF.2.trans (congrArg (fun k => lp_wc P L aw B (va_up ca 12 p) 13 (lp_mv Nw k p) + aw (6 * lp_dg Nw k + p)) hA.symm)⟩) (by omega)
                · refine la_iload K dX0_askBehindAll_183 rfl ?_
                  refine la_goto K 190 dX0_askBehindAll_185 rfl ?_
                  refine la_istore4 K dX0_askBehindAll_190 rfl ?_
                  refine la_iload K dX0_askBehindAll_192 rfl ?_
                  refine la_iload K dX0_askBehindAll_194 rfl ?_
                  refine la_minN K (by omega) (by omega) q243 rfl (by decide) (Nat.le_of_ble_eq_true rfl) ⟨Nat.zero_le _, Nat.zero_le _⟩ dX0_askBehindAll_196 ?_
                  refine la_istore5 K dX0_askBehindAll_199 rfl ?_
                  refine la_iinc6 K dX0_askBehindAll_201 (la_inc_N _) rfl ?_
                  refine la_goto K 84 dX0_askBehindAll_204 rfl ?_
                  have hA : l = lp_ag (fun k => lp_wc P L aw B (va_up ca 12 p) 13 (lp_mv Nw k p) + aw (6 * lp_dg Nw k + p)) (l + 1) := by have := hF.1; rw [if_pos (by omega)] at this; exact this
                  exact ih (l + 1) _ _ _ _ _ (by omega) (by omega) (Or.inr ⟨by omega, hA, hF.2.trans (congrArg (fun k => lp_wc P L aw B (va_up ca 12 p) 13 (lp_mv Nw k p) + aw (6 * lp_dg Nw k + p)) hA.symm)⟩) (by omega)
              have inn : ∀ (j k : Nat) (v : Nat), k ≤ L → L < k + j → lp_mn 1000000 (lp_wcQ P L aw B (va_up ca 12 p) 12 (lp_mv Nw l p) k) v → la_At ω κ (0, 0) 112 [some (.ref (ad 0)), some (.int (nI (p))), some (.int (nI (ca 11))), some (.ref (ad 11)), some (.int (nI (b))), some (.int (nI (m))), some (.int (nI (l))), some (.int (nI (lp_mv Nw l p))), some (.int (nI (v))), some (.int (nI (k)))] [] (lb_W ω.2.2 ad ((P, R, (T + lN 1000), S, L, B, Nw, U, 12, Kd), (fr, to, ln, aw), (su, ca, we, fa, sb, tb), (wk1, nw1, wo), (k0, k1, k2, k3, k4, k5), RE, BF, BK)) := by
                intro j
                induction j with
                | zero => intro k v h1 h2; omega
                | succ j ih2 =>
                  intro k v h1 h2 hv
                  refine la_iload K dX0_askBehindAll_112 rfl ?_
                  refine la_aload_n K dX0_askBehindAll_114 rfl ?_
                  refine lb_g_L K q140 dX0_askBehindAll_115 ?_
                  refine la_icmp_geN K 157 dX0_askBehindAll_118 rfl (by omega) (by omega) (fun h118 => ?_) (fun h118 => ?_)
                  · rw [show k = L by omega] at hv ⊢
                    exact kk v hv
                  · have hdk := hXs.2 k h118
                    refine la_iload K dX0_askBehindAll_121 rfl ?_
                    refine la_aload_n K dX0_askBehindAll_123 rfl ?_
                    refine la_iload K dX0_askBehindAll_124 rfl ?_
                    refine la_iload K dX0_askBehindAll_126 rfl ?_
                    refine la_iload_n K dX0_askBehindAll_128 rfl ?_
                    refine la_callSp K ok_X0_moved q384 (lb_moved (by omega) (by omega) (by omega) _) rfl rfl rfl (Nat.le_of_ble_eq_true rfl) ⟨Nat.le_of_ble_eq_true rfl, Nat.le_of_ble_eq_true rfl⟩ ⟨Nat.zero_le _, Nat.zero_le _⟩ dX0_askBehindAll_129 ?_
                    refine lb_ld_wk K (by have := lp_mv_lt hX (show k < 3 by omega) (show p < 8 by omega); omega) dX0_askBehindAll_132 ?_
                    refine la_aload_n K dX0_askBehindAll_133 rfl ?_
                    refine la_iload_n K dX0_askBehindAll_134 rfl ?_
                    refine la_iload K dX0_askBehindAll_135 rfl ?_
                    refine la_iload K dX0_askBehindAll_137 rfl ?_
                    refine la_callSp K ok_X0_at q281 (lb_at (by omega) (by omega) _) rfl rfl rfl (Nat.le_of_ble_eq_true rfl) ⟨Nat.le_of_ble_eq_true rfl, Nat.le_of_ble_eq_true rfl⟩ ⟨Nat.zero_le _, Nat.zero_le _⟩ dX0_askBehindAll_139 ?_
                    refine la_callVp K ok_X0_distance q265 (lb_distance (by omega)) 0 rfl rfl rfl rfl rfl (Nat.le_of_ble_eq_true rfl) ⟨Nat.le_of_ble_eq_true rfl, Nat.le_of_ble_eq_true rfl⟩ ⟨Nat.zero_le _, Nat.zero_le _⟩ dX0_askBehindAll_142 ?_
                    refine la_iaddN K dX0_askBehindAll_145 ?_
                    refine la_minN K (by have := hv.1; omega) (by rw [hw2 _ (lp_mv_small hL3 hXs.1 h118 (by omega))]; have hw3 := lp_wc_le (P := P) (L := L) (d := aw) (B := B) (cp := va_up ca 12 p) (i := 12) (x := lp_mv (lp_mv Nw l p) k p); have := hd64 p (lp_dg (lp_mv Nw l p) k) hp (hXs.2 k h118); omega) q243 rfl (by decide) (Nat.le_of_ble_eq_true rfl) ⟨Nat.zero_le _, Nat.zero_le _⟩ dX0_askBehindAll_146 ?_
                    refine la_istore8 K dX0_askBehindAll_149 rfl ?_
                    refine la_iinc9 K dX0_askBehindAll_151 (la_inc_N _) rfl ?_
                    refine la_goto K 112 dX0_askBehindAll_154 rfl ?_
                    exact ih2 (k + 1) _ (by omega) (by omega) (lp_wcQ_step hv (by rw [va_up_self, hw2 _ (lp_mv_small hL3 hXs.1 h118 (by omega))]))
              refine la_aload_n K dX0_askBehindAll_93 rfl ?_
              refine lb_g_Nw K q146 dX0_askBehindAll_94 ?_
              refine la_iload K dX0_askBehindAll_97 rfl ?_
              refine la_iload_n K dX0_askBehindAll_99 rfl ?_
              refine la_callSp K ok_X0_moved q384 (lb_moved (by omega) (by omega) (by omega) _) rfl rfl rfl (Nat.le_of_ble_eq_true rfl) ⟨Nat.le_of_ble_eq_true rfl, Nat.le_of_ble_eq_true rfl⟩ ⟨Nat.zero_le _, Nat.zero_le _⟩ dX0_askBehindAll_100 ?_
              refine la_istore7 K dX0_askBehindAll_103 rfl ?_
              refine la_ldc K q242 la_kl_1000000 dX0_askBehindAll_105 ?_
              refine la_istore8 K dX0_askBehindAll_107 rfl ?_
              refine la_iconst K dX0_askBehindAll_109 la_ki_0 ?_
              refine la_istore9 K dX0_askBehindAll_110 rfl ?_
              exact inn (L + 1) 0 1000000 (by omega) (by omega) lp_wcQ_0
        refine la_iconst K dX0_askBehindAll_74 la_ki_0 ?_
        refine la_istore4 K dX0_askBehindAll_75 rfl ?_
        refine la_ldc K q444 la_kl_2000000 dX0_askBehindAll_77 ?_
        refine la_istore5 K dX0_askBehindAll_79 rfl ?_
        refine la_iconst K dX0_askBehindAll_81 la_ki_0 ?_
        refine la_istore6 K dX0_askBehindAll_82 rfl ?_
        exact lp (L + 1) 0 0 2000000 _ _ _ (by omega) (by omega) (Or.inl ⟨rfl, rfl, rfl⟩) (by omega)
      · have hsd : Kd < 3 ∨ (12 : Nat) < 12 ∨ lp_there L (fun k => lp_dg Nw k) p ∨ L = 1 := by first | exact Or.inl h16 | exact Or.inr (Or.inr (Or.inl h35)) | exact Or.inr (Or.inr (Or.inr h43))
        refine la_aload_n K dX0_askBehindAll_46 rfl ?_
        refine lb_g_Kd K q160 dX0_askBehindAll_47 ?_
        refine la_iload_n K dX0_askBehindAll_50 rfl ?_
        refine lb_r_sends K (by omega) hsd hP hL1 hL3 hp hNw hdg hd6 hd64 hB hN hca hsu q437 rfl (Nat.le_of_ble_eq_true rfl) ⟨Nat.le_of_ble_eq_true rfl, Nat.le_of_ble_eq_true rfl⟩ ⟨Nat.zero_le _, Nat.zero_le _⟩ dX0_askBehindAll_51 (fun ca1 wk1 nw1 wo1 hc1 => ?_)
        exact hret _ _ _ _ dX0_askBehindAll_54 ⟨congrArg nI (lb_cho hP hL1 hL3 (by omega) hD hp), ca1, wk1, nw1, wo1, rfl, fun i hi => hc1 i (by omega)⟩
set_option maxHeartbeats 4000000 in
theorem lb_ask (x : Int32) (hJ : lb_J ((P, R, T, S, L, B, Nw, U, C, Kd), (fr, to, ln, aw), (su, ca, we, fa, sb, tb), (wk, nw, wo), (k0, k1, k2, k3, k4, k5), RE, BF, BK)) : la_CI ω yX0_ask cX0_ask 2 (some .int) (la_rm 8) [.ref (ad 0), .int x] (lb_W ω.2.2 ad ((P, R, T, S, L, B, Nw, U, C, Kd), (fr, to, ln, aw), (su, ca, we, fa, sb, tb), (wk, nw, wo), (k0, k1, k2, k3, k4, k5), RE, BF, BK)) (lb_W ω.2.2 ad) (fun (r : Int32) (u : lb_S) => (¬ lp_in x P ∧ r = -1 ∧ u = ((P, R, T, S, L, B, Nw, U, C, Kd), (fr, to, ln, aw), (su, ca, we, fa, sb, tb), (wk, nw, wo), (k0, k1, k2, k3, k4, k5), RE, BF, BK)) ∨ (lp_in x P ∧ L = 0 ∧ r = -2 ∧ u = ((P, R, T, S, L, B, Nw, U, C, Kd), (fr, to, ln, aw), (su, ca, we, fa, sb, tb), (wk, nw, wo), (k0, k1, k2, k3, k4, k5), RE, BF, BK)) ∨ (∃ p, x = nI p ∧ p < P ∧ 1 ≤ L ∧ r = nI (lp_cho L aw B ca we sb C Kd p) ∧ ∃ ca' wk' nw' wo', u = ((P, R, (lp_trc Kd L (lp_hs L Nw p) T), S, L, B, Nw, U, C, Kd), (fr, to, ln, aw), (su, ca', we, fa, sb, tb), (wk', nw', wo'), (k0, k1, k2, k3, k4, k5), RE, BF, BK) ∧ (∀ i, i < C → ca' i = ca i) ∧ lb_J u)) := by
  refine la_CI_of (by decide) [some (.ref (ad 0)), some (.int (x))] rfl rfl (Nat.le_of_ble_eq_true rfl) ?_
  intro κ K hret
  have hJx : lb_Jx P R L B Nw U C Kd fr to ln aw su ca we fa sb tb := hJ
  have hJ2 := hJx
  obtain ⟨hP, hR, hro, hL3, hC12, hKd, hLC, haw, hDay⟩ := hJ2
  refine la_aload_n K dX0_ask_0 rfl ?_
  refine la_iload_n K dX0_ask_1 rfl ?_
  refine la_callVp K ok_X0_isPlace q254 (lb_isPlace _ hP) 0 rfl rfl rfl rfl rfl (Nat.le_of_ble_eq_true rfl) ⟨Nat.le_of_ble_eq_true rfl, Nat.le_of_ble_eq_true rfl⟩ ⟨Nat.zero_le _, Nat.zero_le _⟩ dX0_ask_2 ?_
  refine la_if_neC K 10 dX0_ask_5 rfl (fun h5 => ?_) (fun h5 => ?_)
  · refine la_aload_n K dX0_ask_10 rfl ?_
    refine lb_g_L K q140 dX0_ask_11 ?_
    refine la_if_neN K 20 dX0_ask_14 rfl (by omega) (fun h14 => ?_) (fun h14 => ?_)
    · obtain ⟨p, hp, rfl⟩ := lp_in_N h5 (by omega)
      have hL1 : 1 ≤ L := by omega
      have hD := hDay hL1
      have hN := lb_D_now hP hL3 hD
      have hNw := lp_sd_lt hN hL3
      have hdg : ∀ k, k < L → lp_dg Nw k < P := hN.2
      have hd64 := hD.2.2.2.2.1
      have hd6 : ∀ a b, a < P → b < P → aw (6 * a + b) ≤ 1000000 := fun a b ha hb => Nat.le_trans (hd64 a b ha hb) (by decide)
      have hca := hD.2.1
      have hB := hD.1
      have hsu : ∀ k, k < L → su k ≤ 1000000 := fun k hk => Nat.le_trans (lb_D_su hP hL3 (by omega) hD k hk) (by decide)
      refine la_aload_n K dX0_ask_20 rfl ?_
      refine lb_g_C K q152 dX0_ask_21 ?_
      refine la_bipush K dX0_ask_24 la_kb_12 ?_
      refine la_icmp_geN K 38 dX0_ask_26 rfl (by omega) (by omega) (fun h26 => ?_) (fun h26 => ?_)
      · refine la_aload_n K dX0_ask_38 rfl ?_
        refine la_iload_n K dX0_ask_39 rfl ?_
        refine la_callVi0 K ok_X0_askBehindAll q438 (lb_askBehindAll hJ hL1 (by omega) hp) 0 rfl rfl rfl rfl rfl (Nat.le_of_ble_eq_true rfl) ⟨Nat.le_of_ble_eq_true rfl, Nat.le_of_ble_eq_true rfl⟩ ⟨Nat.zero_le _, Nat.zero_le _⟩ dX0_ask_40 (fun r40 u40 p40 => ?_)
        obtain ⟨rfl, ca1, wk1, nw1, wo1, rfl, hc1⟩ := p40
        exact hret _ _ _ _ dX0_ask_43 (Or.inr (Or.inr ⟨p, rfl, hp, hL1, rfl, ca1, wk1, nw1, wo1, rfl, hc1, lb_J_day (C' := C) hJx hC12 hL1 (lb_D_ca hD hc1)⟩))
      · refine la_aload_n K dX0_ask_29 rfl ?_
        refine lb_g_Kd K q160 dX0_ask_30 ?_
        refine la_iload_n K dX0_ask_33 rfl ?_
        refine lb_r_sends K (by omega) (Or.inr (Or.inl h26)) hP hL1 hL3 hp hNw hdg hd6 hd64 hB hN hca hsu q437 rfl (Nat.le_of_ble_eq_true rfl) ⟨Nat.le_of_ble_eq_true rfl, Nat.le_of_ble_eq_true rfl⟩ ⟨Nat.zero_le _, Nat.zero_le _⟩ dX0_ask_34 (fun ca1 wk1 nw1 wo1 hc1 => ?_)
        exact hret _ _ _ _ dX0_ask_37 (Or.inr (Or.inr ⟨p, rfl, hp, hL1, congrArg nI (lb_cho hP hL1 hL3 (by omega) hD hp), ca1, wk1, nw1, wo1, rfl, fun i hi => hc1 i (by omega), lb_J_day (C' := C) hJx hC12 hL1 (lb_D_ca hD (fun i hi => hc1 i (by omega)))⟩))
    · refine la_bipush K dX0_ask_17 la_kb_m2 ?_
      exact hret _ _ _ _ dX0_ask_19 (Or.inr (Or.inl ⟨h5, h14, rfl, rfl⟩))
  · refine la_iconst K dX0_ask_8 la_ki_m1 ?_
    exact hret _ _ _ _ dX0_ask_9 (Or.inl ⟨h5, rfl, rfl⟩)
end LC14
