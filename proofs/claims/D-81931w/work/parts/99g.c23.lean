/-! THE COMPONENT's METHODS, part 23: calls. Printed by c23.py. -/
section LC23
variable {ω : la_O} {ad : Nat → Nat} {S : Int32} {T : Int64} {P R L B Nw U C Kd : Nat} {fr to ln aw su ca we fa sb tb wk nw wo k0 k1 k2 k3 k4 k5 : Nat → Nat} {RE : Nat → Nat → Nat} {BF : Nat → Option Nat} {BK : va_W}
variable {bk : lp_Bk}
theorem lp_cls_bad {d : Nat → Nat} {c : Nat → Int64} {j i : Nat} {cp cl ck : Nat → Nat} (h : ¬ (0 ≤ (c i).toInt ∧ (c i).toInt < (P : Int))) : lp_cls P L d B Kd c (j + 1) i C cp cl ck T = (i, -1, C, cp, cl, ck, T) := by
  rw [lp_cls, if_neg h]
theorem lp_cls_no {d : Nat → Nat} {c : Nat → Int64} {j i : Nat} {cp cl ck : Nat → Nat} (h : 0 ≤ (c i).toInt ∧ (c i).toInt < (P : Int)) (hL : L = 0) : lp_cls P L d B Kd c (j + 1) i C cp cl ck T = (i, -2, C, cp, cl, ck, T) := by
  rw [lp_cls, if_pos h, if_pos hL]
theorem lp_cls_full {d : Nat → Nat} {c : Nat → Int64} {j i : Nat} {cp cl ck : Nat → Nat} (h : 0 ≤ (c i).toInt ∧ (c i).toInt < (P : Int)) (hL : ¬ L = 0) (hC : C = 12) : lp_cls P L d B Kd c (j + 1) i C cp cl ck T = (i, -3, C, cp, cl, ck, T) := by
  rw [lp_cls, if_pos h, if_neg hL, if_pos hC]
theorem lp_cls_go {d : Nat → Nat} {c : Nat → Int64} {j i : Nat} {cp cl ck : Nat → Nat} (h : 0 ≤ (c i).toInt ∧ (c i).toInt < (P : Int)) (hL : ¬ L = 0) (hC : ¬ C = 12) : lp_cls P L d B Kd c (j + 1) i C cp cl ck T = lp_cls P L d B Kd c j (i + 1) (C + 1) (va_up cp C (c i).toInt.toNat) (va_up cl C (lp_cho L d B cp cl ck C Kd (c i).toInt.toNat)) (va_up ck C Kd) (lp_trc Kd L (lp_hs L (lp_sn B cp cl C) (c i).toInt.toNat) T) := by
  rw [lp_cls, if_pos h, if_neg hL, if_neg hC]
theorem lp_in_i64 {a : Int64} (hP : P ≤ 6) (h : a = a.toInt32.toInt64) : lp_in a.toInt32 P ↔ (0 ≤ a.toInt ∧ a.toInt < (P : Int)) := by
  have e : a.toInt = a.toInt32.toInt := by
    conv => lhs; rw [h]
    rw [Int32.toInt_toInt64]
  rw [e]
theorem lp_i64_nI {a : Int64} (hP : P ≤ 6) (h : a = a.toInt32.toInt64) (h1 : 0 ≤ a.toInt ∧ a.toInt < (P : Int)) : a.toInt32 = nI a.toInt.toNat := by
  have e : a.toInt = a.toInt32.toInt := by
    conv => lhs; rw [h]
    rw [Int32.toInt_toInt64]
  apply Int32.toInt_inj.mp
  rw [nI_toInt (by omega)]
  omega
theorem la_astoreN0 {κ : la_K} {cc : ByteArray} {nL : Nat} {own : String} {R0 : Room} {n : Nat × Nat} {pc : Nat} {lv : List (Option Value)} {st : List Value} {ws : va_W} (K : la_Cx ω κ cc nL own R0) {k : Nat} (hd : decode cc pc = .ok (.astore k, 2)) (hk : k < lv.length) (hok : la_ok lv k = true) (kk : la_At ω κ n (pc + 2) (lv.set k (some .null)) st ws) : la_At ω κ n pc lv (.null :: st) ws := by
  obtain ⟨hx, hb, hml, hown, hts, hK, hG, hA, hR, hlk⟩ := K
  intro H locs ls hP hD hS hl
  exact lv_astoreN hx hb hd hl hk rfl (fun ls' hl' => kk H locs ls' hP hD hS (la_lp_put hk hok hl'))
set_option maxHeartbeats 4000000 in
theorem lb_calls (hoff : lt_off ω.1) (hJ : lb_J ((P, R, T, S, L, B, Nw, U, C, Kd), (fr, to, ln, aw), (su, ca, we, fa, sb, tb), (wk, nw, wo), (k0, k1, k2, k3, k4, k5), RE, BF, BK)) (hB : lb_BR ω.2.2 bk BF BK) (k x1 : Int32) : lt_C ω yX0_calls cX0_calls 9 (some .int) [(20, 103, 106, 261), (20, 103, 117, 263)] (lt_rm 1 27 2160) lt_Zs [.ref (ad 0), .int k, .int x1] (lb_W ω.2.2 ad ((P, R, T, S, L, B, Nw, U, C, Kd), (fr, to, ln, aw), (su, ca, we, fa, sb, tb), (wk, nw, wo), (k0, k1, k2, k3, k4, k5), RE, BF, BK)) (lb_W ω.2.2 ad) (fun r u => (¬ lp_inI k 0 2 ∧ r = .inl (some (.int (-1))) ∧ u = ((P, R, T, -1, L, B, Nw, U, C, Kd), (fr, to, ln, aw), (su, ca, we, fa, sb, tb), (wk, nw, wo), (k0, k1, k2, k3, k4, k5), RE, BF, BK)) ∨ ∃ kk, k = nI kk ∧ kk < 3 ∧ ((bk kk = none ∧ r = .inl (some (.int (nI 0))) ∧ u = ((P, R, T, -11, L, B, Nw, U, C, Kd), (fr, to, ln, aw), (su, ca, we, fa, sb, tb), (wk, nw, wo), (k0, k1, k2, k3, k4, k5), RE, BF, BK)) ∨ ∃ s N rows, bk kk = some (s, N, rows) ∧ ((¬ lp_in x1 N ∧ r = .inl (some (.int (nI 0))) ∧ u = ((P, R, T, -12, L, B, Nw, U, C, Kd), (fr, to, ln, aw), (su, ca, we, fa, sb, tb), (wk, nw, wo), (k0, k1, k2, k3, k4, k5), RE, BF, BK)) ∨ ∃ kq, x1 = nI kq ∧ kq < N ∧ ((rows kq = none ∧ r = .inl (some (.int (nI 0))) ∧ u = ((P, R, T, -11, L, B, Nw, U, C, Kd), (fr, to, ln, aw), (su, ca, we, fa, sb, tb), (wk, nw, wo), (k0, k1, k2, k3, k4, k5), RE, BF, BK)) ∨ ∃ m0 c0, rows kq = some (m0, c0) ∧ r = .inl (some (.int (nI (lp_cls P L aw B Kd c0 m0 0 C ca we sb T).1))) ∧ ∃ (Nw' U' : Nat) (su' ca' fa' tb' wk' nw' wo' : Nat → Nat), u = ((P, R, (lp_cls P L aw B Kd c0 m0 0 C ca we sb T).2.2.2.2.2.2, (lp_cls P L aw B Kd c0 m0 0 C ca we sb T).2.1, L, B, Nw', U', (lp_cls P L aw B Kd c0 m0 0 C ca we sb T).2.2.1, Kd), (fr, to, ln, aw), (su', ca', (lp_cls P L aw B Kd c0 m0 0 C ca we sb T).2.2.2.2.1, fa', (lp_cls P L aw B Kd c0 m0 0 C ca we sb T).2.2.2.2.2.1, tb'), (wk', nw', wo'), (k0, k1, k2, k3, k4, k5), RE, BF, BK) ∧ (∀ i, i < (lp_cls P L aw B Kd c0 m0 0 C ca we sb T).2.2.1 → ca' i = (lp_cls P L aw B Kd c0 m0 0 C ca we sb T).2.2.2.1 i) ∧ lb_J ((P, R, (lp_cls P L aw B Kd c0 m0 0 C ca we sb T).2.2.2.2.2.2, (lp_cls P L aw B Kd c0 m0 0 C ca we sb T).2.1, L, B, Nw', U', (lp_cls P L aw B Kd c0 m0 0 C ca we sb T).2.2.1, Kd), (fr, to, ln, aw), (su', ca', (lp_cls P L aw B Kd c0 m0 0 C ca we sb T).2.2.2.2.1, fa', (lp_cls P L aw B Kd c0 m0 0 C ca we sb T).2.2.2.2.2.1, tb'), (wk', nw', wo'), (k0, k1, k2, k3, k4, k5), RE, BF, BK))))) := by
  obtain ⟨ℓ, hBl⟩ := hB
  refine lt_C_of [some (.ref (ad 0)), some (.int k), some (.int x1), none, none, none, none, none, none] rfl rfl (Nat.le_of_ble_eq_true rfl) ?_
  intro κ K hz hAs hnm htab hE
  refine la_iload_n K dX0_calls_0 rfl ?_
  refine la_callSp K ok_X0_isBook q587 (lb_isBook _) rfl rfl rfl (Nat.le_of_ble_eq_true rfl) ⟨Nat.le_of_ble_eq_true rfl, Nat.le_of_ble_eq_true rfl⟩ ⟨Nat.zero_le _, Nat.zero_le _⟩ dX0_calls_1 ?_
  refine la_if_neC K 13 dX0_calls_4 rfl (fun h4 => ?_) (fun h4 => ?_)
  rotate_left 1
  · refine la_aload_n K dX0_calls_7 rfl ?_
    refine la_iconst K dX0_calls_8 la_ki_m1 ?_
    refine la_callVi0 K ok_X0_refused q590 (lb_refused _) 0 rfl rfl rfl rfl rfl (Nat.le_of_ble_eq_true rfl) ⟨Nat.le_of_ble_eq_true rfl, Nat.le_of_ble_eq_true rfl⟩ ⟨Nat.zero_le _, Nat.zero_le _⟩ dX0_calls_9 (fun r u p => ?_)
    obtain ⟨rfl, rfl⟩ := p
    exact hE.1 _ _ _ _ _ (Nat.zero_le _) (Nat.zero_le _) rfl dX0_calls_12 (Or.inl ⟨h4, rfl, rfl⟩)
  obtain ⟨kk, -, hkk, rfl⟩ := lp_inI_N h4 (by decide)
  refine la_iconst K dX0_calls_13 la_ki_0 ?_
  refine la_istore3 K dX0_calls_14 rfl ?_
  refine la_aload_n K dX0_calls_15 rfl ?_
  refine la_iconst K dX0_calls_16 la_ki_0 ?_
  refine lb_p_S K q135 dX0_calls_17 ?_
  refine la_aload_n K dX0_calls_20 rfl ?_
  refine lb_g_c39 K q170 dX0_calls_21 ?_
  refine la_iload_n K dX0_calls_24 rfl ?_
  refine la_aaldR (f := BF) K 39 6 rfl rfl rfl (by decide) (by omega) dX0_calls_25 ?_
  rcases hbk : bk kk with _ | ⟨s, N, rows⟩
  · rw [(hBl.1 kk (by omega)).1 hbk]
    refine la_astoreN0 K dX0_calls_26 (Nat.le_of_ble_eq_true rfl) rfl ?_
    refine la_aload0 K dX0_calls_28 rfl ?_
    refine la_iload_n K dX0_calls_30 rfl ?_
    refine la_xvirt0 (k := 1) (As := [.int x1]) (rest := []) K ⟨hz, hAs, hoff⟩ rfl (Nat.zero_le _) (lt_rm_ok _ _ _) ⟨Nat.le_of_ble_eq_true rfl, Nat.le_of_ble_eq_true rfl⟩ q794 q796 q795 (by decide +kernel) rfl rfl dX0_calls_31 ?_
    refine la_Th_catch K htab ["java/lang/NullPointerException", "java/lang/ArrayIndexOutOfBoundsException"] 0 rfl (by decide) rfl (fun i q nm h1 h2 => by
      rcases i with _ | i
      · cases h1; cases h2; exact q659
      rcases i with _ | i
      · cases h1; cases h2; exact q684
      cases h1) (fun i nm hi h2 => by
      omega) ⟨_, rfl, q681⟩ (fun a => ?_)
    refine la_astore4 K dX0_calls_106 rfl ?_
    refine la_aload_n K dX0_calls_108 rfl ?_
    refine la_bipush (v := -11) K dX0_calls_109 (by decide +kernel) ?_
    refine lb_p_S K q135 dX0_calls_111 ?_
    refine la_goto K 125 dX0_calls_114 rfl ?_
    refine la_iload_n K dX0_calls_125 rfl ?_
    exact hE.1 _ _ _ _ _ (Nat.le_of_ble_eq_true rfl) (Nat.le_of_ble_eq_true rfl) rfl dX0_calls_126 (Or.inr ⟨kk, rfl, by omega, Or.inl ⟨hbk, rfl, rfl⟩⟩)
  · obtain ⟨hbf, hB1⟩ := (hBl.1 kk (by omega)).2 s N rows hbk
    have hN := hB1.2.1
    rw [hbf]
    refine la_astore4 K dX0_calls_26 rfl ?_
    refine la_aload K dX0_calls_28 rfl ?_
    refine la_iload_n K dX0_calls_30 rfl ?_
    refine lb_r_size (ws := (lb_W ω.2.2 ad ((P, R, T, nI 0, L, B, Nw, U, C, Kd), (fr, to, ln, aw), (su, ca, we, fa, sb, tb), (wk, nw, wo), (k0, k1, k2, k3, k4, k5), RE, BF, BK))) (ℓ := lb_sh (ℓ kk)) (rest := []) K ⟨hz, hAs, hoff⟩ (lb_B1_W hB1) rfl (Nat.zero_le _) x1 q794 ⟨Nat.le_of_ble_eq_true rfl, Nat.le_of_ble_eq_true rfl⟩ ⟨Nat.le_of_ble_eq_true rfl, Nat.le_of_ble_eq_true rfl⟩ dX0_calls_31 (fun v hv => ?_) (fun X hX => ?_)
    · obtain ⟨kq, hkq, rfl⟩ : ∃ kq, kq < N ∧ x1 = nI kq := by
        by_cases h0 : lp_in x1 N
        · exact lp_in_N h0 (by omega)
        · unfold lp_szA at hv; rw [if_neg h0] at hv; cases hv
      rcases hr : rows kq with _ | ⟨m0, c0⟩
      · rw [lp_szA_npe hkq hN hr] at hv; cases hv
      rw [lp_szA_v hkq hN hr] at hv
      have hv9 := Sum.inl.inj hv
      subst hv9
      have hm8 := (hB1.2.2.2.2 kq m0 c0 hkq hr).1
      have lp : ∀ (j i : Nat) (C1 Nw1 U1 : Nat) (T1 : Int64) (su1 ca1 we1 fa1 sb1 tb1 wk1 nw1 wo1 cp1 : Nat → Nat) (p9 l9 : Option Value), la_ok [some (.ref (ad 0)), some (.int (nI kk)), some (.int (nI kq)), some (.int (nI (i))), some (.ref (ℓ kk).1.2), some (.int (nI m0)), p9, none, l9] 6 = true → la_ok [some (.ref (ad 0)), some (.int (nI kk)), some (.int (nI kq)), some (.int (nI (i))), some (.ref (ℓ kk).1.2), some (.int (nI m0)), p9, none, l9] 8 = true → i + j = m0 → lb_J ((P, R, T1, nI 0, L, B, Nw1, U1, C1, Kd), (fr, to, ln, aw), (su1, ca1, we1, fa1, sb1, tb1), (wk1, nw1, wo1), (k0, k1, k2, k3, k4, k5), RE, BF, BK) → (∀ q, q < C1 → ca1 q = cp1 q) → lp_cls P L aw B Kd c0 m0 0 C ca we sb T = lp_cls P L aw B Kd c0 j i C1 cp1 we1 sb1 T1 → la_At ω κ (3 + 3 * i, 240 + 240 * i) 36 [some (.ref (ad 0)), some (.int (nI kk)), some (.int (nI kq)), some (.int (nI (i))), some (.ref (ℓ kk).1.2), some (.int (nI m0)), p9, none, l9] [] (lb_W ω.2.2 ad ((P, R, T1, nI 0, L, B, Nw1, U1, C1, Kd), (fr, to, ln, aw), (su1, ca1, we1, fa1, sb1, tb1), (wk1, nw1, wo1), (k0, k1, k2, k3, k4, k5), RE, BF, BK)) := by
        intro j
        induction j with
        | zero =>
          intro i C1 Nw1 U1 T1 su1 ca1 we1 fa1 sb1 tb1 wk1 nw1 wo1 cp1 p9 l9 hok6 hok8 hij hJ1 hcp htot
          refine la_iload_n K dX0_calls_36 rfl ?_
          refine la_iload K dX0_calls_37 rfl ?_
          refine la_icmp_geN K 103 dX0_calls_39 rfl (by omega) (by omega) (fun _ => ?_) (fun h => absurd h (by omega))
          refine la_goto K 125 dX0_calls_103 rfl ?_
          have hT : lp_cls P L aw B Kd c0 m0 0 C ca we sb T = (i, nI 0, C1, cp1, we1, sb1, T1) := by rw [htot, lp_cls]
          refine la_iload_n K dX0_calls_125 rfl ?_
          exact hE.1 _ _ _ _ _ (by show 3 + 3 * i ≤ 27; omega) (by show 240 + 240 * i ≤ 2160; omega) rfl dX0_calls_126 (Or.inr ⟨kk, rfl, by omega, Or.inr ⟨s, N, rows, hbk, Or.inr ⟨kq, rfl, hkq, Or.inr ⟨m0, c0, hr, by rw [hT], Nw1, U1, su1, ca1, fa1, tb1, wk1, nw1, wo1, by rw [hT], by rw [hT]; exact hcp, by rw [hT]; exact hJ1⟩⟩⟩⟩)
        | succ j ih =>
          intro i C1 Nw1 U1 T1 su1 ca1 we1 fa1 sb1 tb1 wk1 nw1 wo1 cp1 p9 l9 hok6 hok8 hij hJ1 hcp htot
          refine la_iload_n K dX0_calls_36 rfl ?_
          refine la_iload K dX0_calls_37 rfl ?_
          refine la_icmp_geN K 103 dX0_calls_39 rfl (by omega) (by omega) (fun h => absurd h (by omega)) (fun hi => ?_)
          refine la_aload_n K dX0_calls_42 rfl ?_
          refine lb_g_S K q135 dX0_calls_43 ?_
          refine la_if_ne K 103 dX0_calls_46 rfl (fun h => absurd rfl h) (fun _ => ?_)
          refine la_aload K dX0_calls_49 rfl ?_
          refine la_iload_n K dX0_calls_51 rfl ?_
          refine la_iload_n K dX0_calls_52 rfl ?_
          refine lb_r_get (ws := (lb_W ω.2.2 ad ((P, R, T1, nI 0, L, B, Nw1, U1, C1, Kd), (fr, to, ln, aw), (su1, ca1, we1, fa1, sb1, tb1), (wk1, nw1, wo1), (k0, k1, k2, k3, k4, k5), RE, BF, BK))) (ℓ := lb_sh (ℓ kk)) (rest := []) K ⟨hz, hAs, hoff⟩ (lb_B1_W hB1) rfl (Nat.zero_le _) (nI kq) (nI i) q771 ⟨Nat.le_of_ble_eq_true rfl, Nat.le_of_ble_eq_true rfl⟩ ⟨by show 3 + 3 * i + 3 ≤ 27; omega, by show 240 + 240 * i + 240 ≤ 2160; omega⟩ dX0_calls_53 (fun v hv => ?_) (fun X hX => ?_)
          rotate_left 1
          · rw [lp_gtA_v hkq hN hr hm8 (show i < m0 by omega)] at hX
            cases hX
          rw [lp_gtA_v hkq hN hr hm8 (show i < m0 by omega)] at hv
          cases hv
          have hJ0 : lb_Jx P R L B Nw1 U1 C1 Kd fr to ln aw su1 ca1 we1 fa1 sb1 tb1 := hJ1
          obtain ⟨hP, hR15, hro, hL3, hC12, hKd, hLC, haw, hDay⟩ := hJ0
          refine la_lstore6 K dX0_calls_56 hok6 ?_
          refine la_aload_n K dX0_calls_58 rfl ?_
          refine la_lload K dX0_calls_59 rfl ?_
          refine la_callSp K ok_X0_isInt q786 (lb_isInt _) rfl rfl rfl (Nat.le_of_ble_eq_true rfl) ⟨Nat.le_of_ble_eq_true rfl, Nat.le_of_ble_eq_true rfl⟩ ⟨by show 3 + 3 * i + 3 ≤ 27; omega, by show 240 + 240 * i + 240 ≤ 2160; omega⟩ dX0_calls_61 ?_
          refine la_if_eqC K 77 dX0_calls_64 rfl (fun hni => ?_) (fun hint => ?_)
          · have hbad : ¬ (0 ≤ (c0 i).toInt ∧ (c0 i).toInt < (P : Int)) := fun z => hni (lp_i64_int z (by omega)).symm
            refine la_iconst K dX0_calls_77 la_ki_m1 ?_
            refine lb_p_S K q135 dX0_calls_78 ?_
            refine la_aload_n K dX0_calls_81 rfl ?_
            refine lb_g_S K q135 dX0_calls_82 ?_
            refine la_if_ne K 100 dX0_calls_85 rfl (fun _ => ?_) (fun z => absurd z (by decide))
            refine la_goto K 36 dX0_calls_100 rfl ?_
            refine la_iload_n K dX0_calls_36 rfl ?_
            refine la_iload K dX0_calls_37 rfl ?_
            refine la_icmp_geN K 103 dX0_calls_39 rfl (by omega) (by omega) (fun h => absurd h (by omega)) (fun _ => ?_)
            refine la_aload_n K dX0_calls_42 rfl ?_
            refine lb_g_S K q135 dX0_calls_43 ?_
            refine la_if_ne K 103 dX0_calls_46 rfl (fun _ => ?_) (fun z => absurd z (by decide))
            refine la_goto K 125 dX0_calls_103 rfl ?_
            have hT : lp_cls P L aw B Kd c0 m0 0 C ca we sb T = (i, -1, C1, cp1, we1, sb1, T1) := by rw [htot, lp_cls_bad hbad]
            refine la_iload_n K dX0_calls_125 rfl ?_
            exact hE.1 _ _ _ _ _ (by show 3 + 3 * i + 3 ≤ 27; omega) (by show 240 + 240 * i + 240 ≤ 2160; omega) rfl dX0_calls_126 (Or.inr ⟨kk, rfl, by omega, Or.inr ⟨s, N, rows, hbk, Or.inr ⟨kq, rfl, hkq, Or.inr ⟨m0, c0, hr, by rw [hT], Nw1, U1, su1, ca1, fa1, tb1, wk1, nw1, wo1, by rw [hT], by rw [hT]; exact hcp, by rw [hT]; exact hJ1⟩⟩⟩⟩)
          · refine la_aload_n K dX0_calls_67 rfl ?_
            refine la_lload K dX0_calls_68 rfl ?_
            refine la_l2i K dX0_calls_70 rfl ?_
            refine la_callVp K ok_X0_againstCall q318 (lb_againstCall _ hP hL3 hC12) 0 rfl rfl rfl rfl rfl (Nat.le_of_ble_eq_true rfl) ⟨Nat.le_of_ble_eq_true rfl, Nat.le_of_ble_eq_true rfl⟩ ⟨by show 3 + 3 * i + 3 ≤ 27; omega, by show 240 + 240 * i + 240 ≤ 2160; omega⟩ dX0_calls_71 ?_
            refine la_goto K 78 dX0_calls_74 rfl ?_
            by_cases hin : lp_in (c0 i).toInt32 P
            · have hin' := (lp_in_i64 hP hint).mp hin
              rw [if_pos hin]
              by_cases hL0 : L = 0
              · rw [if_pos hL0]
                refine lb_p_S K q135 dX0_calls_78 ?_
                refine la_aload_n K dX0_calls_81 rfl ?_
                refine lb_g_S K q135 dX0_calls_82 ?_
                refine la_if_ne K 100 dX0_calls_85 rfl (fun _ => ?_) (fun z => absurd z (by decide))
                refine la_goto K 36 dX0_calls_100 rfl ?_
                refine la_iload_n K dX0_calls_36 rfl ?_
                refine la_iload K dX0_calls_37 rfl ?_
                refine la_icmp_geN K 103 dX0_calls_39 rfl (by omega) (by omega) (fun h => absurd h (by omega)) (fun _ => ?_)
                refine la_aload_n K dX0_calls_42 rfl ?_
                refine lb_g_S K q135 dX0_calls_43 ?_
                refine la_if_ne K 103 dX0_calls_46 rfl (fun _ => ?_) (fun z => absurd z (by decide))
                refine la_goto K 125 dX0_calls_103 rfl ?_
                have hT : lp_cls P L aw B Kd c0 m0 0 C ca we sb T = (i, -2, C1, cp1, we1, sb1, T1) := by rw [htot, lp_cls_no hin' hL0]
                refine la_iload_n K dX0_calls_125 rfl ?_
                exact hE.1 _ _ _ _ _ (by show 3 + 3 * i + 3 ≤ 27; omega) (by show 240 + 240 * i + 240 ≤ 2160; omega) rfl dX0_calls_126 (Or.inr ⟨kk, rfl, by omega, Or.inr ⟨s, N, rows, hbk, Or.inr ⟨kq, rfl, hkq, Or.inr ⟨m0, c0, hr, by rw [hT], Nw1, U1, su1, ca1, fa1, tb1, wk1, nw1, wo1, by rw [hT], by rw [hT]; exact hcp, by rw [hT]; exact hJ1⟩⟩⟩⟩)
              · rw [if_neg hL0]
                by_cases hC0 : C1 = 12
                · rw [if_pos hC0]
                  refine lb_p_S K q135 dX0_calls_78 ?_
                  refine la_aload_n K dX0_calls_81 rfl ?_
                  refine lb_g_S K q135 dX0_calls_82 ?_
                  refine la_if_ne K 100 dX0_calls_85 rfl (fun _ => ?_) (fun z => absurd z (by decide))
                  refine la_goto K 36 dX0_calls_100 rfl ?_
                  refine la_iload_n K dX0_calls_36 rfl ?_
                  refine la_iload K dX0_calls_37 rfl ?_
                  refine la_icmp_geN K 103 dX0_calls_39 rfl (by omega) (by omega) (fun h => absurd h (by omega)) (fun _ => ?_)
                  refine la_aload_n K dX0_calls_42 rfl ?_
                  refine lb_g_S K q135 dX0_calls_43 ?_
                  refine la_if_ne K 103 dX0_calls_46 rfl (fun _ => ?_) (fun z => absurd z (by decide))
                  refine la_goto K 125 dX0_calls_103 rfl ?_
                  have hT : lp_cls P L aw B Kd c0 m0 0 C ca we sb T = (i, -3, C1, cp1, we1, sb1, T1) := by rw [htot, lp_cls_full hin' hL0 hC0]
                  refine la_iload_n K dX0_calls_125 rfl ?_
                  exact hE.1 _ _ _ _ _ (by show 3 + 3 * i + 3 ≤ 27; omega) (by show 240 + 240 * i + 240 ≤ 2160; omega) rfl dX0_calls_126 (Or.inr ⟨kk, rfl, by omega, Or.inr ⟨s, N, rows, hbk, Or.inr ⟨kq, rfl, hkq, Or.inr ⟨m0, c0, hr, by rw [hT], Nw1, U1, su1, ca1, fa1, tb1, wk1, nw1, wo1, by rw [hT], by rw [hT]; exact hcp, by rw [hT]; exact hJ1⟩⟩⟩⟩)
                · rw [if_neg hC0]
                  refine lb_p_S K q135 dX0_calls_78 ?_
                  refine la_aload_n K dX0_calls_81 rfl ?_
                  refine lb_g_S K q135 dX0_calls_82 ?_
                  refine la_if_ne K 100 dX0_calls_85 rfl (fun h => absurd rfl h) (fun _ => ?_)
                  refine la_aload_n K dX0_calls_88 rfl ?_
                  refine la_lload K dX0_calls_89 rfl ?_
                  refine la_l2i K dX0_calls_91 (lp_i64_nI hP hint hin') ?_
                  refine la_callVi0 K ok_X0_serve q322 (lb_serve (p := (c0 i).toInt.toNat) hJ1 (by omega) (by omega) (by omega)) 0 rfl rfl rfl rfl rfl (Nat.le_of_ble_eq_true rfl) ⟨Nat.le_of_ble_eq_true rfl, Nat.le_of_ble_eq_true rfl⟩ ⟨by show 3 + 3 * i + 3 ≤ 27; omega, by show 240 + 240 * i + 240 ≤ 2160; omega⟩ dX0_calls_92 (fun r u p => ?_)
                  obtain ⟨rfl, Nw2, U2, su2, ca2, fa2, tb2, wk2, nw2, wo2, rfl, hc1, hc2, hJ2⟩ := p
                  refine la_istore8 K dX0_calls_95 ?_ ?_
                  · exact hok8
                  refine la_iinc3 K dX0_calls_97 (la_inc_N _) rfl ?_
                  refine la_goto K 36 dX0_calls_100 rfl ?_
                  have hd1 := hDay (by omega)
                  have e1 := lp_cho_congr (L := L) (d := aw) (B := B) (C := C1) (Kd := Kd) (p := (c0 i).toInt.toNat) (cp := ca1) (cp' := cp1) (cl := we1) (cl' := we1) (ck := sb1) (ck' := sb1) hcp (fun _ _ => rfl) (fun _ _ => rfl)
                  have e2 : Nw1 = lp_sn B cp1 we1 C1 := hd1.2.2.2.2.2.2.1.trans (lp_sn_congr (C := C1) hcp (fun _ _ => rfl) C1 (Nat.le_refl _))
                  have e3 : (3 + 3 * i + 3, 240 + 240 * i + 240) = (3 + 3 * (i + 1), 240 + 240 * (i + 1)) := Prod.ext (show 3 + 3 * i + 3 = 3 + 3 * (i + 1) by omega) (show 240 + 240 * i + 240 = 240 + 240 * (i + 1) by omega)
                  show la_At ω κ (3 + 3 * i + 3, 240 + 240 * i + 240) _ _ _ _
                  rw [e3]
                  refine ih (i + 1) _ _ _ _ _ _ _ _ _ _ _ _ _ (va_up cp1 C1 (c0 i).toInt.toNat) _ _ rfl rfl (by omega) hJ2 (fun q hq => ?_) ?_
                  · by_cases eq : q = C1
                    · subst eq; rw [va_up_self]; exact hc2
                    · rw [va_up_ne _ _ eq, hc1 q (by omega)]; exact hcp q (by omega)
                  · rw [htot, lp_cls_go hin' hL0 hC0, e1, e2]
            · rw [if_neg hin]
              have hbad : ¬ (0 ≤ (c0 i).toInt ∧ (c0 i).toInt < (P : Int)) := fun z => hin ((lp_in_i64 hP hint).mpr z)
              refine lb_p_S K q135 dX0_calls_78 ?_
              refine la_aload_n K dX0_calls_81 rfl ?_
              refine lb_g_S K q135 dX0_calls_82 ?_
              refine la_if_ne K 100 dX0_calls_85 rfl (fun _ => ?_) (fun z => absurd z (by decide))
              refine la_goto K 36 dX0_calls_100 rfl ?_
              refine la_iload_n K dX0_calls_36 rfl ?_
              refine la_iload K dX0_calls_37 rfl ?_
              refine la_icmp_geN K 103 dX0_calls_39 rfl (by omega) (by omega) (fun h => absurd h (by omega)) (fun _ => ?_)
              refine la_aload_n K dX0_calls_42 rfl ?_
              refine lb_g_S K q135 dX0_calls_43 ?_
              refine la_if_ne K 103 dX0_calls_46 rfl (fun _ => ?_) (fun z => absurd z (by decide))
              refine la_goto K 125 dX0_calls_103 rfl ?_
              have hT : lp_cls P L aw B Kd c0 m0 0 C ca we sb T = (i, -1, C1, cp1, we1, sb1, T1) := by rw [htot, lp_cls_bad hbad]
              refine la_iload_n K dX0_calls_125 rfl ?_
              exact hE.1 _ _ _ _ _ (by show 3 + 3 * i + 3 ≤ 27; omega) (by show 240 + 240 * i + 240 ≤ 2160; omega) rfl dX0_calls_126 (Or.inr ⟨kk, rfl, by omega, Or.inr ⟨s, N, rows, hbk, Or.inr ⟨kq, rfl, hkq, Or.inr ⟨m0, c0, hr, by rw [hT], Nw1, U1, su1, ca1, fa1, tb1, wk1, nw1, wo1, by rw [hT], by rw [hT]; exact hcp, by rw [hT]; exact hJ1⟩⟩⟩⟩)
      refine la_istore5 K dX0_calls_34 rfl ?_
      exact lp m0 0 C Nw U T su ca we fa sb tb wk nw wo ca none none rfl rfl (by omega) hJ (fun _ _ => rfl) rfl
    · by_cases h0 : lp_in x1 N
      · obtain ⟨kq, hkq, rfl⟩ := lp_in_N h0 (by omega)
        rcases hr : rows kq with _ | ⟨m0, c0⟩
        · rw [lp_szA_npe hkq hN hr] at hX
          cases hX
          refine la_Th_catch K htab ["java/lang/NullPointerException", "java/lang/ArrayIndexOutOfBoundsException"] 0 rfl (by decide) rfl (fun i q nm h1 h2 => by
            rcases i with _ | i
            · cases h1; cases h2; exact q659
            rcases i with _ | i
            · cases h1; cases h2; exact q684
            cases h1) (fun i nm hi h2 => by
            omega) ⟨_, rfl, q681⟩ (fun a => ?_)
          refine la_astore4 K dX0_calls_106 rfl ?_
          refine la_aload_n K dX0_calls_108 rfl ?_
          refine la_bipush (v := -11) K dX0_calls_109 (by decide +kernel) ?_
          refine lb_p_S K q135 dX0_calls_111 ?_
          refine la_goto K 125 dX0_calls_114 rfl ?_
          refine la_iload_n K dX0_calls_125 rfl ?_
          exact hE.1 _ _ _ _ _ (Nat.le_of_ble_eq_true rfl) (Nat.le_of_ble_eq_true rfl) rfl dX0_calls_126 (Or.inr ⟨kk, rfl, by omega, Or.inr ⟨s, N, rows, hbk, Or.inr ⟨kq, rfl, hkq, Or.inl ⟨hr, rfl, rfl⟩⟩⟩⟩)
        · rw [lp_szA_v hkq hN hr] at hX; cases hX
      · unfold lp_szA at hX
        rw [if_neg h0] at hX
        cases hX
        refine la_Th_catch K htab ["java/lang/NullPointerException", "java/lang/ArrayIndexOutOfBoundsException"] 1 rfl (by decide) rfl (fun i q nm h1 h2 => by
          rcases i with _ | i
          · cases h1; cases h2; exact q659
          rcases i with _ | i
          · cases h1; cases h2; exact q684
          cases h1) (fun i nm hi h2 => by
          rcases i with _ | i
          · cases h2; exact ln_IDX_NPE
          omega) ⟨_, rfl, q699⟩ (fun a => ?_)
        refine la_astore4 K dX0_calls_117 rfl ?_
        refine la_aload_n K dX0_calls_119 rfl ?_
        refine la_bipush (v := -12) K dX0_calls_120 (by decide +kernel) ?_
        refine lb_p_S K q135 dX0_calls_122 ?_
        refine la_iload_n K dX0_calls_125 rfl ?_
        exact hE.1 _ _ _ _ _ (Nat.le_of_ble_eq_true rfl) (Nat.le_of_ble_eq_true rfl) rfl dX0_calls_126 (Or.inr ⟨kk, rfl, by omega, Or.inr ⟨s, N, rows, hbk, Or.inl ⟨h0, rfl, rfl⟩⟩⟩)
end LC23
