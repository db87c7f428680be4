/-! THE COMPONENT's METHODS, part 20: book, row, put, item. Printed by c20.py. -/
theorem ln_NPE_CCE : Cond.not (.castable lt_NPE "java/lang/ClassCastException") ∈ flatC (Jvm.Cond.and given_1 narrow_1) := by unfold lt_NPE; decide +kernel
theorem ln_NPE_IDX : Cond.not (.castable lt_NPE "java/lang/ArrayIndexOutOfBoundsException") ∈ flatC (Jvm.Cond.and given_1 narrow_1) := by unfold lt_NPE; decide +kernel
theorem ln_NPE_NAS : Cond.not (.castable lt_NPE "java/lang/NegativeArraySizeException") ∈ flatC (Jvm.Cond.and given_1 narrow_1) := by unfold lt_NPE; decide +kernel
theorem ln_CCE_NPE : Cond.not (.castable lt_cceN "java/lang/NullPointerException") ∈ flatC (Jvm.Cond.and given_1 narrow_1) := by unfold lt_cceN; decide +kernel
theorem ln_CCE_IDX : Cond.not (.castable lt_cceN "java/lang/ArrayIndexOutOfBoundsException") ∈ flatC (Jvm.Cond.and given_1 narrow_1) := by unfold lt_cceN; decide +kernel
theorem ln_CCE_NAS : Cond.not (.castable lt_cceN "java/lang/NegativeArraySizeException") ∈ flatC (Jvm.Cond.and given_1 narrow_1) := by unfold lt_cceN; decide +kernel
theorem ln_IDX_NPE : Cond.not (.castable lt_idxN "java/lang/NullPointerException") ∈ flatC (Jvm.Cond.and given_1 narrow_1) := by unfold lt_idxN; decide +kernel
theorem ln_IDX_CCE : Cond.not (.castable lt_idxN "java/lang/ClassCastException") ∈ flatC (Jvm.Cond.and given_1 narrow_1) := by unfold lt_idxN; decide +kernel
theorem ln_IDX_NAS : Cond.not (.castable lt_idxN "java/lang/NegativeArraySizeException") ∈ flatC (Jvm.Cond.and given_1 narrow_1) := by unfold lt_idxN; decide +kernel
theorem ln_NAS_NPE : Cond.not (.castable lt_nasN "java/lang/NullPointerException") ∈ flatC (Jvm.Cond.and given_1 narrow_1) := by unfold lt_nasN; decide +kernel
theorem ln_NAS_CCE : Cond.not (.castable lt_nasN "java/lang/ClassCastException") ∈ flatC (Jvm.Cond.and given_1 narrow_1) := by unfold lt_nasN; decide +kernel
theorem ln_NAS_IDX : Cond.not (.castable lt_nasN "java/lang/ArrayIndexOutOfBoundsException") ∈ flatC (Jvm.Cond.and given_1 narrow_1) := by unfold lt_nasN; decide +kernel
section LC20
variable {ω : la_O} {ad : Nat → Nat} {S : Int32} {T : Int64} {P R L B Nw U C Kd : Nat} {fr to ln aw su ca we fa sb tb wk nw wo k0 k1 k2 k3 k4 k5 : Nat → Nat} {RE : Nat → Nat → Nat} {BF : Nat → Option Nat} {BK : va_W}
variable {bk : lp_Bk}
theorem la_aastO {κ : la_K} {cc : ByteArray} {nL : Nat} {own : String} {R0 : Room} {n : Nat × Nat} {pc : Nat} {lv : List (Option Value)} {st : List Value} {ws : va_W} (K : la_Cx ω κ cc nL own R0) {a N i v : Nat} {f : Nat → Option Nat} (q0 t0 qk ci : Nat) {E C : String} {T : u_T} {M : Nat} {cA : ClassId} {vs : List Value} (he : ws[q0]? = some (a, .inl (cA, N, .inr (.inr (.inr (.inr f)))))) (ht : (la_ty ω.2.2)[t0]? = some (cA, .object E)) (hw1 : Cond.castable C E ∈ lw_tbl) (hv : ws[qk]? = some (v, .inr (ci, vs))) (hc : la_cl[ci]? = some (C, T, M)) (hN : N < 2 ^ 31) (hi : i < N) (hd : decode cc pc = .ok (.aastore, 1)) (kk : la_At ω κ n (pc + 1) lv st (ws.set q0 (a, .inl (cA, N, .inr (.inr (.inr (.inr (va_up f i (some v)))))))) ) : la_At ω κ n pc lv (.ref v :: .int (nI i) :: .ref a :: st) ws := by
  obtain ⟨hx, hb, hml, hown, hts, hK, hG, hA, hR, hlk⟩ := K
  intro H locs ls hP hD hS hl
  refine va_astqO (r := (C, T, M)) hx hb hK hP hD hS q0 t0 qk ci he ht (la_Gu hG hw1 rfl) hv hc (vp_in_nI hi hN) hd (fun H1 locs1 hP1 hD1 hS1 => ?_)
  rw [nI_clamp (by omega)] at hP1 hD1
  exact kk H1 locs1 ls hP1 hD1 hS1 hl
set_option maxHeartbeats 4000000 in
theorem lb_book (hoff : lt_off ω.1) (hB : lb_BR ω.2.2 bk BF BK) (k o x : Int32) : lt_C ω yX0_book cX0_book 5 (some .int) [(27, 43, 44, 255)] (lt_rm 3 4 61) lt_Zs [.ref (ad 0), .int k, .int o, .int x] (lb_W ω.2.2 ad ((P, R, T, S, L, B, Nw, U, C, Kd), (fr, to, ln, aw), (su, ca, we, fa, sb, tb), (wk, nw, wo), (k0, k1, k2, k3, k4, k5), RE, BF, BK)) (lb_W ω.2.2 ad) (fun r u => ((¬ lp_inI k 0 2 ∨ ¬ lp_inI o 0 3 ∨ ¬ x ≤ nI 4) ∧ r = .inl (some (.int (-1))) ∧ u = ((P, R, T, -1, L, B, Nw, U, C, Kd), (fr, to, ln, aw), (su, ca, we, fa, sb, tb), (wk, nw, wo), (k0, k1, k2, k3, k4, k5), RE, BF, BK)) ∨ (lp_inI k 0 2 ∧ lp_inI o 0 3 ∧ x < 0 ∧ r = .inl (some (.int (-15))) ∧ u = ((P, R, T, -15, L, B, Nw, U, C, Kd), (fr, to, ln, aw), (su, ca, we, fa, sb, tb), (wk, nw, wo), (k0, k1, k2, k3, k4, k5), RE, BF, BK)) ∨ ∃ kk s M, k = nI kk ∧ kk < 3 ∧ o = nI s ∧ s ≤ 3 ∧ x = nI M ∧ M ≤ 4 ∧ r = .inl (some (.int (nI 1))) ∧ ∃ BF' BK', u = ((P, R, T, 0, L, B, Nw, U, C, Kd), (fr, to, ln, aw), (su, ca, we, fa, sb, tb), (wk, nw, wo), (k0, k1, k2, k3, k4, k5), RE, BF', BK') ∧ lb_BR ω.2.2 (va_up bk kk (some (s, M, fun _ => none))) BF' BK') := by
  obtain ⟨ℓ, hBl⟩ := hB
  refine lt_C_of [some (.ref (ad 0)), some (.int k), some (.int o), some (.int x), none] rfl rfl (Nat.le_of_ble_eq_true rfl) ?_
  intro κ K hz hAs hnm htab hE
  refine la_iload_n K dX0_book_0 rfl ?_
  refine la_callSp K ok_X0_isBook q587 (lb_isBook _) rfl rfl rfl (Nat.le_of_ble_eq_true rfl) ⟨Nat.le_of_ble_eq_true rfl, Nat.le_of_ble_eq_true rfl⟩ ⟨Nat.zero_le _, Nat.zero_le _⟩ dX0_book_1 ?_
  refine la_if_eqC K 21 dX0_book_4 rfl (fun h4 => ?_) (fun h4 => ?_)
  · refine la_aload_n K dX0_book_21 rfl ?_
    refine la_iconst K dX0_book_22 la_ki_m1 ?_
    refine la_callVi0 K ok_X0_refused q590 (lb_refused _) 0 rfl rfl rfl rfl rfl (Nat.le_of_ble_eq_true rfl) ⟨Nat.le_of_ble_eq_true rfl, Nat.le_of_ble_eq_true rfl⟩ ⟨Nat.zero_le _, Nat.zero_le _⟩ dX0_book_23 (fun r u p => ?_)
    obtain ⟨rfl, rfl⟩ := p
    exact hE.1 _ _ _ _ _ (Nat.zero_le _) (Nat.zero_le _) rfl dX0_book_26 (Or.inl ⟨Or.inl h4, rfl, rfl⟩)
  · refine la_iload_n K dX0_book_7 rfl ?_
    refine la_iconst K dX0_book_8 la_ki_0 ?_
    refine la_iconst K dX0_book_9 la_ki_3 ?_
    refine la_callSp K ok_X0_in q258 (lb_in _ _ _ _) rfl rfl rfl (Nat.le_of_ble_eq_true rfl) ⟨Nat.le_of_ble_eq_true rfl, Nat.le_of_ble_eq_true rfl⟩ ⟨Nat.zero_le _, Nat.zero_le _⟩ dX0_book_10 ?_
    refine la_if_eqC K 21 dX0_book_13 rfl (fun h13 => ?_) (fun h13 => ?_)
    · refine la_aload_n K dX0_book_21 rfl ?_
      refine la_iconst K dX0_book_22 la_ki_m1 ?_
      refine la_callVi0 K ok_X0_refused q590 (lb_refused _) 0 rfl rfl rfl rfl rfl (Nat.le_of_ble_eq_true rfl) ⟨Nat.le_of_ble_eq_true rfl, Nat.le_of_ble_eq_true rfl⟩ ⟨Nat.zero_le _, Nat.zero_le _⟩ dX0_book_23 (fun r u p => ?_)
      obtain ⟨rfl, rfl⟩ := p
      exact hE.1 _ _ _ _ _ (Nat.zero_le _) (Nat.zero_le _) rfl dX0_book_26 (Or.inl ⟨Or.inr (Or.inl (fun z => h13 ((lp_intsC0 o (by decide)).mpr z))), rfl, rfl⟩)
    · refine la_iload_n K dX0_book_16 rfl ?_
      refine la_iconst K dX0_book_17 la_ki_4 ?_
      refine la_icmp_le K 27 dX0_book_18 rfl (fun h18 => ?_) (fun h18 => ?_)
      · obtain ⟨kk, -, hkk, rfl⟩ := lp_inI_N h4 (by decide)
        obtain ⟨s, -, hs, rfl⟩ := lp_inI_N ((lp_intsC0 o (by decide)).mp h13) (by decide)
        refine la_aload_n K dX0_book_27 rfl ?_
        refine lb_g_c39 K q170 dX0_book_28 ?_
        refine la_iload_n K dX0_book_31 rfl ?_
        refine la_iload_n K dX0_book_32 rfl ?_
        refine la_iload_n K dX0_book_33 rfl ?_
        refine lt_at K (lb_bookOf hoff hs h18) lt_Zs_b (by decide) (lt_codeC K ok_X0_bookOf.2.2.1) (lt_invS (As := [.int (nI s), .int x]) (rest := [.int (nI kk), .ref (ad 39)]) K ok_X0_bookOf q594 rfl dX0_book_34) dX0_book_34 rfl (Nat.le_of_ble_eq_true rfl) ⟨Nat.le_of_ble_eq_true rfl, Nat.le_of_ble_eq_true rfl⟩ ⟨Nat.le_of_ble_eq_true rfl, Nat.le_of_ble_eq_true rfl⟩ (lt_Zs_at hz hAs) (fun v u h => ?_) (fun X u h => ?_)
        · rcases h with ⟨-, h, -⟩ | ⟨M, p, b, hM, rfl, h, rfl⟩
          · cases h
          · cases h
            have hst : ∀ (C8 : String) (T9 : u_T), la_cl[6 + s]? = some (C8, T9, 1) → Cond.castable C8 "LadderCalls$Book" ∈ lw_tbl → la_At ω κ (4, 61) 37 [some (.ref (ad 0)), some (.int (nI kk)), some (.int (nI s)), some (.int (nI M)), none] [.ref p, .int (nI kk), .ref (ad 39)] (lb_W ω.2.2 ad ((P, R, T, S, L, B, Nw, U, C, Kd), (fr, to, ln, aw), (su, ca, we, fa, sb, tb), (wk, nw, wo), (k0, k1, k2, k3, k4, k5), RE, BF, BK ++ [((p, .inr (6 + s, [.ref b])) : Nat × va_E), (b, .inl (ω.2.2 (lb_rc s), M, .inr (.inr (.inr (.inr (fun _ => none))))))])) := by
              intro C9 T9 hc9 hw9
              refine la_aastO K 39 6 (BK.length + 40) (6 + s) rfl rfl hw9 (by show (BK ++ _)[BK.length]? = _; rw [List.getElem?_append_right (Nat.le_refl _), Nat.sub_self]; rfl) hc9 (by decide) (by omega) dX0_book_37 ?_
              show la_At ω κ _ _ _ _ (lb_W ω.2.2 ad ((P, R, T, S, L, B, Nw, U, C, Kd), (fr, to, ln, aw), (su, ca, we, fa, sb, tb), (wk, nw, wo), (k0, k1, k2, k3, k4, k5), RE, va_up BF kk (some p), BK ++ [((p, .inr (6 + s, [.ref b])) : Nat × va_E), (b, .inl (ω.2.2 (lb_rc s), M, .inr (.inr (.inr (.inr (fun _ => none))))))]))
              refine la_aload_n K dX0_book_38 rfl ?_
              refine la_iconst K dX0_book_39 la_ki_1 ?_
              refine la_callVi0 K ok_X0_says q651 (lb_says _) 0 rfl rfl rfl rfl rfl (Nat.le_of_ble_eq_true rfl) ⟨Nat.le_of_ble_eq_true rfl, Nat.le_of_ble_eq_true rfl⟩ ⟨Nat.le_of_ble_eq_true rfl, Nat.le_of_ble_eq_true rfl⟩ dX0_book_40 (fun r u p => ?_)
              obtain ⟨rfl, rfl⟩ := p
              exact hE.1 _ _ _ _ _ (Nat.le_of_ble_eq_true rfl) (Nat.le_of_ble_eq_true rfl) rfl dX0_book_43 (Or.inr (Or.inr ⟨kk, s, M, rfl, by omega, rfl, hs, rfl, hM, rfl, _, _, rfl, lb_BR_book hBl (by omega) hs hM⟩))
            have hc4 : s = 0 ∨ s = 1 ∨ s = 2 ∨ s = 3 := by omega
            rcases hc4 with rfl | rfl | rfl | rfl
            · exact hst _ _ rfl q1144
            · exact hst _ _ rfl q1145
            · exact hst _ _ rfl q1146
            · exact hst _ _ rfl q1147
        · rcases h with ⟨h0, h, rfl⟩ | ⟨M, p, b, hM, rfl, h, rfl⟩
          · cases h
            refine la_Th_catch K htab ["java/lang/NegativeArraySizeException"] 0 rfl (by decide) rfl (fun i q nm h1 h2 => by
                rcases i with _ | i
                · cases h1; cases h2; exact q502
                cases h1) (fun i nm hi h2 => by
                omega) ⟨_, rfl, q564⟩ (fun a => ?_)
            refine la_astore4 K dX0_book_44 rfl ?_
            refine la_aload_n K dX0_book_46 rfl ?_
            refine la_bipush K dX0_book_47 la_kb_m15 ?_
            refine la_callVi0 K ok_X0_refused q590 (lb_refused _) 0 rfl rfl rfl rfl rfl (Nat.le_of_ble_eq_true rfl) ⟨Nat.le_of_ble_eq_true rfl, Nat.le_of_ble_eq_true rfl⟩ ⟨Nat.le_of_ble_eq_true rfl, Nat.le_of_ble_eq_true rfl⟩ dX0_book_49 (fun r u p => ?_)
            obtain ⟨rfl, rfl⟩ := p
            exact hE.1 _ _ _ _ _ (Nat.le_of_ble_eq_true rfl) (Nat.le_of_ble_eq_true rfl) rfl dX0_book_52 (Or.inr (Or.inl ⟨h4, (lp_intsC0 _ (by decide)).mp h13, h0, rfl, rfl⟩))
          · cases h
      · refine la_aload_n K dX0_book_21 rfl ?_
        refine la_iconst K dX0_book_22 la_ki_m1 ?_
        refine la_callVi0 K ok_X0_refused q590 (lb_refused _) 0 rfl rfl rfl rfl rfl (Nat.le_of_ble_eq_true rfl) ⟨Nat.le_of_ble_eq_true rfl, Nat.le_of_ble_eq_true rfl⟩ ⟨Nat.zero_le _, Nat.zero_le _⟩ dX0_book_23 (fun r u p => ?_)
        obtain ⟨rfl, rfl⟩ := p
        exact hE.1 _ _ _ _ _ (Nat.zero_le _) (Nat.zero_le _) rfl dX0_book_26 (Or.inl ⟨Or.inr (Or.inr h18), rfl, rfl⟩)
set_option maxHeartbeats 4000000 in
theorem lb_row (hoff : lt_off ω.1) (hB : lb_BR ω.2.2 bk BF BK) (k x1 x : Int32) : lt_C ω yX0_row cX0_row 5 (some .int) [(19, 35, 36, 261), (19, 35, 45, 263), (19, 35, 54, 255)] (lt_rm 1 4 300) lt_Zs [.ref (ad 0), .int k, .int x1, .int x] (lb_W ω.2.2 ad ((P, R, T, S, L, B, Nw, U, C, Kd), (fr, to, ln, aw), (su, ca, we, fa, sb, tb), (wk, nw, wo), (k0, k1, k2, k3, k4, k5), RE, BF, BK)) (lb_W ω.2.2 ad) (fun r u => ((¬ lp_inI k 0 2 ∨ ¬ x ≤ nI 8) ∧ r = .inl (some (.int (-1))) ∧ u = ((P, R, T, -1, L, B, Nw, U, C, Kd), (fr, to, ln, aw), (su, ca, we, fa, sb, tb), (wk, nw, wo), (k0, k1, k2, k3, k4, k5), RE, BF, BK)) ∨ ∃ kk, k = nI kk ∧ kk < 3 ∧ x ≤ nI 8 ∧ ((bk kk = none ∧ r = .inl (some (.int (-11))) ∧ u = ((P, R, T, -11, L, B, Nw, U, C, Kd), (fr, to, ln, aw), (su, ca, we, fa, sb, tb), (wk, nw, wo), (k0, k1, k2, k3, k4, k5), RE, BF, BK)) ∨ ∃ s N rows, bk kk = some (s, N, rows) ∧ ((¬ lp_in x1 N ∧ r = .inl (some (.int (-12))) ∧ u = ((P, R, T, -12, L, B, Nw, U, C, Kd), (fr, to, ln, aw), (su, ca, we, fa, sb, tb), (wk, nw, wo), (k0, k1, k2, k3, k4, k5), RE, BF, BK)) ∨ (lp_in x1 N ∧ x < 0 ∧ r = .inl (some (.int (-15))) ∧ u = ((P, R, T, -15, L, B, Nw, U, C, Kd), (fr, to, ln, aw), (su, ca, we, fa, sb, tb), (wk, nw, wo), (k0, k1, k2, k3, k4, k5), RE, BF, BK)) ∨ ∃ kq kn, x1 = nI kq ∧ kq < N ∧ x = nI kn ∧ kn ≤ 8 ∧ r = .inl (some (.int (nI 1))) ∧ ∃ BK', u = ((P, R, T, 0, L, B, Nw, U, C, Kd), (fr, to, ln, aw), (su, ca, we, fa, sb, tb), (wk, nw, wo), (k0, k1, k2, k3, k4, k5), RE, BF, BK') ∧ lb_BR ω.2.2 (va_up bk kk (some (s, N, va_up rows kq (some (kn, fun _ => lN 0))))) BF BK'))) := by
  obtain ⟨ℓ, hBl⟩ := hB
  refine lt_C_of [some (.ref (ad 0)), some (.int k), some (.int x1), some (.int x), none] rfl rfl (Nat.le_of_ble_eq_true rfl) ?_
  intro κ K hz hAs hnm htab hE
  refine la_iload_n K dX0_row_0 rfl ?_
  refine la_callSp K ok_X0_isBook q587 (lb_isBook _) rfl rfl rfl (Nat.le_of_ble_eq_true rfl) ⟨Nat.le_of_ble_eq_true rfl, Nat.le_of_ble_eq_true rfl⟩ ⟨Nat.zero_le _, Nat.zero_le _⟩ dX0_row_1 ?_
  refine la_if_eqC K 13 dX0_row_4 rfl (fun h4 => ?_) (fun h4 => ?_)
  · refine la_aload_n K dX0_row_13 rfl ?_
    refine la_iconst K dX0_row_14 la_ki_m1 ?_
    refine la_callVi0 K ok_X0_refused q590 (lb_refused _) 0 rfl rfl rfl rfl rfl (Nat.le_of_ble_eq_true rfl) ⟨Nat.le_of_ble_eq_true rfl, Nat.le_of_ble_eq_true rfl⟩ ⟨Nat.zero_le _, Nat.zero_le _⟩ dX0_row_15 (fun r u p => ?_)
    obtain ⟨rfl, rfl⟩ := p
    exact hE.1 _ _ _ _ _ (Nat.zero_le _) (Nat.zero_le _) rfl dX0_row_18 (Or.inl ⟨Or.inl h4, rfl, rfl⟩)
  · refine la_iload_n K dX0_row_7 rfl ?_
    refine la_bipush K dX0_row_8 la_kb_8 ?_
    refine la_icmp_le K 19 dX0_row_10 rfl (fun h10 => ?_) (fun h10 => ?_)
    · obtain ⟨kk, -, hkk, rfl⟩ := lp_inI_N h4 (by decide)
      refine la_aload_n K dX0_row_19 rfl ?_
      refine lb_g_c39 K q170 dX0_row_20 ?_
      refine la_iload_n K dX0_row_23 rfl ?_
      refine la_aaldR (f := BF) K 39 6 rfl rfl rfl (by decide) (by omega) dX0_row_24 ?_
      refine la_iload_n K dX0_row_25 rfl ?_
      refine la_iload_n K dX0_row_26 rfl ?_
      rcases hbk : bk kk with _ | ⟨s, N, rows⟩
      · rw [(hBl.1 kk (by omega)).1 hbk]
        refine la_xvirt0 (k := 2) (As := [.int x1, .int x]) (rest := []) K ⟨hz, hAs, hoff⟩ rfl (Nat.zero_le _) (lt_rm_ok _ _ _) ⟨Nat.le_of_ble_eq_true rfl, Nat.le_of_ble_eq_true rfl⟩ q703 q705 q704 (by decide +kernel) rfl rfl dX0_row_27 ?_
        refine la_Th_catch K htab ["java/lang/NullPointerException", "java/lang/ArrayIndexOutOfBoundsException", "java/lang/NegativeArraySizeException"] 0 rfl (by decide) rfl (fun i q nm h1 h2 => by
            rcases i with _ | i
            · cases h1; cases h2; exact q659
            rcases i with _ | i
            · cases h1; cases h2; exact q684
            rcases i with _ | i
            · cases h1; cases h2; exact q502
            cases h1) (fun i nm hi h2 => by
            omega) ⟨_, rfl, q681⟩ (fun a => ?_)
        refine la_astore4 K dX0_row_36 rfl ?_
        refine la_aload_n K dX0_row_38 rfl ?_
        refine la_bipush (v := -11) K dX0_row_39 (by decide +kernel) ?_
        refine la_callVi0 K ok_X0_refused q590 (lb_refused _) 0 rfl rfl rfl rfl rfl (Nat.le_of_ble_eq_true rfl) ⟨Nat.le_of_ble_eq_true rfl, Nat.le_of_ble_eq_true rfl⟩ ⟨Nat.le_of_ble_eq_true rfl, Nat.le_of_ble_eq_true rfl⟩ dX0_row_41 (fun r u p => ?_)
        obtain ⟨rfl, rfl⟩ := p
        exact hE.1 _ _ _ _ _ (Nat.le_of_ble_eq_true rfl) (Nat.le_of_ble_eq_true rfl) rfl dX0_row_44 (Or.inr ⟨kk, rfl, by omega, h10, Or.inl ⟨hbk, rfl, rfl⟩⟩)
      · obtain ⟨hbf, hB1⟩ := (hBl.1 kk (by omega)).2 s N rows hbk
        rw [hbf]
        refine lb_r_make (rest := []) K ⟨hz, hAs, hoff⟩ (lb_B1_W hB1) rfl (Nat.zero_le _) x1 h10 q703 ⟨Nat.le_of_ble_eq_true rfl, Nat.le_of_ble_eq_true rfl⟩ ⟨Nat.le_of_ble_eq_true rfl, Nat.le_of_ble_eq_true rfl⟩ dX0_row_27 (fun kq m1 c1 e1 e2 e3 e4 => ?_) (fun hno => ?_) (fun hyes hneg => ?_)
        · subst e1 e4
          show la_At ω κ _ _ _ _ (lb_W ω.2.2 ad ((P, R, T, S, L, B, Nw, U, C, Kd), (fr, to, ln, aw), (su, ca, we, fa, sb, tb), (wk, nw, wo), (k0, k1, k2, k3, k4, k5), RE, BF, (BK ++ [((c1, lb_dat ω.2.2 s m1 (fun _ => 0)) : Nat × va_E)]).set (ℓ kk).2.1.1 ((ℓ kk).2.1.2, .inl (ω.2.2 (lb_rc s), N, .inr (.inr (.inr (.inr (va_up (lb_gg (ℓ kk) rows) kq (some c1)))))))))
          refine la_aload_n K dX0_row_30 rfl ?_
          refine la_iconst K dX0_row_31 la_ki_1 ?_
          refine la_callVi0 K ok_X0_says q651 (lb_says _) 0 rfl rfl rfl rfl rfl (Nat.le_of_ble_eq_true rfl) ⟨Nat.le_of_ble_eq_true rfl, Nat.le_of_ble_eq_true rfl⟩ ⟨Nat.le_of_ble_eq_true rfl, Nat.le_of_ble_eq_true rfl⟩ dX0_row_32 (fun r u p => ?_)
          obtain ⟨rfl, rfl⟩ := p
          exact hE.1 _ _ _ _ _ (Nat.le_of_ble_eq_true rfl) (Nat.le_of_ble_eq_true rfl) rfl dX0_row_35 (Or.inr ⟨kk, rfl, by omega, h10, Or.inr ⟨s, N, rows, hbk, Or.inr (Or.inr ⟨kq, m1, rfl, e2, rfl, e3, rfl, _, rfl, lb_BR_row hBl (by omega) hbk e2 e3⟩)⟩⟩)
        · skip
          refine la_Th_catch K htab ["java/lang/NullPointerException", "java/lang/ArrayIndexOutOfBoundsException", "java/lang/NegativeArraySizeException"] 1 rfl (by decide) rfl (fun i q nm h1 h2 => by
              rcases i with _ | i
              · cases h1; cases h2; exact q659
              rcases i with _ | i
              · cases h1; cases h2; exact q684
              rcases i with _ | i
              · cases h1; cases h2; exact q502
              cases h1) (fun i nm hi h2 => by
              rcases i with _ | i
              · cases h2; exact ln_IDX_NPE
              omega) ⟨_, rfl, q699⟩ (fun a => ?_)
          refine la_astore4 K dX0_row_45 rfl ?_
          refine la_aload_n K dX0_row_47 rfl ?_
          refine la_bipush (v := -12) K dX0_row_48 (by decide +kernel) ?_
          refine la_callVi0 K ok_X0_refused q590 (lb_refused _) 0 rfl rfl rfl rfl rfl (Nat.le_of_ble_eq_true rfl) ⟨Nat.le_of_ble_eq_true rfl, Nat.le_of_ble_eq_true rfl⟩ ⟨Nat.le_of_ble_eq_true rfl, Nat.le_of_ble_eq_true rfl⟩ dX0_row_50 (fun r u p => ?_)
          obtain ⟨rfl, rfl⟩ := p
          exact hE.1 _ _ _ _ _ (Nat.le_of_ble_eq_true rfl) (Nat.le_of_ble_eq_true rfl) rfl dX0_row_53 (Or.inr ⟨kk, rfl, by omega, h10, Or.inr ⟨s, N, rows, hbk, Or.inl ⟨hno, rfl, rfl⟩⟩⟩)
        · skip
          refine la_Th_catch K htab ["java/lang/NullPointerException", "java/lang/ArrayIndexOutOfBoundsException", "java/lang/NegativeArraySizeException"] 2 rfl (by decide) rfl (fun i q nm h1 h2 => by
              rcases i with _ | i
              · cases h1; cases h2; exact q659
              rcases i with _ | i
              · cases h1; cases h2; exact q684
              rcases i with _ | i
              · cases h1; cases h2; exact q502
              cases h1) (fun i nm hi h2 => by
              rcases i with _ | i
              · cases h2; exact ln_NAS_NPE
              rcases i with _ | i
              · cases h2; exact ln_NAS_IDX
              omega) ⟨_, rfl, q564⟩ (fun a => ?_)
          refine la_astore4 K dX0_row_54 rfl ?_
          refine la_aload_n K dX0_row_56 rfl ?_
          refine la_bipush (v := -15) K dX0_row_57 (by decide +kernel) ?_
          refine la_callVi0 K ok_X0_refused q590 (lb_refused _) 0 rfl rfl rfl rfl rfl (Nat.le_of_ble_eq_true rfl) ⟨Nat.le_of_ble_eq_true rfl, Nat.le_of_ble_eq_true rfl⟩ ⟨Nat.le_of_ble_eq_true rfl, Nat.le_of_ble_eq_true rfl⟩ dX0_row_59 (fun r u p => ?_)
          obtain ⟨rfl, rfl⟩ := p
          exact hE.1 _ _ _ _ _ (Nat.le_of_ble_eq_true rfl) (Nat.le_of_ble_eq_true rfl) rfl dX0_row_62 (Or.inr ⟨kk, rfl, by omega, h10, Or.inr ⟨s, N, rows, hbk, Or.inr (Or.inl ⟨hyes, hneg, rfl, rfl⟩)⟩⟩)
    · refine la_aload_n K dX0_row_13 rfl ?_
      refine la_iconst K dX0_row_14 la_ki_m1 ?_
      refine la_callVi0 K ok_X0_refused q590 (lb_refused _) 0 rfl rfl rfl rfl rfl (Nat.le_of_ble_eq_true rfl) ⟨Nat.le_of_ble_eq_true rfl, Nat.le_of_ble_eq_true rfl⟩ ⟨Nat.zero_le _, Nat.zero_le _⟩ dX0_row_15 (fun r u p => ?_)
      obtain ⟨rfl, rfl⟩ := p
      exact hE.1 _ _ _ _ _ (Nat.zero_le _) (Nat.zero_le _) rfl dX0_row_18 (Or.inl ⟨Or.inr h10, rfl, rfl⟩)
theorem lp_wrA_none {k o r i : Int32} {kk : Nat} (hk : k = nI kk) (h1 : kk < 3) (h2 : lp_inI o 0 3) (hb : bk kk = none) : lp_wrA bk k o r i = -11 := by
  subst hk
  unfold lp_wrA
  rw [if_pos ⟨(lp_inI_nI (by omega)).mpr ⟨by omega, by omega⟩, h2⟩, nI_clamp (by omega), hb]
theorem lp_wrA_cast {r i : Int32} {kk s s' N : Nat} {rows : Nat → lp_Row} (h1 : kk < 3) (h2 : s ≤ 3) (hs : s' ≤ 3) (hb : bk kk = some (s', N, rows)) (hn : s' ≠ s) : lp_wrA bk (nI kk) (nI s) r i = -13 := by
  unfold lp_wrA
  rw [if_pos ⟨(lp_inI_nI (by omega)).mpr ⟨by omega, by omega⟩, (lp_inI_nI (by omega)).mpr ⟨by omega, by omega⟩⟩, nI_clamp (by omega), hb]
  dsimp only
  rw [if_neg (fun z => hn ((nI_eq (by omega) (by omega)).mp z))]
theorem lp_wrA_thr {r i : Int32} {kk s N : Nat} {rows : Nat → lp_Row} {X : String} (h1 : kk < 3) (h2 : s ≤ 3) (hb : bk kk = some (s, N, rows)) (hx : lp_gtA rows N r i = .inr X) : (X = lt_NPE ∧ lp_wrA bk (nI kk) (nI s) r i = -11) ∨ (X = lt_idxN ∧ lp_wrA bk (nI kk) (nI s) r i = -12) := by
  have e : lp_wrA bk (nI kk) (nI s) r i = (if lp_in r N then (match rows r.toNatClampNeg with | none => -11 | some (m, _) => if lp_in i m then nI 0 else -12) else -12) := by
    unfold lp_wrA
    rw [if_pos ⟨(lp_inI_nI (by omega)).mpr ⟨by omega, by omega⟩, (lp_inI_nI (by omega)).mpr ⟨by omega, by omega⟩⟩, nI_clamp (by omega), hb]
    dsimp only
    rw [if_pos rfl]
    rfl
  rw [e]
  unfold lp_gtA at hx
  by_cases h0 : lp_in r N
  · rw [if_pos h0] at hx ⊢
    generalize r.toNatClampNeg = q at hx ⊢
    rcases hr : rows q with _ | ⟨m, c⟩
    · rw [hr] at hx
      cases hx
      exact Or.inl ⟨rfl, rfl⟩
    · rw [hr] at hx
      dsimp only at hx ⊢
      by_cases h3 : lp_in i m
      · rw [if_pos h3] at hx; cases hx
      · rw [if_neg h3] at hx ⊢
        cases hx
        exact Or.inr ⟨rfl, rfl⟩
  · rw [if_neg h0] at hx ⊢
    cases hx
    exact Or.inr ⟨rfl, rfl⟩
theorem lp_gtA_N {r i : Int32} {N : Nat} {rows : Nat → lp_Row} {v : Int64} (hN : N ≤ 4) (hm : ∀ k m c, k < N → rows k = some (m, c) → m ≤ 8) (h : lp_gtA rows N r i = .inl v) : ∃ (k m ki : Nat) (c : Nat → Int64), r = nI k ∧ k < N ∧ rows k = some (m, c) ∧ m ≤ 8 ∧ i = nI ki ∧ ki < m ∧ v = c ki := by
  unfold lp_gtA at h
  by_cases h0 : lp_in r N
  · rw [if_pos h0] at h
    obtain ⟨k, hk, rfl⟩ := lp_in_N h0 (by omega)
    rw [nI_clamp (by omega)] at h
    rcases hr : rows k with _ | ⟨m, c⟩
    · rw [hr] at h; cases h
    · rw [hr] at h
      dsimp only at h
      have h8 := hm k m c hk hr
      by_cases h3 : lp_in i m
      · rw [if_pos h3] at h
        obtain ⟨ki, hki, rfl⟩ := lp_in_N h3 (by omega)
        rw [nI_clamp (by omega)] at h
        cases h
        exact ⟨k, m, ki, c, rfl, hk, hr, h8, rfl, hki, rfl⟩
      · rw [if_neg h3] at h; cases h
  · rw [if_neg h0] at h; cases h
theorem lp_pv_fit (s : Nat) (v : Int64) (h : s < 3) : (lp_pv s v).toInt32.toInt64 = lp_pv s v := by
  have hc : s = 0 ∨ s = 1 ∨ s = 2 := by omega
  rcases hc with rfl | rfl | rfl
  · show v.toInt32.toInt8.toInt32.toInt64.toInt32.toInt64 = v.toInt32.toInt8.toInt32.toInt64
    simp
  · show v.toInt32.toInt16.toInt32.toInt64.toInt32.toInt64 = v.toInt32.toInt16.toInt32.toInt64
    simp
  · show v.toInt32.toInt64.toInt32.toInt64 = v.toInt32.toInt64
    simp
theorem lp_wrA_bad {k o r i : Int32} (h : ¬ lp_inI k 0 2 ∨ ¬ lp_inI o 0 3) : lp_wrA bk k o r i = -1 := by
  unfold lp_wrA
  rw [if_neg (fun z => h.elim (fun q => q z.1) (fun q => q z.2))]
set_option maxHeartbeats 4000000 in
theorem lb_put (hoff : lt_off ω.1) (hB : lb_BR ω.2.2 bk BF BK) (k o x1 i : Int32) (v : Int64) : lt_C ω yX0_put cX0_put 8 (some .int) [(22, 42, 43, 261), (22, 42, 52, 281), (22, 42, 61, 263)] (lt_rm 1 3 1010) lt_Zs [.ref (ad 0), .int k, .int o, .int x1, .int i, .long v] (lb_W ω.2.2 ad ((P, R, T, S, L, B, Nw, U, C, Kd), (fr, to, ln, aw), (su, ca, we, fa, sb, tb), (wk, nw, wo), (k0, k1, k2, k3, k4, k5), RE, BF, BK)) (lb_W ω.2.2 ad) (fun r u => (¬ lp_wrA bk k o x1 i = nI 0 ∧ r = .inl (some (.int (lp_wrA bk k o x1 i))) ∧ u = ((P, R, T, lp_wrA bk k o x1 i, L, B, Nw, U, C, Kd), (fr, to, ln, aw), (su, ca, we, fa, sb, tb), (wk, nw, wo), (k0, k1, k2, k3, k4, k5), RE, BF, BK)) ∨ ∃ (kk s n kr m ki : Nat) (rows : Nat → lp_Row) (c : Nat → Int64), lp_Acc bk k o x1 i kk s n kr m ki rows c ∧ r = .inl (some (.int (nI 1))) ∧ ∃ BK', u = ((P, R, T, 0, L, B, Nw, U, C, Kd), (fr, to, ln, aw), (su, ca, we, fa, sb, tb), (wk, nw, wo), (k0, k1, k2, k3, k4, k5), RE, BF, BK') ∧ lb_BR ω.2.2 (va_up bk kk (some (s, n, va_up rows kr (some (m, va_up c ki (lp_pv s v)))))) BF BK') := by
  obtain ⟨ℓ, hBl⟩ := hB
  refine lt_C_of [some (.ref (ad 0)), some (.int k), some (.int o), some (.int x1), some (.int i), some (.long v), none, none] rfl rfl (Nat.le_of_ble_eq_true rfl) ?_
  intro κ K hz hAs hnm htab hE
  refine la_iload_n K dX0_put_0 rfl ?_
  refine la_callSp K ok_X0_isBook q587 (lb_isBook _) rfl rfl rfl (Nat.le_of_ble_eq_true rfl) ⟨Nat.le_of_ble_eq_true rfl, Nat.le_of_ble_eq_true rfl⟩ ⟨Nat.zero_le _, Nat.zero_le _⟩ dX0_put_1 ?_
  refine la_if_eqC K 16 dX0_put_4 rfl (fun h4 => ?_) (fun h4 => ?_)
  · refine la_aload_n K dX0_put_16 rfl ?_
    refine la_iconst K dX0_put_17 la_ki_m1 ?_
    refine la_callVi0 K ok_X0_refused q590 (lb_refused _) 0 rfl rfl rfl rfl rfl (Nat.le_of_ble_eq_true rfl) ⟨Nat.le_of_ble_eq_true rfl, Nat.le_of_ble_eq_true rfl⟩ ⟨Nat.zero_le _, Nat.zero_le _⟩ dX0_put_18 (fun r u p => ?_)
    obtain ⟨rfl, rfl⟩ := p
    exact hE.1 _ _ _ _ _ (Nat.zero_le _) (Nat.zero_le _) rfl dX0_put_21 (Or.inl ⟨by rw [lp_wrA_bad (Or.inl h4)]; decide, by rw [lp_wrA_bad (Or.inl h4)], by rw [lp_wrA_bad (Or.inl h4)]⟩)
  · refine la_iload_n K dX0_put_7 rfl ?_
    refine la_iconst K dX0_put_8 la_ki_0 ?_
    refine la_iconst K dX0_put_9 la_ki_3 ?_
    refine la_callSp K ok_X0_in q258 (lb_in _ _ _ _) rfl rfl rfl (Nat.le_of_ble_eq_true rfl) ⟨Nat.le_of_ble_eq_true rfl, Nat.le_of_ble_eq_true rfl⟩ ⟨Nat.zero_le _, Nat.zero_le _⟩ dX0_put_10 ?_
    refine la_if_neC K 22 dX0_put_13 rfl (fun h13 => ?_) (fun h13 => ?_)
    · obtain ⟨kk, -, hkk, rfl⟩ := lp_inI_N h4 (by decide)
      obtain ⟨s, -, hs, rfl⟩ := lp_inI_N ((lp_intsC0 o (by decide)).mp h13) (by decide)
      refine la_aload_n K dX0_put_22 rfl ?_
      refine lb_g_c39 K q170 dX0_put_23 ?_
      refine la_iload_n K dX0_put_26 rfl ?_
      refine la_aaldR (f := BF) K 39 6 rfl rfl rfl (by decide) (by omega) dX0_put_27 ?_
      refine la_iload_n K dX0_put_28 rfl ?_
      refine la_iload_n K dX0_put_29 rfl ?_
      refine la_iload K dX0_put_30 rfl ?_
      refine la_lload K dX0_put_32 rfl ?_
      rcases hbk : bk kk with _ | ⟨s', N, rows⟩
      · rw [(hBl.1 kk (by omega)).1 hbk]
        refine lt_at K (lb_putIn0 hoff hs x1 i v) lt_Zs_b (by decide) (lt_codeC K ok_X0_putIn.2.2.1) (lt_invS (As := [.null, .int (nI s), .int x1, .int i, .long v]) (rest := []) K ok_X0_putIn q738 rfl dX0_put_34) dX0_put_34 rfl (Nat.zero_le _) ⟨Nat.le_of_ble_eq_true rfl, Nat.le_of_ble_eq_true rfl⟩ ⟨Nat.le_of_ble_eq_true rfl, by show 0 + 1010 ≤ 1010; omega⟩ (lt_Zs_at hz hAs) (fun v9 u h => ?_) (fun X u h => ?_)
        · cases h
        · cases h
          refine la_Th_catch K htab ["java/lang/NullPointerException", "java/lang/ClassCastException", "java/lang/ArrayIndexOutOfBoundsException"] 0 rfl (by decide) rfl (fun i q nm h1 h2 => by
              rcases i with _ | i
              · cases h1; cases h2; exact q659
              rcases i with _ | i
              · cases h1; cases h2; exact q724
              rcases i with _ | i
              · cases h1; cases h2; exact q684
              cases h1) (fun i nm hi h2 => by
              omega) ⟨_, rfl, q681⟩ (fun a => ?_)
          refine la_astore7 K dX0_put_43 rfl ?_
          refine la_aload_n K dX0_put_45 rfl ?_
          refine la_bipush (v := -11) K dX0_put_46 (by decide +kernel) ?_
          refine la_callVi0 K ok_X0_refused q590 (lb_refused _) 0 rfl rfl rfl rfl rfl (Nat.le_of_ble_eq_true rfl) ⟨Nat.le_of_ble_eq_true rfl, Nat.le_of_ble_eq_true rfl⟩ ⟨Nat.le_of_ble_eq_true rfl, by show 0 + 1010 ≤ 1010; omega⟩ dX0_put_48 (fun r u p => ?_)
          obtain ⟨rfl, rfl⟩ := p
          have e9 := lp_wrA_none (r := x1) (i := i) rfl (by omega) ((lp_intsC0 _ (by decide)).mp h13) hbk
          exact hE.1 _ _ _ _ _ (Nat.le_of_ble_eq_true rfl) (by show 0 + 1010 ≤ 1010; omega) rfl dX0_put_51 (Or.inl ⟨by rw [e9]; decide, by rw [e9], by rw [e9]⟩)
      · obtain ⟨hbf, hB1⟩ := (hBl.1 kk (by omega)).2 s' N rows hbk
        rw [hbf]
        refine lt_at K (lb_putIn1 hoff hs (lb_B1_W (ℓ := ℓ kk) hB1) x1 i v) lt_Zs_b (by decide) (lt_codeC K ok_X0_putIn.2.2.1) (lt_invS (As := [.ref (ℓ kk).1.2, .int (nI s), .int x1, .int i, .long v]) (rest := []) K ok_X0_putIn q738 rfl dX0_put_34) dX0_put_34 rfl (Nat.zero_le _) ⟨Nat.le_of_ble_eq_true rfl, Nat.le_of_ble_eq_true rfl⟩ ⟨Nat.le_of_ble_eq_true rfl, by show 0 + 1010 ≤ 1010; omega⟩ (lt_Zs_at hz hAs) (fun v9 u h => ?_) (fun X u h => ?_)
        · rcases h with ⟨-, h, -⟩ | ⟨-, X, -, h, -⟩ | ⟨rfl, kq, m1, ki, c1, rfl, e1, e2, rfl, e3, h, rfl⟩
          · cases h
          · cases h
          · cases h
            show la_At ω κ _ _ _ _ (lb_W ω.2.2 ad ((P, R, T, S, L, B, Nw, U, C, Kd), (fr, to, ln, aw), (su, ca, we, fa, sb, tb), (wk, nw, wo), (k0, k1, k2, k3, k4, k5), RE, BF, BK.set ((ℓ kk).2.2 kq).1 (((ℓ kk).2.2 kq).2, lb_dat ω.2.2 s' m1 (va_up c1 ki (lp_pv s' v)))))
            refine la_aload_n K dX0_put_37 rfl ?_
            refine la_iconst K dX0_put_38 la_ki_1 ?_
            refine la_callVi0 K ok_X0_says q651 (lb_says _) 0 rfl rfl rfl rfl rfl (Nat.le_of_ble_eq_true rfl) ⟨Nat.le_of_ble_eq_true rfl, Nat.le_of_ble_eq_true rfl⟩ ⟨Nat.le_of_ble_eq_true rfl, by show 0 + 1010 ≤ 1010; omega⟩ dX0_put_39 (fun r u p => ?_)
            obtain ⟨rfl, rfl⟩ := p
            exact hE.1 _ _ _ _ _ (Nat.le_of_ble_eq_true rfl) (by show 0 + 1010 ≤ 1010; omega) rfl dX0_put_42 (Or.inr ⟨kk, s', N, kq, m1, ki, rows, c1, ⟨rfl, by omega, rfl, hs, hbk, hB1.2.1, rfl, e1, e2, (hB1.2.2.2.2 kq m1 c1 e1 e2).1, rfl, e3⟩, rfl, _, rfl, lb_BR_put hBl (by omega) hbk e1 e2 (fun z => lp_pv_fit s' v z)⟩)
        · rcases h with ⟨hne, h, rfl⟩ | ⟨rfl, X', hx, h, rfl⟩ | ⟨rfl, kq, m1, ki, c1, rfl, e1, e2, rfl, e3, h, rfl⟩
          · cases h
            refine la_Th_catch K htab ["java/lang/NullPointerException", "java/lang/ClassCastException", "java/lang/ArrayIndexOutOfBoundsException"] 1 rfl (by decide) rfl (fun i q nm h1 h2 => by
                rcases i with _ | i
                · cases h1; cases h2; exact q659
                rcases i with _ | i
                · cases h1; cases h2; exact q724
                rcases i with _ | i
                · cases h1; cases h2; exact q684
                cases h1) (fun i nm hi h2 => by
                rcases i with _ | i
                · cases h2; exact ln_CCE_NPE
                omega) ⟨_, rfl, q736⟩ (fun a => ?_)
            refine la_astore7 K dX0_put_52 rfl ?_
            refine la_aload_n K dX0_put_54 rfl ?_
            refine la_bipush (v := -13) K dX0_put_55 (by decide +kernel) ?_
            refine la_callVi0 K ok_X0_refused q590 (lb_refused _) 0 rfl rfl rfl rfl rfl (Nat.le_of_ble_eq_true rfl) ⟨Nat.le_of_ble_eq_true rfl, Nat.le_of_ble_eq_true rfl⟩ ⟨Nat.le_of_ble_eq_true rfl, by show 0 + 1010 ≤ 1010; omega⟩ dX0_put_57 (fun r u p => ?_)
            obtain ⟨rfl, rfl⟩ := p
            have e9 := lp_wrA_cast (r := x1) (i := i) (by omega) hs hB1.1 hbk hne
            exact hE.1 _ _ _ _ _ (Nat.le_of_ble_eq_true rfl) (by show 0 + 1010 ≤ 1010; omega) rfl dX0_put_60 (Or.inl ⟨by rw [e9]; decide, by rw [e9], by rw [e9]⟩)
          · cases h
            rcases lp_wrA_thr (by omega) hs hbk hx with ⟨rfl, e9⟩ | ⟨rfl, e9⟩
            · skip
              refine la_Th_catch K htab ["java/lang/NullPointerException", "java/lang/ClassCastException", "java/lang/ArrayIndexOutOfBoundsException"] 0 rfl (by decide) rfl (fun i q nm h1 h2 => by
                  rcases i with _ | i
                  · cases h1; cases h2; exact q659
                  rcases i with _ | i
                  · cases h1; cases h2; exact q724
                  rcases i with _ | i
                  · cases h1; cases h2; exact q684
                  cases h1) (fun i nm hi h2 => by
                  omega) ⟨_, rfl, q681⟩ (fun a => ?_)
              refine la_astore7 K dX0_put_43 rfl ?_
              refine la_aload_n K dX0_put_45 rfl ?_
              refine la_bipush (v := -11) K dX0_put_46 (by decide +kernel) ?_
              refine la_callVi0 K ok_X0_refused q590 (lb_refused _) 0 rfl rfl rfl rfl rfl (Nat.le_of_ble_eq_true rfl) ⟨Nat.le_of_ble_eq_true rfl, Nat.le_of_ble_eq_true rfl⟩ ⟨Nat.le_of_ble_eq_true rfl, by show 0 + 1010 ≤ 1010; omega⟩ dX0_put_48 (fun r u p => ?_)
              obtain ⟨rfl, rfl⟩ := p
              have e9 := e9
              exact hE.1 _ _ _ _ _ (Nat.le_of_ble_eq_true rfl) (by show 0 + 1010 ≤ 1010; omega) rfl dX0_put_51 (Or.inl ⟨by rw [e9]; decide, by rw [e9], by rw [e9]⟩)
            · skip
              refine la_Th_catch K htab ["java/lang/NullPointerException", "java/lang/ClassCastException", "java/lang/ArrayIndexOutOfBoundsException"] 2 rfl (by decide) rfl (fun i q nm h1 h2 => by
                  rcases i with _ | i
                  · cases h1; cases h2; exact q659
                  rcases i with _ | i
                  · cases h1; cases h2; exact q724
                  rcases i with _ | i
                  · cases h1; cases h2; exact q684
                  cases h1) (fun i nm hi h2 => by
                  rcases i with _ | i
                  · cases h2; exact ln_IDX_NPE
                  rcases i with _ | i
                  · cases h2; exact ln_IDX_CCE
                  omega) ⟨_, rfl, q699⟩ (fun a => ?_)
              refine la_astore7 K dX0_put_61 rfl ?_
              refine la_aload_n K dX0_put_63 rfl ?_
              refine la_bipush (v := -12) K dX0_put_64 (by decide +kernel) ?_
              refine la_callVi0 K ok_X0_refused q590 (lb_refused _) 0 rfl rfl rfl rfl rfl (Nat.le_of_ble_eq_true rfl) ⟨Nat.le_of_ble_eq_true rfl, Nat.le_of_ble_eq_true rfl⟩ ⟨Nat.le_of_ble_eq_true rfl, by show 0 + 1010 ≤ 1010; omega⟩ dX0_put_66 (fun r u p => ?_)
              obtain ⟨rfl, rfl⟩ := p
              have e9 := e9
              exact hE.1 _ _ _ _ _ (Nat.le_of_ble_eq_true rfl) (by show 0 + 1010 ≤ 1010; omega) rfl dX0_put_69 (Or.inl ⟨by rw [e9]; decide, by rw [e9], by rw [e9]⟩)
          · cases h
    · refine la_aload_n K dX0_put_16 rfl ?_
      refine la_iconst K dX0_put_17 la_ki_m1 ?_
      refine la_callVi0 K ok_X0_refused q590 (lb_refused _) 0 rfl rfl rfl rfl rfl (Nat.le_of_ble_eq_true rfl) ⟨Nat.le_of_ble_eq_true rfl, Nat.le_of_ble_eq_true rfl⟩ ⟨Nat.zero_le _, Nat.zero_le _⟩ dX0_put_18 (fun r u p => ?_)
      obtain ⟨rfl, rfl⟩ := p
      exact hE.1 _ _ _ _ _ (Nat.zero_le _) (Nat.zero_le _) rfl dX0_put_21 (Or.inl ⟨by rw [lp_wrA_bad (Or.inr (fun z => h13 ((lp_intsC0 o (by decide)).mpr z)))]; decide, by rw [lp_wrA_bad (Or.inr (fun z => h13 ((lp_intsC0 o (by decide)).mpr z)))], by rw [lp_wrA_bad (Or.inr (fun z => h13 ((lp_intsC0 o (by decide)).mpr z)))]⟩)
end LC20
