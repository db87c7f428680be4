/-! THE MODEL's METHODS, part 7: books. Printed by m7.py. -/
section LM7
variable {ω : la_O} {ad : Nat → Nat} {th S lt : Int32} {T : Int64} {P R L B Kd C : Nat} {ra rb rl fa aa su cp cl cf ck cm le tr re bh so br wh wy : Nat → Nat} {ct rs : Nat → Int32} {ce : Nat → Int64} {bk : lp_Bk}
theorem lm_no (x : Int32) : la_CI ω yX5_no cX5_no 2 (some .int) (la_rm 0) [.ref (ad 0), .int x] (lm_W ω.2.2 ad ((th, S, T, P, R, L, B, Kd, lt, C), (ra, rb, rl, fa), (aa, su), (cp, cl, cf, ck, cm, ct), (le, tr, re), (bh, so, br, rs, ce), (wh, wy))) (lm_W ω.2.2 ad) (fun (r : Int32) (u : lm_S) => r = x ∧ u = ((th, x, T, P, R, L, B, Kd, lt, C), (ra, rb, rl, fa), (aa, su), (cp, cl, cf, ck, cm, ct), (le, tr, re), (bh, so, br, rs, ce), (wh, wy))) := by
  refine la_CI_of (by decide) [some (.ref (ad 0)), some (.int (x))] rfl rfl (Nat.le_of_ble_eq_true rfl) ?_
  intro κ K hret
  refine la_aload_n K dX5_no_0 rfl ?_
  refine la_iload_n K dX5_no_1 rfl ?_
  refine lm_p_S K q828 dX5_no_2 ?_
  refine la_iload_n K dX5_no_5 rfl ?_
  exact hret _ _ _ _ dX5_no_6 ⟨rfl, rfl⟩
set_option maxHeartbeats 4000000 in
theorem lm_book (k o n : Int32) (hB : lm_BR bk bh so br rs ce) : la_CI ω yX5_book cX5_book 5 (some .int) (la_rm 1) [.ref (ad 0), .int k, .int o, .int n] (lm_W ω.2.2 ad ((th, S, T, P, R, L, B, Kd, lt, C), (ra, rb, rl, fa), (aa, su), (cp, cl, cf, ck, cm, ct), (le, tr, re), (bh, so, br, rs, ce), (wh, wy))) (lm_W ω.2.2 ad) (fun (r : Int32) (u : lm_S) => ((¬ lp_inI k 0 2 ∨ ¬ lp_inI o 0 3 ∨ ¬ n ≤ nI 4) ∧ r = -1 ∧ u = ((nI 0, (-1), T, P, R, L, B, Kd, lt, C), (ra, rb, rl, fa), (aa, su), (cp, cl, cf, ck, cm, ct), (le, tr, re), (bh, so, br, rs, ce), (wh, wy))) ∨ (lp_inI k 0 2 ∧ lp_inI o 0 3 ∧ n < 0 ∧ r = -15 ∧ u = ((nI 0, (-15), T, P, R, L, B, Kd, lt, C), (ra, rb, rl, fa), (aa, su), (cp, cl, cf, ck, cm, ct), (le, tr, re), (bh, so, br, rs, ce), (wh, wy))) ∨ (∃ kk ko kn, k = nI kk ∧ kk < 3 ∧ o = nI ko ∧ ko ≤ 3 ∧ n = nI kn ∧ kn ≤ 4 ∧ r = nI 1 ∧ ∃ (bh' so' br' : Nat → Nat) (rs' : Nat → Int32), u = ((nI 0, nI 0, T, P, R, L, B, Kd, lt, C), (ra, rb, rl, fa), (aa, su), (cp, cl, cf, ck, cm, ct), (le, tr, re), (bh', so', br', rs', ce), (wh, wy)) ∧ lm_BR (va_up bk kk (some (ko, kn, fun _ => none))) bh' so' br' rs' ce)) := by
  refine la_CI_of (by decide) [some (.ref (ad 0)), some (.int (k)), some (.int (o)), some (.int (n)), none] rfl rfl (Nat.le_of_ble_eq_true rfl) ?_
  intro κ K hret
  refine la_aload_n K dX5_book_0 rfl ?_
  refine la_iconst K dX5_book_1 la_ki_0 ?_
  refine lm_p_th K q827 dX5_book_2 ?_
  refine la_aload_n K dX5_book_5 rfl ?_
  refine la_iconst K dX5_book_6 la_ki_0 ?_
  refine lm_p_S K q828 dX5_book_7 ?_
  refine la_iload_n K dX5_book_10 rfl ?_
  refine la_i2l K dX5_book_11 rfl ?_
  refine la_lconst K dX5_book_12 la_kn_0 ?_
  refine la_ldc2 K q1083 la_kL_2 dX5_book_13 ?_
  refine la_callSp K ok_X5_in q937 (lm_in _ _ _ _) rfl rfl rfl (Nat.le_of_ble_eq_true rfl) ⟨Nat.le_of_ble_eq_true rfl, Nat.le_of_ble_eq_true rfl⟩ ⟨Nat.zero_le _, Nat.zero_le _⟩ dX5_book_16 ?_
  refine la_if_eqC K 39 dX5_book_19 rfl (fun h19 => ?_) (fun h19 => ?_)
  · refine la_aload_n K dX5_book_39 rfl ?_
    refine la_iconst K dX5_book_40 la_ki_m1 ?_
    refine la_callVi0 K ok_X5_no q1088 (lm_no _) 0 rfl rfl rfl rfl rfl (Nat.le_of_ble_eq_true rfl) ⟨Nat.le_of_ble_eq_true rfl, Nat.le_of_ble_eq_true rfl⟩ ⟨Nat.zero_le _, Nat.zero_le _⟩ dX5_book_41 (fun r41 u41 p41 => ?_)
    obtain ⟨rfl, rfl⟩ := p41
    exact hret _ _ _ _ dX5_book_44 (Or.inl ⟨Or.inl (fun z => h19 ((lp_ints k (by decide) (by decide)).mpr z)), rfl, rfl⟩)
  · refine la_iload_n K dX5_book_22 rfl ?_
    refine la_i2l K dX5_book_23 rfl ?_
    refine la_lconst K dX5_book_24 la_kn_0 ?_
    refine la_ldc2 K q962 la_kL_3 dX5_book_25 ?_
    refine la_callSp K ok_X5_in q937 (lm_in _ _ _ _) rfl rfl rfl (Nat.le_of_ble_eq_true rfl) ⟨Nat.le_of_ble_eq_true rfl, Nat.le_of_ble_eq_true rfl⟩ ⟨Nat.zero_le _, Nat.zero_le _⟩ dX5_book_28 ?_
    refine la_if_eqC K 39 dX5_book_31 rfl (fun h31 => ?_) (fun h31 => ?_)
    · refine la_aload_n K dX5_book_39 rfl ?_
      refine la_iconst K dX5_book_40 la_ki_m1 ?_
      refine la_callVi0 K ok_X5_no q1088 (lm_no _) 0 rfl rfl rfl rfl rfl (Nat.le_of_ble_eq_true rfl) ⟨Nat.le_of_ble_eq_true rfl, Nat.le_of_ble_eq_true rfl⟩ ⟨Nat.zero_le _, Nat.zero_le _⟩ dX5_book_41 (fun r41 u41 p41 => ?_)
      obtain ⟨rfl, rfl⟩ := p41
      exact hret _ _ _ _ dX5_book_44 (Or.inl ⟨Or.inr (Or.inl (fun z => h31 ((lp_ints o (by decide) (by decide)).mpr z))), rfl, rfl⟩)
    · refine la_iload_n K dX5_book_34 rfl ?_
      refine la_iconst K dX5_book_35 la_ki_4 ?_
      refine la_icmp_le K 45 dX5_book_36 rfl (fun h36 => ?_) (fun h36 => ?_)
      · refine la_iload_n K dX5_book_45 rfl ?_
        refine la_if_ge K 56 dX5_book_46 rfl (fun h46 => ?_) (fun h46 => ?_)
        · obtain ⟨kk, -, hkk, rfl⟩ := lp_inI_N ((lp_ints k (by decide) (by decide)).mp h19) (by decide)
          obtain ⟨ko, -, hko, rfl⟩ := lp_inI_N ((lp_ints o (by decide) (by decide)).mp h31) (by decide)
          obtain ⟨kn, hkn, rfl⟩ := nI_of2 (M := nI 4) (n := 4) (by decide +kernel) (fun z => absurd h46 (by rw [Int32.le_iff_toInt_le, Int32.lt_iff_toInt_lt] at *; omega)) h36
          refine la_aload_n K dX5_book_56 rfl ?_
          refine lm_g_hb K q851 dX5_book_57 ?_
          refine la_iload_n K dX5_book_60 rfl ?_
          refine la_iconst K dX5_book_61 la_ki_1 ?_
          refine lm_st_hb K (by omega) (by omega) dX5_book_62 ?_
          refine la_aload_n K dX5_book_63 rfl ?_
          refine lm_g_so K q852 dX5_book_64 ?_
          refine la_iload_n K dX5_book_67 rfl ?_
          refine la_iload_n K dX5_book_68 rfl ?_
          refine lm_st_so K (by omega) dX5_book_69 ?_
          refine la_aload_n K dX5_book_70 rfl ?_
          refine lm_g_br K q853 dX5_book_71 ?_
          refine la_iload_n K dX5_book_74 rfl ?_
          refine la_iload_n K dX5_book_75 rfl ?_
          refine lm_st_br K (by omega) dX5_book_76 ?_
          refine la_iconst K dX5_book_77 la_ki_0 ?_
          refine la_istore4 K dX5_book_78 rfl ?_
          have lp : ∀ (j q : Nat) (f : Nat → Int32), q ≤ 4 → 4 < q + j → (∀ r, r < q → f (4 * kk + r) = -9) → (∀ i, (i < 4 * kk ∨ 4 * kk + 4 ≤ i) → f i = rs i) → la_At ω κ (0, 0) 80 [some (.ref (ad 0)), some (.int (nI (kk))), some (.int (nI (ko))), some (.int (nI (kn))), some (.int (nI (q)))] [] (lm_W ω.2.2 ad ((nI 0, nI 0, T, P, R, L, B, Kd, lt, C), (ra, rb, rl, fa), (aa, su), (cp, cl, cf, ck, cm, ct), (le, tr, re), (va_up bh kk 1, va_up so kk ko, va_up br kk kn, f, ce), (wh, wy))) := by
            intro j
            induction j with
            | zero => intro q f h1 h2; omega
            | succ j ih =>
              intro q f h1 h2 h1f h2f
              refine la_iload K dX5_book_80 rfl ?_
              refine la_iconst K dX5_book_82 la_ki_4 ?_
              refine la_icmp_geN K 105 dX5_book_83 rfl (by omega) (by omega) (fun h83 => ?_) (fun h83 => ?_)
              · refine la_iconst K dX5_book_105 la_ki_1 ?_
                exact hret _ _ _ _ dX5_book_106 (Or.inr (Or.inr ⟨kk, ko, kn, rfl, by omega, rfl, by omega, rfl, by omega, rfl, _, _, _, _, rfl, lm_BR_book hB (by omega) (by omega) (by omega) (fun r hr => h1f r (by omega)) h2f⟩))
              · refine la_aload_n K dX5_book_86 rfl ?_
                refine lm_g_rs K q854 dX5_book_87 ?_
                refine la_iconst K dX5_book_90 la_ki_4 ?_
                refine la_iload_n K dX5_book_91 rfl ?_
                refine la_imulN K dX5_book_92 ?_
                refine la_iload K dX5_book_93 rfl ?_
                refine la_iaddN K dX5_book_95 ?_
                refine la_bipush K dX5_book_96 la_kb_m9 ?_
                refine lm_st_rs K (by omega) dX5_book_98 ?_
                refine la_iinc4 K dX5_book_99 (la_inc_N _) rfl ?_
                refine la_goto K 80 dX5_book_102 rfl ?_
                exact ih (q + 1) _ (by omega) (by omega) (lt_s (fun r hr => by rw [va_up_ne _ _ (by omega)]; exact h1f r hr) (by rw [va_up_self])) (fun i hi => by rw [va_up_ne _ _ (by omega)]; exact h2f i hi)
          exact lp 5 0 _ (by omega) (by omega) (fun r hr => by omega) (fun i _ => rfl)
        · refine la_aload_n K dX5_book_49 rfl ?_
          refine la_bipush K dX5_book_50 la_kb_m15 ?_
          refine la_callVi0 K ok_X5_no q1088 (lm_no _) 0 rfl rfl rfl rfl rfl (Nat.le_of_ble_eq_true rfl) ⟨Nat.le_of_ble_eq_true rfl, Nat.le_of_ble_eq_true rfl⟩ ⟨Nat.zero_le _, Nat.zero_le _⟩ dX5_book_52 (fun r52 u52 p52 => ?_)
          obtain ⟨rfl, rfl⟩ := p52
          exact hret _ _ _ _ dX5_book_55 (Or.inr (Or.inl ⟨(lp_ints k (by decide) (by decide)).mp h19, (lp_ints o (by decide) (by decide)).mp h31, Int32.not_le.mp h46, rfl, rfl⟩))
      · refine la_aload_n K dX5_book_39 rfl ?_
        refine la_iconst K dX5_book_40 la_ki_m1 ?_
        refine la_callVi0 K ok_X5_no q1088 (lm_no _) 0 rfl rfl rfl rfl rfl (Nat.le_of_ble_eq_true rfl) ⟨Nat.le_of_ble_eq_true rfl, Nat.le_of_ble_eq_true rfl⟩ ⟨Nat.zero_le _, Nat.zero_le _⟩ dX5_book_41 (fun r41 u41 p41 => ?_)
        obtain ⟨rfl, rfl⟩ := p41
        exact hret _ _ _ _ dX5_book_44 (Or.inl ⟨Or.inr (Or.inr h36), rfl, rfl⟩)
set_option maxHeartbeats 4000000 in
theorem lm_row (k q n : Int32) (hB : lm_BR bk bh so br rs ce) : la_CI ω yX5_row cX5_row 5 (some .int) (la_rm 1) [.ref (ad 0), .int k, .int q, .int n] (lm_W ω.2.2 ad ((th, S, T, P, R, L, B, Kd, lt, C), (ra, rb, rl, fa), (aa, su), (cp, cl, cf, ck, cm, ct), (le, tr, re), (bh, so, br, rs, ce), (wh, wy))) (lm_W ω.2.2 ad) (fun (r : Int32) (u : lm_S) => ((¬ lp_inI k 0 2 ∨ ¬ n ≤ nI 8) ∧ r = -1 ∧ u = ((nI 0, (-1), T, P, R, L, B, Kd, lt, C), (ra, rb, rl, fa), (aa, su), (cp, cl, cf, ck, cm, ct), (le, tr, re), (bh, so, br, rs, ce), (wh, wy))) ∨ (∃ kk, k = nI kk ∧ kk < 3 ∧ n ≤ nI 8 ∧ ((bk kk = none ∧ r = -11 ∧ u = ((nI 0, (-11), T, P, R, L, B, Kd, lt, C), (ra, rb, rl, fa), (aa, su), (cp, cl, cf, ck, cm, ct), (le, tr, re), (bh, so, br, rs, ce), (wh, wy))) ∨ (∃ s m rows, bk kk = some (s, m, rows) ∧ ((¬ lp_in q m ∧ r = -12 ∧ u = ((nI 0, (-12), T, P, R, L, B, Kd, lt, C), (ra, rb, rl, fa), (aa, su), (cp, cl, cf, ck, cm, ct), (le, tr, re), (bh, so, br, rs, ce), (wh, wy))) ∨ (lp_in q m ∧ n < 0 ∧ r = -15 ∧ u = ((nI 0, (-15), T, P, R, L, B, Kd, lt, C), (ra, rb, rl, fa), (aa, su), (cp, cl, cf, ck, cm, ct), (le, tr, re), (bh, so, br, rs, ce), (wh, wy))) ∨ (∃ kq kn, q = nI kq ∧ kq < m ∧ n = nI kn ∧ kn ≤ 8 ∧ r = nI 1 ∧ ∃ (rs' : Nat → Int32) (ce' : Nat → Int64), u = ((nI 0, nI 0, T, P, R, L, B, Kd, lt, C), (ra, rb, rl, fa), (aa, su), (cp, cl, cf, ck, cm, ct), (le, tr, re), (bh, so, br, rs', ce'), (wh, wy)) ∧ lm_BR (va_up bk kk (some (s, m, va_up rows kq (some (kn, fun _ => lN 0))))) bh so br rs' ce')))))) := by
  refine la_CI_of (by decide) [some (.ref (ad 0)), some (.int (k)), some (.int (q)), some (.int (n)), none] rfl rfl (Nat.le_of_ble_eq_true rfl) ?_
  intro κ K hret
  refine la_aload_n K dX5_row_0 rfl ?_
  refine la_iconst K dX5_row_1 la_ki_0 ?_
  refine lm_p_th K q827 dX5_row_2 ?_
  refine la_aload_n K dX5_row_5 rfl ?_
  refine la_iconst K dX5_row_6 la_ki_0 ?_
  refine lm_p_S K q828 dX5_row_7 ?_
  refine la_iload_n K dX5_row_10 rfl ?_
  refine la_i2l K dX5_row_11 rfl ?_
  refine la_lconst K dX5_row_12 la_kn_0 ?_
  refine la_ldc2 K q1083 la_kL_2 dX5_row_13 ?_
  refine la_callSp K ok_X5_in q937 (lm_in _ _ _ _) rfl rfl rfl (Nat.le_of_ble_eq_true rfl) ⟨Nat.le_of_ble_eq_true rfl, Nat.le_of_ble_eq_true rfl⟩ ⟨Nat.zero_le _, Nat.zero_le _⟩ dX5_row_16 ?_
  refine la_if_eqC K 28 dX5_row_19 rfl (fun h19 => ?_) (fun h19 => ?_)
  · refine la_aload_n K dX5_row_28 rfl ?_
    refine la_iconst K dX5_row_29 la_ki_m1 ?_
    refine la_callVi0 K ok_X5_no q1088 (lm_no _) 0 rfl rfl rfl rfl rfl (Nat.le_of_ble_eq_true rfl) ⟨Nat.le_of_ble_eq_true rfl, Nat.le_of_ble_eq_true rfl⟩ ⟨Nat.zero_le _, Nat.zero_le _⟩ dX5_row_30 (fun r30 u30 p30 => ?_)
    obtain ⟨rfl, rfl⟩ := p30
    exact hret _ _ _ _ dX5_row_33 (Or.inl ⟨Or.inl (fun z => h19 ((lp_ints k (by decide) (by decide)).mpr z)), rfl, rfl⟩)
  · refine la_iload_n K dX5_row_22 rfl ?_
    refine la_bipush K dX5_row_23 la_kb_8 ?_
    refine la_icmp_le K 34 dX5_row_25 rfl (fun h25 => ?_) (fun h25 => ?_)
    · obtain ⟨kk, -, hkk, rfl⟩ := lp_inI_N ((lp_ints k (by decide) (by decide)).mp h19) (by decide)
      rcases hbk : bk kk with _ | ⟨s, m, rows⟩
      · skip
        refine la_aload_n K dX5_row_34 rfl ?_
        refine lm_g_hb K q851 dX5_row_35 ?_
        refine la_iload_n K dX5_row_38 rfl ?_
        refine lm_ld_hb K (by omega) dX5_row_39 ?_
        rw [(hB kk (by omega)).1 hbk]
        refine la_if_neN K 50 dX5_row_40 rfl (by omega) (fun h40 => absurd rfl h40) (fun h40 => ?_)
        refine la_aload_n K dX5_row_43 rfl ?_
        refine la_bipush K dX5_row_44 la_kb_m11 ?_
        refine la_callVi0 K ok_X5_no q1088 (lm_no _) 0 rfl rfl rfl rfl rfl (Nat.le_of_ble_eq_true rfl) ⟨Nat.le_of_ble_eq_true rfl, Nat.le_of_ble_eq_true rfl⟩ ⟨Nat.zero_le _, Nat.zero_le _⟩ dX5_row_46 (fun r46 u46 p46 => ?_)
        obtain ⟨rfl, rfl⟩ := p46
        exact hret _ _ _ _ dX5_row_49 (Or.inr ⟨kk, rfl, by omega, h25, Or.inl ⟨hbk, rfl, rfl⟩⟩)
      obtain ⟨b1, b2, b3, b4, b5, b6⟩ := (hB kk (by omega)).2 s m rows hbk
      refine la_aload_n K dX5_row_34 rfl ?_
      refine lm_g_hb K q851 dX5_row_35 ?_
      refine la_iload_n K dX5_row_38 rfl ?_
      refine lm_ld_hb K (by omega) dX5_row_39 ?_
      rw [b1]
      refine la_if_neN K 50 dX5_row_40 rfl (by omega) (fun h40 => ?_) (fun h40 => absurd h40 (by decide))
      refine la_iload_n K dX5_row_50 rfl ?_
      refine la_i2l K dX5_row_51 rfl ?_
      refine la_lconst K dX5_row_52 la_kn_0 ?_
      refine la_aload_n K dX5_row_53 rfl ?_
      refine lm_g_br K q853 dX5_row_54 ?_
      refine la_iload_n K dX5_row_57 rfl ?_
      refine lm_ld_br K (by omega) dX5_row_58 ?_
      rw [b4]
      refine la_iconst K dX5_row_59 la_ki_1 ?_
      refine la_isub K dX5_row_60 ?_
      refine la_i2l K dX5_row_61 rfl ?_
      refine la_callSp K ok_X5_in q937 (lm_in _ _ _ _) rfl rfl rfl (Nat.le_of_ble_eq_true rfl) ⟨Nat.le_of_ble_eq_true rfl, Nat.le_of_ble_eq_true rfl⟩ ⟨Nat.zero_le _, Nat.zero_le _⟩ dX5_row_62 ?_
      refine la_if_neC K 75 dX5_row_65 rfl (fun h65 => ?_) (fun h65 => ?_)
      · refine la_iload_n K dX5_row_75 rfl ?_
        refine la_if_ge K 86 dX5_row_76 rfl (fun h76 => ?_) (fun h76 => ?_)
        · obtain ⟨kq, hkq, rfl⟩ := lp_in_N ((lp_intB q (by omega)).mp h65) (by omega)
          obtain ⟨kn, hkn, rfl⟩ := nI_of2 (M := nI 8) (n := 8) (by decide +kernel) (fun z => absurd h76 (by rw [Int32.le_iff_toInt_le, Int32.lt_iff_toInt_lt] at *; omega)) h25
          refine la_aload_n K dX5_row_86 rfl ?_
          refine lm_g_rs K q854 dX5_row_87 ?_
          refine la_iconst K dX5_row_90 la_ki_4 ?_
          refine la_iload_n K dX5_row_91 rfl ?_
          refine la_imulN K dX5_row_92 ?_
          refine la_iload_n K dX5_row_93 rfl ?_
          refine la_iaddN K dX5_row_94 ?_
          refine la_iload_n K dX5_row_95 rfl ?_
          refine lm_st_rs K (by omega) dX5_row_96 ?_
          refine la_iconst K dX5_row_97 la_ki_0 ?_
          refine la_istore4 K dX5_row_98 rfl ?_
          have lp : ∀ (j j8 : Nat) (f : Nat → Int64), j8 ≤ 8 → 8 < j8 + j → (∀ r, r < j8 → f (32 * kk + 8 * kq + r) = lN 0) → (∀ i, (i < 32 * kk + 8 * kq ∨ 32 * kk + 8 * kq + 8 ≤ i) → f i = ce i) → la_At ω κ (0, 0) 100 [some (.ref (ad 0)), some (.int (nI (kk))), some (.int (nI (kq))), some (.int (nI (kn))), some (.int (nI (j8)))] [] (lm_W ω.2.2 ad ((nI 0, nI 0, T, P, R, L, B, Kd, lt, C), (ra, rb, rl, fa), (aa, su), (cp, cl, cf, ck, cm, ct), (le, tr, re), (bh, so, br, va_up rs (4 * kk + kq) (nI kn), f), (wh, wy))) := by
            intro j
            induction j with
            | zero => intro j8 f h1 h2; omega
            | succ j ih =>
              intro j8 f h1 h2 h1f h2f
              refine la_iload K dX5_row_100 rfl ?_
              refine la_bipush K dX5_row_102 la_kb_8 ?_
              refine la_icmp_geN K 131 dX5_row_104 rfl (by omega) (by omega) (fun h104 => ?_) (fun h104 => ?_)
              · refine la_iconst K dX5_row_131 la_ki_1 ?_
                exact hret _ _ _ _ dX5_row_132 (Or.inr ⟨kk, rfl, by omega, h25, Or.inr ⟨s, m, rows, hbk, Or.inr (Or.inr ⟨kq, kn, rfl, hkq, rfl, by omega, rfl, _, _, rfl, lm_BR_row hB (by omega) hbk hkq (by omega) (fun r hr => h1f r (by omega)) h2f⟩)⟩⟩)
              · refine la_aload_n K dX5_row_107 rfl ?_
                refine lm_g_ce K q855 dX5_row_108 ?_
                refine la_bipush K dX5_row_111 la_kb_32 ?_
                refine la_iload_n K dX5_row_113 rfl ?_
                refine la_imulN K dX5_row_114 ?_
                refine la_bipush K dX5_row_115 la_kb_8 ?_
                refine la_iload_n K dX5_row_117 rfl ?_
                refine la_imulN K dX5_row_118 ?_
                refine la_iaddN K dX5_row_119 ?_
                refine la_iload K dX5_row_120 rfl ?_
                refine la_iaddN K dX5_row_122 ?_
                refine la_lconst K dX5_row_123 la_kn_0 ?_
                refine lm_st_ce K (by omega) dX5_row_124 ?_
                refine la_iinc4 K dX5_row_125 (la_inc_N _) rfl ?_
                refine la_goto K 100 dX5_row_128 rfl ?_
                exact ih (j8 + 1) _ (by omega) (by omega) (lt_s (fun r hr => by rw [va_up_ne _ _ (by omega)]; exact h1f r hr) (by rw [va_up_self])) (fun i hi => by rw [va_up_ne _ _ (by omega)]; exact h2f i hi)
          exact lp 9 0 _ (by omega) (by omega) (fun r hr => by omega) (fun i _ => rfl)
        · refine la_aload_n K dX5_row_79 rfl ?_
          refine la_bipush K dX5_row_80 la_kb_m15 ?_
          refine la_callVi0 K ok_X5_no q1088 (lm_no _) 0 rfl rfl rfl rfl rfl (Nat.le_of_ble_eq_true rfl) ⟨Nat.le_of_ble_eq_true rfl, Nat.le_of_ble_eq_true rfl⟩ ⟨Nat.zero_le _, Nat.zero_le _⟩ dX5_row_82 (fun r82 u82 p82 => ?_)
          obtain ⟨rfl, rfl⟩ := p82
          exact hret _ _ _ _ dX5_row_85 (Or.inr ⟨kk, rfl, by omega, h25, Or.inr ⟨s, m, rows, hbk, Or.inr (Or.inl ⟨(lp_intB q (by omega)).mp h65, Int32.not_le.mp h76, rfl, rfl⟩)⟩⟩)
      · refine la_aload_n K dX5_row_68 rfl ?_
        refine la_bipush K dX5_row_69 la_kb_m12 ?_
        refine la_callVi0 K ok_X5_no q1088 (lm_no _) 0 rfl rfl rfl rfl rfl (Nat.le_of_ble_eq_true rfl) ⟨Nat.le_of_ble_eq_true rfl, Nat.le_of_ble_eq_true rfl⟩ ⟨Nat.zero_le _, Nat.zero_le _⟩ dX5_row_71 (fun r71 u71 p71 => ?_)
        obtain ⟨rfl, rfl⟩ := p71
        exact hret _ _ _ _ dX5_row_74 (Or.inr ⟨kk, rfl, by omega, h25, Or.inr ⟨s, m, rows, hbk, Or.inl ⟨fun z => h65 ((lp_intB q (by omega)).mpr z), rfl, rfl⟩⟩⟩)
    · refine la_aload_n K dX5_row_28 rfl ?_
      refine la_iconst K dX5_row_29 la_ki_m1 ?_
      refine la_callVi0 K ok_X5_no q1088 (lm_no _) 0 rfl rfl rfl rfl rfl (Nat.le_of_ble_eq_true rfl) ⟨Nat.le_of_ble_eq_true rfl, Nat.le_of_ble_eq_true rfl⟩ ⟨Nat.zero_le _, Nat.zero_le _⟩ dX5_row_30 (fun r30 u30 p30 => ?_)
      obtain ⟨rfl, rfl⟩ := p30
      exact hret _ _ _ _ dX5_row_33 (Or.inl ⟨Or.inr h25, rfl, rfl⟩)
set_option maxHeartbeats 4000000 in
theorem lm_wrong (k o q i : Int32) (hB : lm_BR bk bh so br rs ce) : la_CP ω yX5_wrong cX5_wrong 6 (some .int) (la_rm 1) [.ref (ad 0), .int k, .int o, .int q, .int i] (lm_W ω.2.2 ad ((th, S, T, P, R, L, B, Kd, lt, C), (ra, rb, rl, fa), (aa, su), (cp, cl, cf, ck, cm, ct), (le, tr, re), (bh, so, br, rs, ce), (wh, wy))) (lp_wrA bk k o q i) := by
  refine la_CI_of (by decide) [some (.ref (ad 0)), some (.int (k)), some (.int (o)), some (.int (q)), some (.int (i)), none] rfl rfl (Nat.le_of_ble_eq_true rfl) ?_
  intro κ K hret
  refine la_iload_n K dX5_wrong_0 rfl ?_
  refine la_i2l K dX5_wrong_1 rfl ?_
  refine la_lconst K dX5_wrong_2 la_kn_0 ?_
  refine la_ldc2 K q1083 la_kL_2 dX5_wrong_3 ?_
  refine la_callSp K ok_X5_in q937 (lm_in _ _ _ _) rfl rfl rfl (Nat.le_of_ble_eq_true rfl) ⟨Nat.le_of_ble_eq_true rfl, Nat.le_of_ble_eq_true rfl⟩ ⟨Nat.zero_le _, Nat.zero_le _⟩ dX5_wrong_6 ?_
  refine la_if_eqC K 24 dX5_wrong_9 rfl (fun h9 => ?_) (fun h9 => ?_)
  · refine la_iconst K dX5_wrong_24 la_ki_m1 ?_
    exact hret _ _ _ () dX5_wrong_25 (by unfold lp_wrA; rw [if_neg (fun z => h9 ((lp_ints k (by decide) (by decide)).mpr z.1))])
  · refine la_iload_n K dX5_wrong_12 rfl ?_
    refine la_i2l K dX5_wrong_13 rfl ?_
    refine la_lconst K dX5_wrong_14 la_kn_0 ?_
    refine la_ldc2 K q962 la_kL_3 dX5_wrong_15 ?_
    refine la_callSp K ok_X5_in q937 (lm_in _ _ _ _) rfl rfl rfl (Nat.le_of_ble_eq_true rfl) ⟨Nat.le_of_ble_eq_true rfl, Nat.le_of_ble_eq_true rfl⟩ ⟨Nat.zero_le _, Nat.zero_le _⟩ dX5_wrong_18 ?_
    refine la_if_neC K 26 dX5_wrong_21 rfl (fun h21 => ?_) (fun h21 => ?_)
    · have g1 := (lp_ints k (by decide) (by decide)).mp h9
      have g2 := (lp_ints o (by decide) (by decide)).mp h21
      obtain ⟨kk, -, hkk, rfl⟩ := lp_inI_N g1 (by decide)
      obtain ⟨ko, -, hko, rfl⟩ := lp_inI_N g2 (by decide)
      rcases hbk : bk kk with _ | ⟨s, m, rows⟩
      · skip
        refine la_aload_n K dX5_wrong_26 rfl ?_
        refine lm_g_hb K q851 dX5_wrong_27 ?_
        refine la_iload_n K dX5_wrong_30 rfl ?_
        refine lm_ld_hb K (by omega) dX5_wrong_31 ?_
        rw [(hB kk (by omega)).1 hbk]
        refine la_if_neN K 38 dX5_wrong_32 rfl (by omega) (fun h32 => absurd rfl h32) (fun h32 => ?_)
        refine la_bipush K dX5_wrong_35 la_kb_m11 ?_
        exact hret _ _ _ () dX5_wrong_37 (by unfold lp_wrA; rw [if_pos ⟨g1, g2⟩, nI_clamp (by omega), hbk])
      obtain ⟨b1, b2, b3, b4, b5, b6⟩ := (hB kk (by omega)).2 s m rows hbk
      refine la_aload_n K dX5_wrong_26 rfl ?_
      refine lm_g_hb K q851 dX5_wrong_27 ?_
      refine la_iload_n K dX5_wrong_30 rfl ?_
      refine lm_ld_hb K (by omega) dX5_wrong_31 ?_
      rw [b1]
      refine la_if_neN K 38 dX5_wrong_32 rfl (by omega) (fun h32 => ?_) (fun h32 => absurd h32 (by decide))
      refine la_aload_n K dX5_wrong_38 rfl ?_
      refine lm_g_so K q852 dX5_wrong_39 ?_
      refine la_iload_n K dX5_wrong_42 rfl ?_
      refine lm_ld_so K (by omega) dX5_wrong_43 ?_
      rw [b2]
      refine la_iload_n K dX5_wrong_44 rfl ?_
      refine la_icmp_eqN K 51 dX5_wrong_45 rfl (by omega) (by omega) (fun h45 => ?_) (fun h45 => ?_)
      · refine la_iload_n K dX5_wrong_51 rfl ?_
        refine la_i2l K dX5_wrong_52 rfl ?_
        refine la_lconst K dX5_wrong_53 la_kn_0 ?_
        refine la_aload_n K dX5_wrong_54 rfl ?_
        refine lm_g_br K q853 dX5_wrong_55 ?_
        refine la_iload_n K dX5_wrong_58 rfl ?_
        refine lm_ld_br K (by omega) dX5_wrong_59 ?_
        rw [b4]
        refine la_iconst K dX5_wrong_60 la_ki_1 ?_
        refine la_isub K dX5_wrong_61 ?_
        refine la_i2l K dX5_wrong_62 rfl ?_
        refine la_callSp K ok_X5_in q937 (lm_in _ _ _ _) rfl rfl rfl (Nat.le_of_ble_eq_true rfl) ⟨Nat.le_of_ble_eq_true rfl, Nat.le_of_ble_eq_true rfl⟩ ⟨Nat.zero_le _, Nat.zero_le _⟩ dX5_wrong_63 ?_
        refine la_if_neC K 72 dX5_wrong_66 rfl (fun h66 => ?_) (fun h66 => ?_)
        · have g3 := (lp_intB q (by omega)).mp h66
          obtain ⟨kr, hkr, rfl⟩ := lp_in_N g3 (by omega)
          rcases hro : rows kr with _ | ⟨n, cc⟩
          · skip
            refine la_aload_n K dX5_wrong_72 rfl ?_
            refine lm_g_rs K q854 dX5_wrong_73 ?_
            refine la_iconst K dX5_wrong_76 la_ki_4 ?_
            refine la_iload_n K dX5_wrong_77 rfl ?_
            refine la_imulN K dX5_wrong_78 ?_
            refine la_iload_n K dX5_wrong_79 rfl ?_
            refine la_iaddN K dX5_wrong_80 ?_
            refine lm_ld_rs K (by omega) dX5_wrong_81 ?_
            rw [(b6 kr hkr).1 hro]
            refine la_istore5 K dX5_wrong_82 rfl ?_
            refine la_iload K dX5_wrong_84 rfl ?_
            refine la_bipush K dX5_wrong_86 la_kb_m9 ?_
            refine la_icmp_ne K 96 dX5_wrong_88 rfl (fun h88 => absurd rfl h88) (fun h88 => ?_)
            refine la_bipush K dX5_wrong_91 la_kb_m11 ?_
            refine la_goto K 117 dX5_wrong_93 rfl ?_
            exact hret _ _ _ () dX5_wrong_117 (by unfold lp_wrA; rw [if_pos ⟨g1, g2⟩, nI_clamp (by omega), hbk]; dsimp only; rw [if_pos (by rw [h45]), if_pos g3, nI_clamp (by omega), hro])
          obtain ⟨d1, d2, d3⟩ := (b6 kr hkr).2 n cc hro
          refine la_aload_n K dX5_wrong_72 rfl ?_
          refine lm_g_rs K q854 dX5_wrong_73 ?_
          refine la_iconst K dX5_wrong_76 la_ki_4 ?_
          refine la_iload_n K dX5_wrong_77 rfl ?_
          refine la_imulN K dX5_wrong_78 ?_
          refine la_iload_n K dX5_wrong_79 rfl ?_
          refine la_iaddN K dX5_wrong_80 ?_
          refine lm_ld_rs K (by omega) dX5_wrong_81 ?_
          rw [d1]
          refine la_istore5 K dX5_wrong_82 rfl ?_
          refine la_iload K dX5_wrong_84 rfl ?_
          refine la_bipush K dX5_wrong_86 la_kb_m9 ?_
          refine la_icmp_ne K 96 dX5_wrong_88 rfl (fun h88 => ?_) (fun h88 => absurd h88 (lp_nn (by omega)))
          refine la_iload K dX5_wrong_96 rfl ?_
          refine la_i2l K dX5_wrong_98 rfl ?_
          refine la_lconst K dX5_wrong_99 la_kn_0 ?_
          refine la_iload K dX5_wrong_100 rfl ?_
          refine la_iconst K dX5_wrong_102 la_ki_1 ?_
          refine la_isub K dX5_wrong_103 ?_
          refine la_i2l K dX5_wrong_104 rfl ?_
          refine la_callSp K ok_X5_in q937 (lm_in _ _ _ _) rfl rfl rfl (Nat.le_of_ble_eq_true rfl) ⟨Nat.le_of_ble_eq_true rfl, Nat.le_of_ble_eq_true rfl⟩ ⟨Nat.zero_le _, Nat.zero_le _⟩ dX5_wrong_105 ?_
          refine la_if_eqC K 115 dX5_wrong_108 rfl (fun h108 => ?_) (fun h108 => ?_)
          · refine la_bipush K dX5_wrong_115 la_kb_m12 ?_
            exact hret _ _ _ () dX5_wrong_117 (by unfold lp_wrA; rw [if_pos ⟨g1, g2⟩, nI_clamp (by omega), hbk]; dsimp only; rw [if_pos (by rw [h45]), if_pos g3, nI_clamp (by omega), hro]; dsimp only; rw [if_neg (fun z => h108 ((lp_intB i (by omega)).mpr z))])
          · refine la_iconst K dX5_wrong_111 la_ki_0 ?_
            refine la_goto K 117 dX5_wrong_112 rfl ?_
            exact hret _ _ _ () dX5_wrong_117 (by unfold lp_wrA; rw [if_pos ⟨g1, g2⟩, nI_clamp (by omega), hbk]; dsimp only; rw [if_pos (by rw [h45]), if_pos g3, nI_clamp (by omega), hro]; dsimp only; rw [if_pos ((lp_intB i (by omega)).mp h108)])
        · refine la_bipush K dX5_wrong_69 la_kb_m12 ?_
          exact hret _ _ _ () dX5_wrong_71 (by unfold lp_wrA; rw [if_pos ⟨g1, g2⟩, nI_clamp (by omega), hbk]; dsimp only; rw [if_pos (by rw [h45]), if_neg (fun z => h66 ((lp_intB q (by omega)).mpr z))])
      · refine la_bipush K dX5_wrong_48 la_kb_m13 ?_
        exact hret _ _ _ () dX5_wrong_50 (by unfold lp_wrA; rw [if_pos ⟨g1, g2⟩, nI_clamp (by omega), hbk]; dsimp only; rw [if_neg (fun z => h45 ((nI_eq (by omega) (by omega)).mp z))])
    · refine la_iconst K dX5_wrong_24 la_ki_m1 ?_
      exact hret _ _ _ () dX5_wrong_25 (by unfold lp_wrA; rw [if_neg (fun z => h21 ((lp_ints o (by decide) (by decide)).mpr z.2))])
set_option maxHeartbeats 4000000 in
theorem lm_put (k o q i : Int32) (v : Int64) (hB : lm_BR bk bh so br rs ce) : la_CI ω yX5_put cX5_put 7 (some .int) (la_rm 2) [.ref (ad 0), .int k, .int o, .int q, .int i, .long v] (lm_W ω.2.2 ad ((th, S, T, P, R, L, B, Kd, lt, C), (ra, rb, rl, fa), (aa, su), (cp, cl, cf, ck, cm, ct), (le, tr, re), (bh, so, br, rs, ce), (wh, wy))) (lm_W ω.2.2 ad) (fun (r : Int32) (u : lm_S) => (¬ lp_wrA bk k o q i = nI 0 ∧ r = lp_wrA bk k o q i ∧ u = ((nI 0, (lp_wrA bk k o q i), T, P, R, L, B, Kd, lt, C), (ra, rb, rl, fa), (aa, su), (cp, cl, cf, ck, cm, ct), (le, tr, re), (bh, so, br, rs, ce), (wh, wy))) ∨ (∃ (kk s n kr m ki : Nat) (rows : Nat → lp_Row) (c : Nat → Int64), lp_Acc bk k o q i kk s n kr m ki rows c ∧ r = nI 1 ∧ ∃ ce', u = ((nI 0, nI 0, T, P, R, L, B, Kd, lt, C), (ra, rb, rl, fa), (aa, su), (cp, cl, cf, ck, cm, ct), (le, tr, re), (bh, so, br, rs, ce'), (wh, wy)) ∧ lm_BR (va_up bk kk (some (s, n, va_up rows kr (some (m, va_up c ki (lp_pv s v)))))) bh so br rs ce')) := by
  refine la_CI_of (by decide) [some (.ref (ad 0)), some (.int (k)), some (.int (o)), some (.int (q)), some (.int (i)), some (.long (v)), none] rfl rfl (Nat.le_of_ble_eq_true rfl) ?_
  intro κ K hret
  by_cases hw : lp_wrA bk k o q i = nI 0
  · obtain ⟨kk, s, n, kr, m, ki, rows, c, hacc⟩ := lp_Acc_of hB hw
    obtain ⟨rfl, hkk, rfl, hs, hbk, hn, rfl, hkr, hro, hm, rfl, hki⟩ := id hacc
    refine la_aload_n K dX5_put_0 rfl ?_
    refine la_iconst K dX5_put_1 la_ki_0 ?_
    refine lm_p_th K q827 dX5_put_2 ?_
    refine la_aload_n K dX5_put_5 rfl ?_
    refine la_aload_n K dX5_put_6 rfl ?_
    refine la_iload_n K dX5_put_7 rfl ?_
    refine la_iload_n K dX5_put_8 rfl ?_
    refine la_iload_n K dX5_put_9 rfl ?_
    refine la_iload K dX5_put_10 rfl ?_
    refine la_callVp K ok_X5_wrong q1100 (lm_wrong _ _ _ _ hB) 0 rfl rfl rfl rfl rfl (Nat.le_of_ble_eq_true rfl) ⟨Nat.le_of_ble_eq_true rfl, Nat.le_of_ble_eq_true rfl⟩ ⟨Nat.zero_le _, Nat.zero_le _⟩ dX5_put_12 ?_
    refine lm_p_S K q828 dX5_put_15 ?_
    rw [hw]
    refine la_aload_n K dX5_put_18 rfl ?_
    refine lm_g_S K q828 dX5_put_19 ?_
    refine la_top nI_0 ?_
    refine la_if_ge K 30 dX5_put_22 rfl (fun h22 => ?_) (fun h22 => absurd (by decide) h22)
    refine la_aload_n K dX5_put_30 rfl ?_
    refine lm_g_ce K q855 dX5_put_31 ?_
    refine la_bipush K dX5_put_34 la_kb_32 ?_
    refine la_iload_n K dX5_put_36 rfl ?_
    refine la_imulN K dX5_put_37 ?_
    refine la_bipush K dX5_put_38 la_kb_8 ?_
    refine la_iload_n K dX5_put_40 rfl ?_
    refine la_imulN K dX5_put_41 ?_
    refine la_iaddN K dX5_put_42 ?_
    refine la_iload K dX5_put_43 rfl ?_
    refine la_iaddN K dX5_put_45 ?_
    refine la_iload_n K dX5_put_46 rfl ?_
    refine la_if_neN K 58 dX5_put_47 rfl (by omega) (fun h47 => ?_) (fun h47 => ?_)
    · refine la_iload_n K dX5_put_58 rfl ?_
      refine la_iconst K dX5_put_59 la_ki_1 ?_
      refine la_icmp_neN K 71 dX5_put_60 rfl (by omega) (by omega) (fun h60 => ?_) (fun h60 => ?_)
      · refine la_iload_n K dX5_put_71 rfl ?_
        refine la_iconst K dX5_put_72 la_ki_2 ?_
        refine la_icmp_neN K 83 dX5_put_73 rfl (by omega) (by omega) (fun h73 => ?_) (fun h73 => ?_)
        · refine la_lload K dX5_put_83 rfl ?_
          refine lm_st_ce K (by omega) dX5_put_85 ?_
          refine la_iconst K dX5_put_86 la_ki_1 ?_
          exact hret _ _ _ _ dX5_put_87 (Or.inr ⟨kk, s, n, kr, m, ki, rows, c, hacc, rfl, _, rfl, by rw [show lp_pv s v = v from by unfold lp_pv; rw [if_neg h47, if_neg h60, if_neg h73]]; exact lm_BR_put hB hkk hbk hkr hro hki⟩)
        · refine la_lload K dX5_put_76 rfl ?_
          refine la_l2i K dX5_put_78 rfl ?_
          refine la_i2l K dX5_put_79 rfl ?_
          refine la_goto K 85 dX5_put_80 rfl ?_
          refine lm_st_ce K (by omega) dX5_put_85 ?_
          refine la_iconst K dX5_put_86 la_ki_1 ?_
          exact hret _ _ _ _ dX5_put_87 (Or.inr ⟨kk, s, n, kr, m, ki, rows, c, hacc, rfl, _, rfl, by rw [show lp_pv s v = v.toInt32.toInt64 from by unfold lp_pv; rw [if_neg h47, if_neg h60, if_pos h73]]; exact lm_BR_put hB hkk hbk hkr hro hki⟩)
      · refine la_lload K dX5_put_63 rfl ?_
        refine la_l2i K dX5_put_65 rfl ?_
        refine la_i2s K dX5_put_66 rfl ?_
        refine la_i2l K dX5_put_67 rfl ?_
        refine la_goto K 85 dX5_put_68 rfl ?_
        refine lm_st_ce K (by omega) dX5_put_85 ?_
        refine la_iconst K dX5_put_86 la_ki_1 ?_
        exact hret _ _ _ _ dX5_put_87 (Or.inr ⟨kk, s, n, kr, m, ki, rows, c, hacc, rfl, _, rfl, by rw [show lp_pv s v = v.toInt32.toInt16.toInt32.toInt64 from by unfold lp_pv; rw [if_neg h47, if_pos h60]]; exact lm_BR_put hB hkk hbk hkr hro hki⟩)
    · refine la_lload K dX5_put_50 rfl ?_
      refine la_l2i K dX5_put_52 rfl ?_
      refine la_i2b K dX5_put_53 rfl ?_
      refine la_i2l K dX5_put_54 rfl ?_
      refine la_goto K 85 dX5_put_55 rfl ?_
      refine lm_st_ce K (by omega) dX5_put_85 ?_
      refine la_iconst K dX5_put_86 la_ki_1 ?_
      exact hret _ _ _ _ dX5_put_87 (Or.inr ⟨kk, s, n, kr, m, ki, rows, c, hacc, rfl, _, rfl, by rw [show lp_pv s v = v.toInt32.toInt8.toInt32.toInt64 from by unfold lp_pv; rw [if_pos h47]]; exact lm_BR_put hB hkk hbk hkr hro hki⟩)
  · skip
    refine la_aload_n K dX5_put_0 rfl ?_
    refine la_iconst K dX5_put_1 la_ki_0 ?_
    refine lm_p_th K q827 dX5_put_2 ?_
    refine la_aload_n K dX5_put_5 rfl ?_
    refine la_aload_n K dX5_put_6 rfl ?_
    refine la_iload_n K dX5_put_7 rfl ?_
    refine la_iload_n K dX5_put_8 rfl ?_
    refine la_iload_n K dX5_put_9 rfl ?_
    refine la_iload K dX5_put_10 rfl ?_
    refine la_callVp K ok_X5_wrong q1100 (lm_wrong _ _ _ _ hB) 0 rfl rfl rfl rfl rfl (Nat.le_of_ble_eq_true rfl) ⟨Nat.le_of_ble_eq_true rfl, Nat.le_of_ble_eq_true rfl⟩ ⟨Nat.zero_le _, Nat.zero_le _⟩ dX5_put_12 ?_
    refine lm_p_S K q828 dX5_put_15 ?_
    refine la_aload_n K dX5_put_18 rfl ?_
    refine lm_g_S K q828 dX5_put_19 ?_
    refine la_if_ge K 30 dX5_put_22 rfl (fun h22 => absurd h22 (lp_wrA_neg hw)) (fun h22 => ?_)
    refine la_aload_n K dX5_put_25 rfl ?_
    refine lm_g_S K q828 dX5_put_26 ?_
    exact hret _ _ _ _ dX5_put_29 (Or.inl ⟨hw, rfl, rfl⟩)
set_option maxHeartbeats 4000000 in
theorem lm_item (k o q i : Int32) (hB : lm_BR bk bh so br rs ce) : la_CL ω yX5_item cX5_item 5 (some .long) (la_rm 2) [.ref (ad 0), .int k, .int o, .int q, .int i] (lm_W ω.2.2 ad ((th, S, T, P, R, L, B, Kd, lt, C), (ra, rb, rl, fa), (aa, su), (cp, cl, cf, ck, cm, ct), (le, tr, re), (bh, so, br, rs, ce), (wh, wy))) (lm_W ω.2.2 ad) (fun (r : Int64) (u : lm_S) => (¬ lp_wrA bk k o q i = nI 0 ∧ r = lN 0 ∧ u = ((nI 0, (lp_wrA bk k o q i), T, P, R, L, B, Kd, lt, C), (ra, rb, rl, fa), (aa, su), (cp, cl, cf, ck, cm, ct), (le, tr, re), (bh, so, br, rs, ce), (wh, wy))) ∨ (∃ (kk s n kr m ki : Nat) (rows : Nat → lp_Row) (c : Nat → Int64), lp_Acc bk k o q i kk s n kr m ki rows c ∧ r = c ki ∧ u = ((nI 0, nI 0, T, P, R, L, B, Kd, lt, C), (ra, rb, rl, fa), (aa, su), (cp, cl, cf, ck, cm, ct), (le, tr, re), (bh, so, br, rs, ce), (wh, wy)))) := by
  refine la_CL_of (by decide) [some (.ref (ad 0)), some (.int (k)), some (.int (o)), some (.int (q)), some (.int (i))] rfl rfl (Nat.le_of_ble_eq_true rfl) ?_
  intro κ K hret
  by_cases hw : lp_wrA bk k o q i = nI 0
  · obtain ⟨kk, s, n, kr, m, ki, rows, c, hacc⟩ := lp_Acc_of hB hw
    obtain ⟨rfl, hkk, rfl, hs, hbk, hn, rfl, hkr, hro, hm, rfl, hki⟩ := id hacc
    refine la_aload_n K dX5_item_0 rfl ?_
    refine la_iconst K dX5_item_1 la_ki_0 ?_
    refine lm_p_th K q827 dX5_item_2 ?_
    refine la_aload_n K dX5_item_5 rfl ?_
    refine la_aload_n K dX5_item_6 rfl ?_
    refine la_iload_n K dX5_item_7 rfl ?_
    refine la_iload_n K dX5_item_8 rfl ?_
    refine la_iload_n K dX5_item_9 rfl ?_
    refine la_iload K dX5_item_10 rfl ?_
    refine la_callVp K ok_X5_wrong q1100 (lm_wrong _ _ _ _ hB) 0 rfl rfl rfl rfl rfl (Nat.le_of_ble_eq_true rfl) ⟨Nat.le_of_ble_eq_true rfl, Nat.le_of_ble_eq_true rfl⟩ ⟨Nat.zero_le _, Nat.zero_le _⟩ dX5_item_12 ?_
    refine lm_p_S K q828 dX5_item_15 ?_
    rw [hw]
    refine la_aload_n K dX5_item_18 rfl ?_
    refine lm_g_S K q828 dX5_item_19 ?_
    refine la_top nI_0 ?_
    refine la_if_ge K 29 dX5_item_22 rfl (fun h22 => ?_) (fun h22 => absurd (by decide) h22)
    refine la_aload_n K dX5_item_29 rfl ?_
    refine lm_g_ce K q855 dX5_item_30 ?_
    refine la_bipush K dX5_item_33 la_kb_32 ?_
    refine la_iload_n K dX5_item_35 rfl ?_
    refine la_imulN K dX5_item_36 ?_
    refine la_bipush K dX5_item_37 la_kb_8 ?_
    refine la_iload_n K dX5_item_39 rfl ?_
    refine la_imulN K dX5_item_40 ?_
    refine la_iaddN K dX5_item_41 ?_
    refine la_iload K dX5_item_42 rfl ?_
    refine la_iaddN K dX5_item_44 ?_
    refine lm_ld_ce K (by omega) dX5_item_45 ?_
    exact hret _ _ _ _ dX5_item_46 (Or.inr ⟨kk, s, n, kr, m, ki, rows, c, hacc, (((hB kk hkk).2 s n rows hbk).2.2.2.2.2 kr hkr).2 m c hro |>.2.2 ki hki, rfl⟩)
  · skip
    refine la_aload_n K dX5_item_0 rfl ?_
    refine la_iconst K dX5_item_1 la_ki_0 ?_
    refine lm_p_th K q827 dX5_item_2 ?_
    refine la_aload_n K dX5_item_5 rfl ?_
    refine la_aload_n K dX5_item_6 rfl ?_
    refine la_iload_n K dX5_item_7 rfl ?_
    refine la_iload_n K dX5_item_8 rfl ?_
    refine la_iload_n K dX5_item_9 rfl ?_
    refine la_iload K dX5_item_10 rfl ?_
    refine la_callVp K ok_X5_wrong q1100 (lm_wrong _ _ _ _ hB) 0 rfl rfl rfl rfl rfl (Nat.le_of_ble_eq_true rfl) ⟨Nat.le_of_ble_eq_true rfl, Nat.le_of_ble_eq_true rfl⟩ ⟨Nat.zero_le _, Nat.zero_le _⟩ dX5_item_12 ?_
    refine lm_p_S K q828 dX5_item_15 ?_
    refine la_aload_n K dX5_item_18 rfl ?_
    refine lm_g_S K q828 dX5_item_19 ?_
    refine la_if_ge K 29 dX5_item_22 rfl (fun h22 => absurd h22 (lp_wrA_neg hw)) (fun h22 => ?_)
    refine la_lconst K dX5_item_25 la_kn_0 ?_
    refine la_goto K 46 dX5_item_26 rfl ?_
    exact hret _ _ _ _ dX5_item_46 (Or.inl ⟨hw, rfl, rfl⟩)
end LM7
