/-! THE LAW, cases [20, 21, 22, 23, 24, 25]. Printed by law1.py. -/
section LLD
variable {ω : la_O} {κ : la_K} {b N i : Nat} {xs : Nat → Int32} {ad am : Nat → Nat} {n : Nat × Nat} {bk : lp_Bk}
variable {th S lt : Int32} {T : Int64} {P R L B Kd C : Nat} {ra rb rl fa aa su cp cl cf ck cm le tr re bh so br wh wy : Nat → Nat} {ct rs : Nat → Int32} {ce : Nat → Int64}
variable {B' Nw U : Nat} {fr to ln aw su' ca we fa' sb tb wk nw wo k0 k1 k2 k3 k4 k5 : Nat → Nat} {RE : Nat → Nat → Nat} {BF : Nat → Option Nat} {BK : va_W}
theorem ll_c20 (hH : ll_H ω κ b N xs) (h : lj ω.2.2 bk ((th, S, T, P, R, L, B, Kd, lt, C), (ra, rb, rl, fa), (aa, su), (cp, cl, cf, ck, cm, ct), (le, tr, re), (bh, so, br, rs, ce), (wh, wy)) ((P, R, T, S, L, B', Nw, U, C, Kd), (fr, to, ln, aw), (su', ca, we, fa', sb, tb), (wk, nw, wo), (k0, k1, k2, k3, k4, k5), RE, BF, BK)) (hi : i + 7 ≤ N) (hn : n.1 + 36 ≤ 603072 ∧ n.2 + 2880 ≤ 7262314) (next : ll_Next ω κ b i ad am n) : la_At ω κ n 664 [some (.ref b), some (.ref (ad 0)), some (.ref (am 0)), some (.int (nI i))] [] (lb_W ω.2.2 ad ((P, R, T, S, L, B', Nw, U, C, Kd), (fr, to, ln, aw), (su', ca, we, fa', sb, tb), (wk, nw, wo), (k0, k1, k2, k3, k4, k5), RE, BF, BK) ++ lm_W ω.2.2 am ((th, S, T, P, R, L, B, Kd, lt, C), (ra, rb, rl, fa), (aa, su), (cp, cl, cf, ck, cm, ct), (le, tr, re), (bh, so, br, rs, ce), (wh, wy))) := by
  have K := hH.1
  have hz := hH.2.1
  have hAs := hH.2.2.1
  have hoff := hH.2.2.2.1
  have hN : N ≤ 448 := hH.2.2.2.2.2.2.2
  have hjm := h.2.2.2.2.2.1
  have hjc := h.2.2.2.2.2.2
  have hbm := h.2.2.2.1
  have hbc := h.2.2.2.2.1
  have hb : lb_Jx P R L B' Nw U C Kd fr to ln aw su' ca we fa' sb tb := hjc
  have hm : lm_Jx P R L B C Kd lt ra rb rl fa aa su cp cl cf ck cm ct le tr := hjm
  have hP : P ≤ 6 := hb.1
  have hR15 : R ≤ 15 := hb.2.1
  have hroC : ∀ k, k < R → fr k < P ∧ to k < P ∧ ¬ fr k = to k ∧ ln k ≤ 100 := fun k hk => ⟨(hb.2.2.1 k hk).1, (hb.2.2.1 k hk).2.1, (hb.2.2.1 k hk).2.2.1, (hb.2.2.1 k hk).2.2.2.2⟩
  have hL3 : L ≤ 3 := hb.2.2.2.1
  have hC12 : C ≤ 12 := hb.2.2.2.2.1
  have hKd3 : Kd ≤ 3 := hb.2.2.2.2.2.1
  have hd6 : 1 ≤ L → ∀ a b, a < P → b < P → aw (6 * a + b) ≤ 6400 := fun hL => (hb.2.2.2.2.2.2.2.2 hL).2.2.2.2.1
  have hB1 : 1 ≤ L → lp_sd P L B' := fun hL => (hb.2.2.2.2.2.2.2.2 hL).1
  refine la_aload_n (k := 1) K dL_law_664 rfl ?_
  refine ll_arg hH 1 (by decide +kernel) dL_law_665 dL_law_666 dL_law_667 dL_law_668 dL_law_669 (by omega) ?_
  refine ll_arg hH 2 (by decide +kernel) dL_law_670 dL_law_671 dL_law_672 dL_law_673 dL_law_674 (by omega) ?_
  refine ll_arg hH 3 (by decide +kernel) dL_law_675 dL_law_676 dL_law_677 dL_law_678 dL_law_679 (by omega) ?_
  refine lt_atF K (lb_book hoff hbc ((xs (i + 1))) ((xs (i + 2))) ((xs (i + 3)))) lt_Zs_b (by decide) (lt_codeW K q501) (lt_invV (k := 3) (As := [.int (xs (i + 1)), .int (xs (i + 2)), .int (xs (i + 3))]) (rest := []) K (lt_sigW K q501) q498 q499 q500 (by decide +kernel) 0 rfl rfl rfl dL_law_680) dL_law_680 rfl (Nat.zero_le _) ⟨Nat.le_of_ble_eq_true rfl, Nat.le_of_ble_eq_true rfl⟩ ⟨by show n.1 + 4 ≤ 603072; omega, by show n.2 + 61 ≤ 7262314; omega⟩ (lt_Zs_at hz hAs) (fun v u hu => ?_) (fun X u hu => ?_)
  case refine_2 =>
    exfalso
    rcases hu with ⟨-, e, -⟩ | ⟨-, -, -, e, -⟩ | ⟨kk, s, M, -, -, -, -, -, -, e, -⟩ <;> cases e
  have hv : ∃ r, v = some (Value.int r) := by
    rcases hu with ⟨-, e, -⟩ | ⟨-, -, -, e, -⟩ | ⟨kk, s, M, -, -, -, -, -, -, e, -⟩ <;> (cases e; exact ⟨_, rfl⟩)
  obtain ⟨r, rfl⟩ := hv
  refine la_aload_n (k := 2) K dL_law_683 rfl ?_
  refine ll_arg hH 1 (by decide +kernel) dL_law_684 dL_law_685 dL_law_686 dL_law_687 dL_law_688 (by omega) ?_
  refine ll_arg hH 2 (by decide +kernel) dL_law_689 dL_law_690 dL_law_691 dL_law_692 dL_law_693 (by omega) ?_
  refine ll_arg hH 3 (by decide +kernel) dL_law_694 dL_law_695 dL_law_696 dL_law_697 dL_law_698 (by omega) ?_
  refine la_callViG K ok_X5_book q1084 (lm_book ((xs (i + 1))) ((xs (i + 2))) ((xs (i + 3))) hbm) 0 rfl rfl rfl rfl rfl (Nat.le_of_ble_eq_true rfl) ⟨Nat.le_of_ble_eq_true rfl, Nat.le_of_ble_eq_true rfl⟩ ⟨by show n.1 + 4 + 0 ≤ 603072; omega, by show n.2 + 61 + 0 ≤ 7262314; omega⟩ dL_law_699 (fun r' u' hu' => ?_)
  have key : r = r' ∧ ∃ bk', lj ω.2.2 bk' u' u := by
    rcases hu with ⟨g1, e1, rfl⟩ | ⟨g1, g2, g3, e1, rfl⟩ | ⟨kk, s, M, ek, hk, es, hs, eM, hM, e1, BF2, BK2, rfl, hB2⟩
    · rcases hu' with ⟨f1, e2, rfl⟩ | ⟨f1, f2, f3, e2, rfl⟩ | ⟨kk2, s2, M2, ek2, hk2, es2, hs2, eM2, hM2, e2, bh2, so2, br2, rs2, rfl, hB3⟩
      · exact ⟨(lt_iv e1).trans e2.symm, bk, lj_S h rfl⟩
      · exfalso
        rcases g1 with g | g | g
        · exact g f1
        · exact g f2
        · exact g (ll_neg f3 (by omega))
      · exfalso
        rcases g1 with g | g | g
        · exact g (ll_inI ek2 (Nat.zero_le _) (by omega) (by omega))
        · exact g (ll_inI es2 (Nat.zero_le _) hs2 (by omega))
        · exact g (ll_le eM2 hM2 (by omega))
    · rcases hu' with ⟨f1, e2, rfl⟩ | ⟨f1, f2, f3, e2, rfl⟩ | ⟨kk2, s2, M2, ek2, hk2, es2, hs2, eM2, hM2, e2, bh2, so2, br2, rs2, rfl, hB3⟩
      · exfalso
        rcases f1 with g | g | g
        · exact g g1
        · exact g g2
        · exact g (ll_neg g3 (by omega))
      · exact ⟨(lt_iv e1).trans e2.symm, bk, lj_S h rfl⟩
      · exact absurd g3 (ll_nn eM2 hM2 (by omega))
    · rcases hu' with ⟨f1, e2, rfl⟩ | ⟨f1, f2, f3, e2, rfl⟩ | ⟨kk2, s2, M2, ek2, hk2, es2, hs2, eM2, hM2, e2, bh2, so2, br2, rs2, rfl, hB3⟩
      · exfalso
        rcases f1 with g | g | g
        · exact g (ll_inI ek (Nat.zero_le _) (by omega) (by omega))
        · exact g (ll_inI es (Nat.zero_le _) hs (by omega))
        · exact g (ll_le eM hM (by omega))
      · exact absurd f3 (ll_nn eM hM (by omega))
      · have a1 : kk2 = kk := ll_nI ek ek2 (by omega) (by omega)
        have a2 : s2 = s := ll_nI es es2 (by omega) (by omega)
        have a3 : M2 = M := ll_nI eM eM2 (by omega) (by omega)
        subst a1 a2 a3
        exact ⟨(lt_iv e1).trans e2.symm, _, lj_bk h nI_0.symm hB3 hB2⟩
  obtain ⟨e, bk', hj⟩ := key
  refine la_icmp_eq K 1005 dL_law_702 rfl (fun _ => ?_) (fun z => absurd e z)
  exact next _ bk' _ _ (by show n.1 + 4 + 0 ≤ n.1 + 36; omega) (by show n.2 + 61 + 0 ≤ n.2 + 2880; omega) hj
theorem ll_c21 (hH : ll_H ω κ b N xs) (h : lj ω.2.2 bk ((th, S, T, P, R, L, B, Kd, lt, C), (ra, rb, rl, fa), (aa, su), (cp, cl, cf, ck, cm, ct), (le, tr, re), (bh, so, br, rs, ce), (wh, wy)) ((P, R, T, S, L, B', Nw, U, C, Kd), (fr, to, ln, aw), (su', ca, we, fa', sb, tb), (wk, nw, wo), (k0, k1, k2, k3, k4, k5), RE, BF, BK)) (hi : i + 7 ≤ N) (hn : n.1 + 36 ≤ 603072 ∧ n.2 + 2880 ≤ 7262314) (next : ll_Next ω κ b i ad am n) : la_At ω κ n 707 [some (.ref b), some (.ref (ad 0)), some (.ref (am 0)), some (.int (nI i))] [] (lb_W ω.2.2 ad ((P, R, T, S, L, B', Nw, U, C, Kd), (fr, to, ln, aw), (su', ca, we, fa', sb, tb), (wk, nw, wo), (k0, k1, k2, k3, k4, k5), RE, BF, BK) ++ lm_W ω.2.2 am ((th, S, T, P, R, L, B, Kd, lt, C), (ra, rb, rl, fa), (aa, su), (cp, cl, cf, ck, cm, ct), (le, tr, re), (bh, so, br, rs, ce), (wh, wy))) := by
  have K := hH.1
  have hz := hH.2.1
  have hAs := hH.2.2.1
  have hoff := hH.2.2.2.1
  have hN : N ≤ 448 := hH.2.2.2.2.2.2.2
  have hjm := h.2.2.2.2.2.1
  have hjc := h.2.2.2.2.2.2
  have hbm := h.2.2.2.1
  have hbc := h.2.2.2.2.1
  have hb : lb_Jx P R L B' Nw U C Kd fr to ln aw su' ca we fa' sb tb := hjc
  have hm : lm_Jx P R L B C Kd lt ra rb rl fa aa su cp cl cf ck cm ct le tr := hjm
  have hP : P ≤ 6 := hb.1
  have hM4 : ∀ {kk s M : Nat} {rows : Nat → lp_Row}, kk < 3 → bk kk = some (s, M, rows) → M ≤ 4 := fun {kk s M rows} hk e => ((hbm kk hk).2 s M rows e).2.2.2.2.1
  have hR15 : R ≤ 15 := hb.2.1
  have hroC : ∀ k, k < R → fr k < P ∧ to k < P ∧ ¬ fr k = to k ∧ ln k ≤ 100 := fun k hk => ⟨(hb.2.2.1 k hk).1, (hb.2.2.1 k hk).2.1, (hb.2.2.1 k hk).2.2.1, (hb.2.2.1 k hk).2.2.2.2⟩
  have hL3 : L ≤ 3 := hb.2.2.2.1
  have hC12 : C ≤ 12 := hb.2.2.2.2.1
  have hKd3 : Kd ≤ 3 := hb.2.2.2.2.2.1
  have hd6 : 1 ≤ L → ∀ a b, a < P → b < P → aw (6 * a + b) ≤ 6400 := fun hL => (hb.2.2.2.2.2.2.2.2 hL).2.2.2.2.1
  have hB1 : 1 ≤ L → lp_sd P L B' := fun hL => (hb.2.2.2.2.2.2.2.2 hL).1
  refine la_aload_n (k := 1) K dL_law_707 rfl ?_
  refine ll_arg hH 1 (by decide +kernel) dL_law_708 dL_law_709 dL_law_710 dL_law_711 dL_law_712 (by omega) ?_
  refine ll_arg hH 2 (by decide +kernel) dL_law_713 dL_law_714 dL_law_715 dL_law_716 dL_law_717 (by omega) ?_
  refine ll_arg hH 3 (by decide +kernel) dL_law_718 dL_law_719 dL_law_720 dL_law_721 dL_law_722 (by omega) ?_
  refine lt_atF K (lb_row hoff hbc ((xs (i + 1))) ((xs (i + 2))) ((xs (i + 3)))) lt_Zs_b (by decide) (lt_codeW K q658) (lt_invV (k := 3) (As := [.int (xs (i + 1)), .int (xs (i + 2)), .int (xs (i + 3))]) (rest := []) K (lt_sigW K q658) q655 q656 q657 (by decide +kernel) 0 rfl rfl rfl dL_law_723) dL_law_723 rfl (Nat.zero_le _) ⟨Nat.le_of_ble_eq_true rfl, Nat.le_of_ble_eq_true rfl⟩ ⟨by show n.1 + 4 ≤ 603072; omega, by show n.2 + 300 ≤ 7262314; omega⟩ (lt_Zs_at hz hAs) (fun v u hu => ?_) (fun X u hu => ?_)
  case refine_2 =>
    exfalso
    rcases hu with ⟨-, e, -⟩ | ⟨kk, -, -, -, (⟨-, e, -⟩ | ⟨s, M, rows, -, (⟨-, e, -⟩ | ⟨-, -, e, -⟩ | ⟨kq, kn, -, -, -, -, e, -⟩)⟩)⟩ <;> cases e
  have hv : ∃ r, v = some (Value.int r) := by
    rcases hu with ⟨-, e, -⟩ | ⟨kk, -, -, -, (⟨-, e, -⟩ | ⟨s, M, rows, -, (⟨-, e, -⟩ | ⟨-, -, e, -⟩ | ⟨kq, kn, -, -, -, -, e, -⟩)⟩)⟩ <;> (cases e; exact ⟨_, rfl⟩)
  obtain ⟨r, rfl⟩ := hv
  refine la_aload_n (k := 2) K dL_law_726 rfl ?_
  refine ll_arg hH 1 (by decide +kernel) dL_law_727 dL_law_728 dL_law_729 dL_law_730 dL_law_731 (by omega) ?_
  refine ll_arg hH 2 (by decide +kernel) dL_law_732 dL_law_733 dL_law_734 dL_law_735 dL_law_736 (by omega) ?_
  refine ll_arg hH 3 (by decide +kernel) dL_law_737 dL_law_738 dL_law_739 dL_law_740 dL_law_741 (by omega) ?_
  refine la_callViG K ok_X5_row q1092 (lm_row ((xs (i + 1))) ((xs (i + 2))) ((xs (i + 3))) hbm) 0 rfl rfl rfl rfl rfl (Nat.le_of_ble_eq_true rfl) ⟨Nat.le_of_ble_eq_true rfl, Nat.le_of_ble_eq_true rfl⟩ ⟨by show n.1 + 4 + 0 ≤ 603072; omega, by show n.2 + 300 + 0 ≤ 7262314; omega⟩ dL_law_742 (fun r' u' hu' => ?_)
  have key : r = r' ∧ ∃ bk', lj ω.2.2 bk' u' u := by
    rcases hu with ⟨g1, e1, rfl⟩ | ⟨kk, ek, hk, hx, hu⟩
    · rcases hu' with ⟨f1, e2, rfl⟩ | ⟨kk2, ek2, hk2, hx2, -⟩
      · exact ⟨(lt_iv e1).trans e2.symm, bk, lj_S h rfl⟩
      · exfalso
        rcases g1 with g | g
        · exact g (ll_inI ek2 (Nat.zero_le _) (by omega) (by omega))
        · exact g hx2
    · rcases hu' with ⟨f1, e2, rfl⟩ | ⟨kk2, ek2, hk2, hx2, hu'⟩
      · exfalso
        rcases f1 with g | g
        · exact g (ll_inI ek (Nat.zero_le _) (by omega) (by omega))
        · exact g hx
      · have a1 : kk2 = kk := ll_nI ek ek2 (by omega) (by omega)
        subst a1
        rcases hu with ⟨eb, e1, rfl⟩ | ⟨s, M, rows, eb, hu⟩
        · rcases hu' with ⟨eb2, e2, rfl⟩ | ⟨s2, M2, rows2, eb2, -⟩
          · exact ⟨(lt_iv e1).trans e2.symm, bk, lj_S h rfl⟩
          · rw [eb] at eb2
            cases eb2
        · rcases hu' with ⟨eb2, e2, rfl⟩ | ⟨s2, M2, rows2, eb2, hu'⟩
          · rw [eb] at eb2
            cases eb2
          · rw [eb] at eb2
            cases eb2
            rcases hu with ⟨g, e1, rfl⟩ | ⟨g, g3, e1, rfl⟩ | ⟨kq, kn, eq, hq, en, hn2, e1, BK2, rfl, hB2⟩
            · rcases hu' with ⟨f, e2, rfl⟩ | ⟨f, f3, e2, rfl⟩ | ⟨kq2, kn2, eq2, hq2, en2, hn3, e2, rs2, ce2, rfl, hB3⟩
              · exact ⟨(lt_iv e1).trans e2.symm, bk, lj_S h rfl⟩
              · exact absurd f g
              · exact absurd (ll_in2 eq2 hq2 (hM4 hk eb)) g
            · rcases hu' with ⟨f, e2, rfl⟩ | ⟨f, f3, e2, rfl⟩ | ⟨kq2, kn2, eq2, hq2, en2, hn3, e2, rs2, ce2, rfl, hB3⟩
              · exact absurd g f
              · exact ⟨(lt_iv e1).trans e2.symm, bk, lj_S h rfl⟩
              · exact absurd g3 (ll_nn en2 hn3 (by omega))
            · rcases hu' with ⟨f, e2, rfl⟩ | ⟨f, f3, e2, rfl⟩ | ⟨kq2, kn2, eq2, hq2, en2, hn3, e2, rs2, ce2, rfl, hB3⟩
              · exact absurd (ll_in2 eq hq (hM4 hk eb)) f
              · exact absurd f3 (ll_nn en hn2 (by omega))
              · have hM := hM4 hk eb
                have a1 : kq2 = kq := ll_nI eq eq2 (by omega) (by omega)
                have a2 : kn2 = kn := ll_nI en en2 (by omega) (by omega)
                subst a1 a2
                exact ⟨(lt_iv e1).trans e2.symm, _, lj_bk h nI_0.symm hB3 hB2⟩
  obtain ⟨e, bk', hj⟩ := key
  refine la_icmp_eq K 1005 dL_law_745 rfl (fun _ => ?_) (fun z => absurd e z)
  exact next _ bk' _ _ (by show n.1 + 4 + 0 ≤ n.1 + 36; omega) (by show n.2 + 300 + 0 ≤ n.2 + 2880; omega) hj
theorem ll_c22 (hH : ll_H ω κ b N xs) (h : lj ω.2.2 bk ((th, S, T, P, R, L, B, Kd, lt, C), (ra, rb, rl, fa), (aa, su), (cp, cl, cf, ck, cm, ct), (le, tr, re), (bh, so, br, rs, ce), (wh, wy)) ((P, R, T, S, L, B', Nw, U, C, Kd), (fr, to, ln, aw), (su', ca, we, fa', sb, tb), (wk, nw, wo), (k0, k1, k2, k3, k4, k5), RE, BF, BK)) (hi : i + 7 ≤ N) (hn : n.1 + 36 ≤ 603072 ∧ n.2 + 2880 ≤ 7262314) (next : ll_Next ω κ b i ad am n) : la_At ω κ n 750 [some (.ref b), some (.ref (ad 0)), some (.ref (am 0)), some (.int (nI i))] [] (lb_W ω.2.2 ad ((P, R, T, S, L, B', Nw, U, C, Kd), (fr, to, ln, aw), (su', ca, we, fa', sb, tb), (wk, nw, wo), (k0, k1, k2, k3, k4, k5), RE, BF, BK) ++ lm_W ω.2.2 am ((th, S, T, P, R, L, B, Kd, lt, C), (ra, rb, rl, fa), (aa, su), (cp, cl, cf, ck, cm, ct), (le, tr, re), (bh, so, br, rs, ce), (wh, wy))) := by
  have K := hH.1
  have hz := hH.2.1
  have hAs := hH.2.2.1
  have hoff := hH.2.2.2.1
  have hN : N ≤ 448 := hH.2.2.2.2.2.2.2
  have hjm := h.2.2.2.2.2.1
  have hjc := h.2.2.2.2.2.2
  have hbm := h.2.2.2.1
  have hbc := h.2.2.2.2.1
  have hb : lb_Jx P R L B' Nw U C Kd fr to ln aw su' ca we fa' sb tb := hjc
  have hm : lm_Jx P R L B C Kd lt ra rb rl fa aa su cp cl cf ck cm ct le tr := hjm
  have hP : P ≤ 6 := hb.1
  have hR15 : R ≤ 15 := hb.2.1
  have hroC : ∀ k, k < R → fr k < P ∧ to k < P ∧ ¬ fr k = to k ∧ ln k ≤ 100 := fun k hk => ⟨(hb.2.2.1 k hk).1, (hb.2.2.1 k hk).2.1, (hb.2.2.1 k hk).2.2.1, (hb.2.2.1 k hk).2.2.2.2⟩
  have hL3 : L ≤ 3 := hb.2.2.2.1
  have hC12 : C ≤ 12 := hb.2.2.2.2.1
  have hKd3 : Kd ≤ 3 := hb.2.2.2.2.2.1
  have hd6 : 1 ≤ L → ∀ a b, a < P → b < P → aw (6 * a + b) ≤ 6400 := fun hL => (hb.2.2.2.2.2.2.2.2 hL).2.2.2.2.1
  have hB1 : 1 ≤ L → lp_sd P L B' := fun hL => (hb.2.2.2.2.2.2.2.2 hL).1
  refine la_aload_n (k := 1) K dL_law_750 rfl ?_
  refine ll_arg hH 1 (by decide +kernel) dL_law_751 dL_law_752 dL_law_753 dL_law_754 dL_law_755 (by omega) ?_
  refine ll_arg hH 2 (by decide +kernel) dL_law_756 dL_law_757 dL_law_758 dL_law_759 dL_law_760 (by omega) ?_
  refine ll_arg hH 3 (by decide +kernel) dL_law_761 dL_law_762 dL_law_763 dL_law_764 dL_law_765 (by omega) ?_
  refine ll_arg hH 4 (by decide +kernel) dL_law_766 dL_law_767 dL_law_768 dL_law_769 dL_law_770 (by omega) ?_
  refine ll_arg hH 5 (by decide +kernel) dL_law_771 dL_law_772 dL_law_773 dL_law_774 dL_law_775 (by omega) ?_
  refine la_i2l K dL_law_776 rfl ?_
  refine la_bipush (v := nI 32) K dL_law_777 (by decide +kernel) ?_
  refine la_lshl K dL_law_779 rfl ?_
  refine ll_argB hH 6 (by decide +kernel) dL_law_780 dL_law_781 dL_law_782 dL_law_784 dL_law_785 (by omega) ?_
  refine la_i2l K dL_law_786 rfl ?_
  refine la_ldc2 K q1128 rfl dL_law_787 ?_
  refine la_land K dL_law_790 ?_
  refine la_lor K dL_law_791 ?_
  refine lt_atF K (lb_put hoff hbc ((xs (i + 1))) ((xs (i + 2))) ((xs (i + 3))) ((xs (i + 4))) ((((xs (i + 5)).toInt64 <<< ((nI 32).toInt64 &&& 63)) ||| ((xs (i + 6)).toInt64 &&& 4294967295)))) lt_Zs_b (by decide) (lt_codeW K q723) (lt_invV (k := 5) (As := [.int (xs (i + 1)), .int (xs (i + 2)), .int (xs (i + 3)), .int (xs (i + 4)), .long (((xs (i + 5)).toInt64 <<< ((nI 32).toInt64 &&& 63)) ||| ((xs (i + 6)).toInt64 &&& 4294967295))]) (rest := []) K (lt_sigW K q723) q720 q721 q722 (by decide +kernel) 0 rfl rfl rfl dL_law_792) dL_law_792 rfl (Nat.zero_le _) ⟨Nat.le_of_ble_eq_true rfl, Nat.le_of_ble_eq_true rfl⟩ ⟨by show n.1 + 3 ≤ 603072; omega, by show n.2 + 1010 ≤ 7262314; omega⟩ (lt_Zs_at hz hAs) (fun v u hu => ?_) (fun X u hu => ?_)
  case refine_2 =>
    exfalso
    rcases hu with ⟨-, e, -⟩ | ⟨kk, s, M, kr, m, ki, rows, c, -, e, -⟩ <;> cases e
  have hv : ∃ r, v = some (Value.int r) := by
    rcases hu with ⟨-, e, -⟩ | ⟨kk, s, M, kr, m, ki, rows, c, -, e, -⟩ <;> (cases e; exact ⟨_, rfl⟩)
  obtain ⟨r, rfl⟩ := hv
  refine la_aload_n (k := 2) K dL_law_795 rfl ?_
  refine ll_arg hH 1 (by decide +kernel) dL_law_796 dL_law_797 dL_law_798 dL_law_799 dL_law_800 (by omega) ?_
  refine ll_arg hH 2 (by decide +kernel) dL_law_801 dL_law_802 dL_law_803 dL_law_804 dL_law_805 (by omega) ?_
  refine ll_arg hH 3 (by decide +kernel) dL_law_806 dL_law_807 dL_law_808 dL_law_809 dL_law_810 (by omega) ?_
  refine ll_arg hH 4 (by decide +kernel) dL_law_811 dL_law_812 dL_law_813 dL_law_814 dL_law_815 (by omega) ?_
  refine ll_arg hH 5 (by decide +kernel) dL_law_816 dL_law_817 dL_law_818 dL_law_819 dL_law_820 (by omega) ?_
  refine la_i2l K dL_law_821 rfl ?_
  refine la_bipush (v := nI 32) K dL_law_822 (by decide +kernel) ?_
  refine la_lshl K dL_law_824 rfl ?_
  refine ll_argB hH 6 (by decide +kernel) dL_law_825 dL_law_826 dL_law_827 dL_law_829 dL_law_830 (by omega) ?_
  refine la_i2l K dL_law_831 rfl ?_
  refine la_ldc2 K q1128 rfl dL_law_832 ?_
  refine la_land K dL_law_835 ?_
  refine la_lor K dL_law_836 ?_
  refine la_callViG K ok_X5_put q1096 (lm_put ((xs (i + 1))) ((xs (i + 2))) ((xs (i + 3))) ((xs (i + 4))) ((((xs (i + 5)).toInt64 <<< ((nI 32).toInt64 &&& 63)) ||| ((xs (i + 6)).toInt64 &&& 4294967295))) hbm) 0 rfl rfl rfl rfl rfl (Nat.le_of_ble_eq_true rfl) ⟨Nat.le_of_ble_eq_true rfl, Nat.le_of_ble_eq_true rfl⟩ ⟨by show n.1 + 3 + 0 ≤ 603072; omega, by show n.2 + 1010 + 0 ≤ 7262314; omega⟩ dL_law_837 (fun r' u' hu' => ?_)
  have key : r = r' ∧ ∃ bk', lj ω.2.2 bk' u' u := by
    rcases hu with ⟨g, e1, rfl⟩ | ⟨kk, s, M, kr, m, ki, rows, c, hA, e1, BK2, rfl, hB2⟩
    · rcases hu' with ⟨g2, e2, rfl⟩ | ⟨kk2, s2, M2, kr2, m2, ki2, rows2, c2, hA2, e2, ce2, rfl, hB3⟩
      · exact ⟨(lt_iv e1).trans e2.symm, bk, lj_S h rfl⟩
      · exact absurd (lp_wrA_Acc hA2) g
    · rcases hu' with ⟨g2, e2, rfl⟩ | ⟨kk2, s2, M2, kr2, m2, ki2, rows2, c2, hA2, e2, ce2, rfl, hB3⟩
      · exact absurd (lp_wrA_Acc hA) g2
      · obtain ⟨rfl, rfl, rfl, rfl, rfl, rfl, rfl, rfl⟩ := lp_Acc_uniq hA hA2
        exact ⟨(lt_iv e1).trans e2.symm, _, lj_bk h nI_0.symm hB3 hB2⟩
  obtain ⟨e, bk', hj⟩ := key
  refine la_icmp_eq K 1005 dL_law_840 rfl (fun _ => ?_) (fun z => absurd e z)
  exact next _ bk' _ _ (by show n.1 + 3 + 0 ≤ n.1 + 36; omega) (by show n.2 + 1010 + 0 ≤ n.2 + 2880; omega) hj
theorem ll_c23 (hH : ll_H ω κ b N xs) (h : lj ω.2.2 bk ((th, S, T, P, R, L, B, Kd, lt, C), (ra, rb, rl, fa), (aa, su), (cp, cl, cf, ck, cm, ct), (le, tr, re), (bh, so, br, rs, ce), (wh, wy)) ((P, R, T, S, L, B', Nw, U, C, Kd), (fr, to, ln, aw), (su', ca, we, fa', sb, tb), (wk, nw, wo), (k0, k1, k2, k3, k4, k5), RE, BF, BK)) (hi : i + 7 ≤ N) (hn : n.1 + 36 ≤ 603072 ∧ n.2 + 2880 ≤ 7262314) (next : ll_Next ω κ b i ad am n) : la_At ω κ n 845 [some (.ref b), some (.ref (ad 0)), some (.ref (am 0)), some (.int (nI i))] [] (lb_W ω.2.2 ad ((P, R, T, S, L, B', Nw, U, C, Kd), (fr, to, ln, aw), (su', ca, we, fa', sb, tb), (wk, nw, wo), (k0, k1, k2, k3, k4, k5), RE, BF, BK) ++ lm_W ω.2.2 am ((th, S, T, P, R, L, B, Kd, lt, C), (ra, rb, rl, fa), (aa, su), (cp, cl, cf, ck, cm, ct), (le, tr, re), (bh, so, br, rs, ce), (wh, wy))) := by
  have K := hH.1
  have hz := hH.2.1
  have hAs := hH.2.2.1
  have hoff := hH.2.2.2.1
  have hN : N ≤ 448 := hH.2.2.2.2.2.2.2
  have hjm := h.2.2.2.2.2.1
  have hjc := h.2.2.2.2.2.2
  have hbm := h.2.2.2.1
  have hbc := h.2.2.2.2.1
  have hb : lb_Jx P R L B' Nw U C Kd fr to ln aw su' ca we fa' sb tb := hjc
  have hm : lm_Jx P R L B C Kd lt ra rb rl fa aa su cp cl cf ck cm ct le tr := hjm
  have hP : P ≤ 6 := hb.1
  have hR15 : R ≤ 15 := hb.2.1
  have hroC : ∀ k, k < R → fr k < P ∧ to k < P ∧ ¬ fr k = to k ∧ ln k ≤ 100 := fun k hk => ⟨(hb.2.2.1 k hk).1, (hb.2.2.1 k hk).2.1, (hb.2.2.1 k hk).2.2.1, (hb.2.2.1 k hk).2.2.2.2⟩
  have hL3 : L ≤ 3 := hb.2.2.2.1
  have hC12 : C ≤ 12 := hb.2.2.2.2.1
  have hKd3 : Kd ≤ 3 := hb.2.2.2.2.2.1
  have hd6 : 1 ≤ L → ∀ a b, a < P → b < P → aw (6 * a + b) ≤ 6400 := fun hL => (hb.2.2.2.2.2.2.2.2 hL).2.2.2.2.1
  have hB1 : 1 ≤ L → lp_sd P L B' := fun hL => (hb.2.2.2.2.2.2.2.2 hL).1
  refine la_aload_n (k := 1) K dL_law_845 rfl ?_
  refine ll_arg hH 1 (by decide +kernel) dL_law_846 dL_law_847 dL_law_848 dL_law_849 dL_law_850 (by omega) ?_
  refine ll_arg hH 2 (by decide +kernel) dL_law_851 dL_law_852 dL_law_853 dL_law_854 dL_law_855 (by omega) ?_
  refine ll_arg hH 3 (by decide +kernel) dL_law_856 dL_law_857 dL_law_858 dL_law_859 dL_law_860 (by omega) ?_
  refine ll_arg hH 4 (by decide +kernel) dL_law_861 dL_law_862 dL_law_863 dL_law_864 dL_law_865 (by omega) ?_
  refine lt_atF K (lb_item hoff hbc ((xs (i + 1))) ((xs (i + 2))) ((xs (i + 3))) ((xs (i + 4)))) lt_Zs_b (by decide) (lt_codeW K q744) (lt_invV (k := 4) (As := [.int (xs (i + 1)), .int (xs (i + 2)), .int (xs (i + 3)), .int (xs (i + 4))]) (rest := []) K (lt_sigW K q744) q741 q742 q743 (by decide +kernel) 0 rfl rfl rfl dL_law_866) dL_law_866 rfl (Nat.zero_le _) ⟨Nat.le_of_ble_eq_true rfl, Nat.le_of_ble_eq_true rfl⟩ ⟨by show n.1 + 3 ≤ 603072; omega, by show n.2 + 1010 ≤ 7262314; omega⟩ (lt_Zs_at hz hAs) (fun v u hu => ?_) (fun X u hu => ?_)
  case refine_2 =>
    exfalso
    rcases hu with ⟨-, e, -⟩ | ⟨kk, s, M, kr, m, ki, rows, c, -, e, -⟩ <;> cases e
  have hv : ∃ r, v = some (Value.long r) := by
    rcases hu with ⟨-, e, -⟩ | ⟨kk, s, M, kr, m, ki, rows, c, -, e, -⟩ <;> (cases e; exact ⟨_, rfl⟩)
  obtain ⟨r, rfl⟩ := hv
  refine la_aload_n (k := 2) K dL_law_869 rfl ?_
  refine ll_arg hH 1 (by decide +kernel) dL_law_870 dL_law_871 dL_law_872 dL_law_873 dL_law_874 (by omega) ?_
  refine ll_arg hH 2 (by decide +kernel) dL_law_875 dL_law_876 dL_law_877 dL_law_878 dL_law_879 (by omega) ?_
  refine ll_arg hH 3 (by decide +kernel) dL_law_880 dL_law_881 dL_law_882 dL_law_883 dL_law_884 (by omega) ?_
  refine ll_arg hH 4 (by decide +kernel) dL_law_885 dL_law_886 dL_law_887 dL_law_888 dL_law_889 (by omega) ?_
  refine la_callVlG K ok_X5_item q1104 (lm_item ((xs (i + 1))) ((xs (i + 2))) ((xs (i + 3))) ((xs (i + 4))) hbm) 0 rfl rfl rfl rfl rfl (Nat.le_of_ble_eq_true rfl) ⟨Nat.le_of_ble_eq_true rfl, Nat.le_of_ble_eq_true rfl⟩ ⟨by show n.1 + 3 + 0 ≤ 603072; omega, by show n.2 + 1010 + 0 ≤ 7262314; omega⟩ dL_law_890 (fun r' u' hu' => ?_)
  have key : r = r' ∧ ∃ bk', lj ω.2.2 bk' u' u := by
    rcases hu with ⟨g, e1, rfl⟩ | ⟨kk, s, M, kr, m, ki, rows, c, hA, e1, rfl⟩
    · rcases hu' with ⟨g2, e2, rfl⟩ | ⟨kk2, s2, M2, kr2, m2, ki2, rows2, c2, hA2, e2, rfl⟩
      · exact ⟨(lt_lv e1).trans e2.symm, bk, lj_S h rfl⟩
      · exact absurd (lp_wrA_Acc hA2) g
    · rcases hu' with ⟨g2, e2, rfl⟩ | ⟨kk2, s2, M2, kr2, m2, ki2, rows2, c2, hA2, e2, rfl⟩
      · exact absurd (lp_wrA_Acc hA) g2
      · obtain ⟨rfl, rfl, rfl, rfl, rfl, rfl, rfl, rfl⟩ := lp_Acc_uniq hA hA2
        exact ⟨(lt_lv e1).trans e2.symm, bk, lj_S h rfl⟩
  obtain ⟨e, bk', hj⟩ := key
  refine la_lcmp K dL_law_893 ?_
  refine la_if_eq K 1005 dL_law_894 rfl (fun _ => ?_) (fun z => absurd ((lg_cmp_eq _ _).mpr e) z)
  exact next _ bk' _ _ (by show n.1 + 3 + 0 ≤ n.1 + 36; omega) (by show n.2 + 1010 + 0 ≤ n.2 + 2880; omega) hj
theorem ll_c24 (hH : ll_H ω κ b N xs) (h : lj ω.2.2 bk ((th, S, T, P, R, L, B, Kd, lt, C), (ra, rb, rl, fa), (aa, su), (cp, cl, cf, ck, cm, ct), (le, tr, re), (bh, so, br, rs, ce), (wh, wy)) ((P, R, T, S, L, B', Nw, U, C, Kd), (fr, to, ln, aw), (su', ca, we, fa', sb, tb), (wk, nw, wo), (k0, k1, k2, k3, k4, k5), RE, BF, BK)) (hi : i + 7 ≤ N) (hn : n.1 + 36 ≤ 603072 ∧ n.2 + 2880 ≤ 7262314) (next : ll_Next ω κ b i ad am n) : la_At ω κ n 899 [some (.ref b), some (.ref (ad 0)), some (.ref (am 0)), some (.int (nI i))] [] (lb_W ω.2.2 ad ((P, R, T, S, L, B', Nw, U, C, Kd), (fr, to, ln, aw), (su', ca, we, fa', sb, tb), (wk, nw, wo), (k0, k1, k2, k3, k4, k5), RE, BF, BK) ++ lm_W ω.2.2 am ((th, S, T, P, R, L, B, Kd, lt, C), (ra, rb, rl, fa), (aa, su), (cp, cl, cf, ck, cm, ct), (le, tr, re), (bh, so, br, rs, ce), (wh, wy))) := by
  have K := hH.1
  have hz := hH.2.1
  have hAs := hH.2.2.1
  have hoff := hH.2.2.2.1
  have hN : N ≤ 448 := hH.2.2.2.2.2.2.2
  have hjm := h.2.2.2.2.2.1
  have hjc := h.2.2.2.2.2.2
  have hbm := h.2.2.2.1
  have hbc := h.2.2.2.2.1
  have hb : lb_Jx P R L B' Nw U C Kd fr to ln aw su' ca we fa' sb tb := hjc
  have hm : lm_Jx P R L B C Kd lt ra rb rl fa aa su cp cl cf ck cm ct le tr := hjm
  have hP : P ≤ 6 := hb.1
  have hR15 : R ≤ 15 := hb.2.1
  have hroC : ∀ k, k < R → fr k < P ∧ to k < P ∧ ¬ fr k = to k ∧ ln k ≤ 100 := fun k hk => ⟨(hb.2.2.1 k hk).1, (hb.2.2.1 k hk).2.1, (hb.2.2.1 k hk).2.2.1, (hb.2.2.1 k hk).2.2.2.2⟩
  have hL3 : L ≤ 3 := hb.2.2.2.1
  have hC12 : C ≤ 12 := hb.2.2.2.2.1
  have hKd3 : Kd ≤ 3 := hb.2.2.2.2.2.1
  have hd6 : 1 ≤ L → ∀ a b, a < P → b < P → aw (6 * a + b) ≤ 6400 := fun hL => (hb.2.2.2.2.2.2.2.2 hL).2.2.2.2.1
  have hB1 : 1 ≤ L → lp_sd P L B' := fun hL => (hb.2.2.2.2.2.2.2.2 hL).1
  refine la_aload_n (k := 1) K dL_law_899 rfl ?_
  refine ll_arg hH 1 (by decide +kernel) dL_law_900 dL_law_901 dL_law_902 dL_law_903 dL_law_904 (by omega) ?_
  refine lt_atF K (lb_roads hoff hjc hbc ((xs (i + 1)))) lt_Zs_b (by decide) (lt_codeW K q751) (lt_invV (k := 1) (As := [.int (xs (i + 1))]) (rest := []) K (lt_sigW K q751) q748 q749 q750 (by decide +kernel) 0 rfl rfl rfl dL_law_905) dL_law_905 rfl (Nat.zero_le _) ⟨Nat.le_of_ble_eq_true rfl, Nat.le_of_ble_eq_true rfl⟩ ⟨by show n.1 + 36 ≤ 603072; omega, by show n.2 + 2880 ≤ 7262314; omega⟩ (lt_Zs_at hz hAs) (fun v u hu => ?_) (fun X u hu => ?_)
  case refine_2 =>
    exfalso
    rcases hu with ⟨-, e, -⟩ | ⟨kk, -, -, (⟨-, e, -⟩ | ⟨s, M, rows, -, e, -⟩)⟩ <;> cases e
  have hv : ∃ r, v = some (Value.int r) := by
    rcases hu with ⟨-, e, -⟩ | ⟨kk, -, -, (⟨-, e, -⟩ | ⟨s, M, rows, -, e, -⟩)⟩ <;> (cases e; exact ⟨_, rfl⟩)
  obtain ⟨r, rfl⟩ := hv
  refine la_aload_n (k := 2) K dL_law_908 rfl ?_
  refine ll_arg hH 1 (by decide +kernel) dL_law_909 dL_law_910 dL_law_911 dL_law_912 dL_law_913 (by omega) ?_
  refine la_callViG K ok_X5_roads q1108 (lm_roadsB ((xs (i + 1))) hjm hbm) 0 rfl rfl rfl rfl rfl (Nat.le_of_ble_eq_true rfl) ⟨Nat.le_of_ble_eq_true rfl, Nat.le_of_ble_eq_true rfl⟩ ⟨by show n.1 + 36 + 0 ≤ 603072; omega, by show n.2 + 2880 + 0 ≤ 7262314; omega⟩ dL_law_914 (fun r' u' hu' => ?_)
  have key : r = r' ∧ ∃ bk', lj ω.2.2 bk' u' u := by
    rcases hu with ⟨g1, e1, rfl⟩ | ⟨kk, ek, hk, hu⟩
    · rcases hu' with ⟨f1, e2, rfl⟩ | ⟨kk2, ek2, hk2, -⟩
      · exact ⟨(lt_iv e1).trans e2.symm, bk, lj_S h rfl⟩
      · exact absurd (ll_inI ek2 (Nat.zero_le _) (by omega) (by omega)) g1
    · rcases hu' with ⟨f1, e2, rfl⟩ | ⟨kk2, ek2, hk2, hu'⟩
      · exact absurd (ll_inI ek (Nat.zero_le _) (by omega) (by omega)) f1
      · have a1 : kk2 = kk := ll_nI ek ek2 (by omega) (by omega)
        subst a1
        rcases hu with ⟨eb, e1, rfl⟩ | ⟨s, M, rows, eb, e1, aw2, rfl, hj2⟩
        · rcases hu' with ⟨eb2, e2, rfl⟩ | ⟨s2, M2, rows2, eb2, -⟩
          · exact ⟨(lt_iv e1).trans e2.symm, bk, lj_S h rfl⟩
          · rw [eb] at eb2
            cases eb2
        · rcases hu' with ⟨eb2, e2, rfl⟩ | ⟨s2, M2, rows2, eb2, e2, rfl, hm2⟩
          · rw [eb] at eb2
            cases eb2
          · rw [eb] at eb2
            cases eb2
            have cc := fun (rw : Nat → lp_Row) (M : Nat) => lp_rds_congr (P := P) (L := L) (rows := rw) M 0 R fr to ln ra rb rl h.2.1
            exact ⟨(lt_iv e1).trans (by rw [e2, (cc _ _).1]), bk, lj_rds h (cc _ _).2.1 (cc _ _).2.2.1 (fun k hk => (cc _ _).2.2.2 k (by rw [(cc _ _).2.2.1]; exact hk)) hm2 hj2⟩
  obtain ⟨e, bk', hj⟩ := key
  refine la_icmp_eq K 1005 dL_law_917 rfl (fun _ => ?_) (fun z => absurd e z)
  exact next _ bk' _ _ (by show n.1 + 36 + 0 ≤ n.1 + 36; omega) (by show n.2 + 2880 + 0 ≤ n.2 + 2880; omega) hj
theorem ll_c25 (hH : ll_H ω κ b N xs) (h : lj ω.2.2 bk ((th, S, T, P, R, L, B, Kd, lt, C), (ra, rb, rl, fa), (aa, su), (cp, cl, cf, ck, cm, ct), (le, tr, re), (bh, so, br, rs, ce), (wh, wy)) ((P, R, T, S, L, B', Nw, U, C, Kd), (fr, to, ln, aw), (su', ca, we, fa', sb, tb), (wk, nw, wo), (k0, k1, k2, k3, k4, k5), RE, BF, BK)) (hi : i + 7 ≤ N) (hn : n.1 + 36 ≤ 603072 ∧ n.2 + 2880 ≤ 7262314) (next : ll_Next ω κ b i ad am n) : la_At ω κ n 922 [some (.ref b), some (.ref (ad 0)), some (.ref (am 0)), some (.int (nI i))] [] (lb_W ω.2.2 ad ((P, R, T, S, L, B', Nw, U, C, Kd), (fr, to, ln, aw), (su', ca, we, fa', sb, tb), (wk, nw, wo), (k0, k1, k2, k3, k4, k5), RE, BF, BK) ++ lm_W ω.2.2 am ((th, S, T, P, R, L, B, Kd, lt, C), (ra, rb, rl, fa), (aa, su), (cp, cl, cf, ck, cm, ct), (le, tr, re), (bh, so, br, rs, ce), (wh, wy))) := by
  have K := hH.1
  have hz := hH.2.1
  have hAs := hH.2.2.1
  have hoff := hH.2.2.2.1
  have hN : N ≤ 448 := hH.2.2.2.2.2.2.2
  have hjm := h.2.2.2.2.2.1
  have hjc := h.2.2.2.2.2.2
  have hbm := h.2.2.2.1
  have hbc := h.2.2.2.2.1
  have hb : lb_Jx P R L B' Nw U C Kd fr to ln aw su' ca we fa' sb tb := hjc
  have hm : lm_Jx P R L B C Kd lt ra rb rl fa aa su cp cl cf ck cm ct le tr := hjm
  have hP : P ≤ 6 := hb.1
  have hM4 : ∀ {kk s M : Nat} {rows : Nat → lp_Row}, kk < 3 → bk kk = some (s, M, rows) → M ≤ 4 := fun {kk s M rows} hk e => ((hbm kk hk).2 s M rows e).2.2.2.2.1
  have hR15 : R ≤ 15 := hb.2.1
  have hroC : ∀ k, k < R → fr k < P ∧ to k < P ∧ ¬ fr k = to k ∧ ln k ≤ 100 := fun k hk => ⟨(hb.2.2.1 k hk).1, (hb.2.2.1 k hk).2.1, (hb.2.2.1 k hk).2.2.1, (hb.2.2.1 k hk).2.2.2.2⟩
  have hL3 : L ≤ 3 := hb.2.2.2.1
  have hC12 : C ≤ 12 := hb.2.2.2.2.1
  have hKd3 : Kd ≤ 3 := hb.2.2.2.2.2.1
  have hd6 : 1 ≤ L → ∀ a b, a < P → b < P → aw (6 * a + b) ≤ 6400 := fun hL => (hb.2.2.2.2.2.2.2.2 hL).2.2.2.2.1
  have hB1 : 1 ≤ L → lp_sd P L B' := fun hL => (hb.2.2.2.2.2.2.2.2 hL).1
  refine la_aload_n (k := 1) K dL_law_922 rfl ?_
  refine ll_arg hH 1 (by decide +kernel) dL_law_923 dL_law_924 dL_law_925 dL_law_926 dL_law_927 (by omega) ?_
  refine ll_arg hH 2 (by decide +kernel) dL_law_928 dL_law_929 dL_law_930 dL_law_931 dL_law_932 (by omega) ?_
  refine lt_atF K (lb_calls hoff hjc hbc ((xs (i + 1))) ((xs (i + 2)))) lt_Zs_b (by decide) (lt_codeW K q793) (lt_invV (k := 2) (As := [.int (xs (i + 1)), .int (xs (i + 2))]) (rest := []) K (lt_sigW K q793) q790 q791 q792 (by decide +kernel) 0 rfl rfl rfl dL_law_933) dL_law_933 rfl (Nat.zero_le _) ⟨Nat.le_of_ble_eq_true rfl, Nat.le_of_ble_eq_true rfl⟩ ⟨by show n.1 + 27 ≤ 603072; omega, by show n.2 + 2160 ≤ 7262314; omega⟩ (lt_Zs_at hz hAs) (fun v u hu => ?_) (fun X u hu => ?_)
  case refine_2 =>
    exfalso
    rcases hu with ⟨-, e, -⟩ | ⟨kk, -, -, (⟨-, e, -⟩ | ⟨s, M, rows, -, (⟨-, e, -⟩ | ⟨kq, -, -, (⟨-, e, -⟩ | ⟨m0, c0, -, e, -⟩)⟩)⟩)⟩ <;> cases e
  have hv : ∃ r, v = some (Value.int r) := by
    rcases hu with ⟨-, e, -⟩ | ⟨kk, -, -, (⟨-, e, -⟩ | ⟨s, M, rows, -, (⟨-, e, -⟩ | ⟨kq, -, -, (⟨-, e, -⟩ | ⟨m0, c0, -, e, -⟩)⟩)⟩)⟩ <;> (cases e; exact ⟨_, rfl⟩)
  obtain ⟨r, rfl⟩ := hv
  refine la_aload_n (k := 2) K dL_law_936 rfl ?_
  refine ll_arg hH 1 (by decide +kernel) dL_law_937 dL_law_938 dL_law_939 dL_law_940 dL_law_941 (by omega) ?_
  refine ll_arg hH 2 (by decide +kernel) dL_law_942 dL_law_943 dL_law_944 dL_law_945 dL_law_946 (by omega) ?_
  refine la_callViG K ok_X5_calls q1112 (lm_callsB ((xs (i + 1))) ((xs (i + 2))) hjm hbm) 0 rfl rfl rfl rfl rfl (Nat.le_of_ble_eq_true rfl) ⟨Nat.le_of_ble_eq_true rfl, Nat.le_of_ble_eq_true rfl⟩ ⟨by show n.1 + 27 + 0 ≤ 603072; omega, by show n.2 + 2160 + 0 ≤ 7262314; omega⟩ dL_law_947 (fun r' u' hu' => ?_)
  have key : r = r' ∧ ∃ bk', lj ω.2.2 bk' u' u := by
    rcases hu with ⟨g1, e1, rfl⟩ | ⟨kk, ek, hk, hu⟩
    · rcases hu' with ⟨f1, e2, rfl⟩ | ⟨kk2, ek2, hk2, -⟩
      · exact ⟨(lt_iv e1).trans e2.symm, bk, lj_S h rfl⟩
      · exact absurd (ll_inI ek2 (Nat.zero_le _) (by omega) (by omega)) g1
    · rcases hu' with ⟨f1, e2, rfl⟩ | ⟨kk2, ek2, hk2, hu'⟩
      · exact absurd (ll_inI ek (Nat.zero_le _) (by omega) (by omega)) f1
      · have a1 : kk2 = kk := ll_nI ek ek2 (by omega) (by omega)
        subst a1
        rcases hu with ⟨eb, e1, rfl⟩ | ⟨s, M, rows, eb, hu⟩
        · rcases hu' with ⟨eb2, e2, rfl⟩ | ⟨s2, M2, rows2, eb2, -⟩
          · exact ⟨(lt_iv e1).trans e2.symm, bk, lj_S h rfl⟩
          · rw [eb] at eb2
            cases eb2
        · rcases hu' with ⟨eb2, e2, rfl⟩ | ⟨s2, M2, rows2, eb2, hu'⟩
          · rw [eb] at eb2
            cases eb2
          · rw [eb] at eb2
            cases eb2
            have hM := hM4 hk eb
            rcases hu with ⟨g, e1, rfl⟩ | ⟨kq, eq, hq, hu⟩
            · rcases hu' with ⟨f, e2, rfl⟩ | ⟨kq2, eq2, hq2, -⟩
              · exact ⟨(lt_iv e1).trans e2.symm, bk, lj_S h rfl⟩
              · exact absurd (ll_in2 eq2 hq2 hM) g
            · rcases hu' with ⟨f, e2, rfl⟩ | ⟨kq2, eq2, hq2, hu'⟩
              · exact absurd (ll_in2 eq hq hM) f
              · have a2 : kq2 = kq := ll_nI eq eq2 (by omega) (by omega)
                subst a2
                rcases hu with ⟨er, e1, rfl⟩ | ⟨m0, c0, er, e1, Nw2, U2, su3, ca3, fa3, tb3, wk3, nw3, wo3, rfl, hc1, hj2⟩
                · rcases hu' with ⟨er2, e2, rfl⟩ | ⟨m2, c2, er2, -⟩
                  · exact ⟨(lt_iv e1).trans e2.symm, bk, lj_S h rfl⟩
                  · rw [er] at er2
                    cases er2
                · rcases hu' with ⟨er2, e2, rfl⟩ | ⟨m2, c2, er2, e2, lt2, aa2, su2, cf2, cm2, ct2, le2, rfl, hm2⟩
                  · rw [er] at er2
                    cases er2
                  · rw [er] at er2
                    cases er2
                    have dd := fun (c : Nat → Int64) (j : Nat) => lj_clsA h c j
                    exact ⟨(lt_iv e1).trans (by rw [e2, (dd _ _).1]), bk, lj_cls h (dd _ _).2.1 (dd _ _).2.2.2.1 (dd _ _).2.2.1 (fun k hk => ⟨(hc1 k (by rw [(dd _ _).2.2.1]; exact hk)).trans ((dd _ _).2.2.2.2 k (by rw [(dd _ _).2.2.1]; exact hk)).1, ((dd _ _).2.2.2.2 k (by rw [(dd _ _).2.2.1]; exact hk)).2⟩) hm2 hj2⟩
  obtain ⟨e, bk', hj⟩ := key
  refine la_icmp_eq K 1005 dL_law_950 rfl (fun _ => ?_) (fun z => absurd e z)
  exact next _ bk' _ _ (by show n.1 + 27 + 0 ≤ n.1 + 36; omega) (by show n.2 + 2160 + 0 ≤ n.2 + 2880; omega) hj
end LLD
