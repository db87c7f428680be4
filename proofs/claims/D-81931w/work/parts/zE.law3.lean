/-! THE LAW, cases [14, 15, 16, 17, 18, 19, 26, 27, 28]. Printed by law1.py. -/
section LLC
variable {ω : la_O} {κ : la_K} {b N i : Nat} {xs : Nat → Int32} {ad am : Nat → Nat} {n : Nat × Nat} {bk : lp_Bk}
variable {th S lt : Int32} {T : Int64} {P R L B Kd C : Nat} {ra rb rl fa aa su cp cl cf ck cm le tr re bh so br wh wy : Nat → Nat} {ct rs : Nat → Int32} {ce : Nat → Int64}
variable {B' Nw U : Nat} {fr to ln aw su' ca we fa' sb tb wk nw wo k0 k1 k2 k3 k4 k5 : Nat → Nat} {RE : Nat → Nat → Nat} {BF : Nat → Option Nat} {BK : va_W}
theorem ll_c14 (hH : ll_H ω κ b N xs) (h : lj ω.2.2 bk ((th, S, T, P, R, L, B, Kd, lt, C), (ra, rb, rl, fa), (aa, su), (cp, cl, cf, ck, cm, ct), (le, tr, re), (bh, so, br, rs, ce), (wh, wy)) ((P, R, T, S, L, B', Nw, U, C, Kd), (fr, to, ln, aw), (su', ca, we, fa', sb, tb), (wk, nw, wo), (k0, k1, k2, k3, k4, k5), RE, BF, BK)) (hi : i + 7 ≤ N) (hn : n.1 + 36 ≤ 603072 ∧ n.2 + 2880 ≤ 7262314) (next : ll_Next ω κ b i ad am n) : la_At ω κ n 496 [some (.ref b), some (.ref (ad 0)), some (.ref (am 0)), some (.int (nI i))] [] (lb_W ω.2.2 ad ((P, R, T, S, L, B', Nw, U, C, Kd), (fr, to, ln, aw), (su', ca, we, fa', sb, tb), (wk, nw, wo), (k0, k1, k2, k3, k4, k5), RE, BF, BK) ++ lm_W ω.2.2 am ((th, S, T, P, R, L, B, Kd, lt, C), (ra, rb, rl, fa), (aa, su), (cp, cl, cf, ck, cm, ct), (le, tr, re), (bh, so, br, rs, ce), (wh, wy))) := by
  have K := hH.1
  have hz := hH.2.1
  have hAs := hH.2.2.1
  have hoff := hH.2.2.2.1
  have hN : N ≤ 448 := hH.2.2.2.2.2.2.2
  have hjm := h.2.2.2.2.2.1
  have hjc := h.2.2.2.2.2.2
  have hbm := h.2.2.2.1
  have hbc := h.2.2.2.2.1
  have hb : lb_Jx P R L B' Nw U C Kd fr to ln aw su' ca we fa' sb tb := hjc
  have hm : lm_Jx P R L B C Kd lt ra rb rl fa aa su cp cl cf ck cm ct le tr := hjm
  have hP : P ≤ 6 := hb.1
  have hR15 : R ≤ 15 := hb.2.1
  have hroC : ∀ k, k < R → fr k < P ∧ to k < P ∧ ¬ fr k = to k ∧ ln k ≤ 100 := fun k hk => ⟨(hb.2.2.1 k hk).1, (hb.2.2.1 k hk).2.1, (hb.2.2.1 k hk).2.2.1, (hb.2.2.1 k hk).2.2.2.2⟩
  have hL3 : L ≤ 3 := hb.2.2.2.1
  have hC12 : C ≤ 12 := hb.2.2.2.2.1
  have hKd3 : Kd ≤ 3 := hb.2.2.2.2.2.1
  have hd6 : 1 ≤ L → ∀ a b, a < P → b < P → aw (6 * a + b) ≤ 6400 := fun hL => (hb.2.2.2.2.2.2.2.2 hL).2.2.2.2.1
  have hB1 : 1 ≤ L → lp_sd P L B' := fun hL => (hb.2.2.2.2.2.2.2.2 hL).1
  refine la_aload_n (k := 1) K dL_law_496 rfl ?_
  refine ll_arg hH 1 (by decide +kernel) dL_law_497 dL_law_498 dL_law_499 dL_law_500 dL_law_501 (by omega) ?_
  refine ll_arg hH 2 (by decide +kernel) dL_law_502 dL_law_503 dL_law_504 dL_law_505 dL_law_506 (by omega) ?_
  refine la_callViF K ok_X0_moves q461 (lb_moves ((xs (i + 1))) ((xs (i + 2))) hP hL3 hd6) 0 rfl rfl rfl rfl rfl (Nat.zero_le _) ⟨Nat.le_of_ble_eq_true rfl, Nat.le_of_ble_eq_true rfl⟩ ⟨by show n.1 + 0 ≤ 603072; omega, by show n.2 + 0 ≤ 7262314; omega⟩ dL_law_507 (fun r u hu => ?_)
  refine la_aload_n (k := 2) K dL_law_510 rfl ?_
  refine ll_arg hH 1 (by decide +kernel) dL_law_511 dL_law_512 dL_law_513 dL_law_514 dL_law_515 (by omega) ?_
  refine ll_arg hH 2 (by decide +kernel) dL_law_516 dL_law_517 dL_law_518 dL_law_519 dL_law_520 (by omega) ?_
  refine la_callViG K ok_X5_moves q1056 (lm_moves ((xs (i + 1))) ((xs (i + 2))) hjm) 0 rfl rfl rfl rfl rfl (Nat.le_of_ble_eq_true rfl) ⟨Nat.le_of_ble_eq_true rfl, Nat.le_of_ble_eq_true rfl⟩ ⟨by show n.1 + 0 + 0 ≤ 603072; omega, by show n.2 + 0 + 0 ≤ 7262314; omega⟩ dL_law_521 (fun r' u' hu' => ?_)
  have key : r = r' ∧ ∃ bk', lj ω.2.2 bk' u' ((P, R, T, S, L, B', Nw, U, C, Kd), (fr, to, ln, aw), (su', ca, we, fa', sb, tb), (wk, nw, wo), (k0, k1, k2, k3, k4, k5), RE, BF, BK) := by
    obtain ⟨e2, rfl⟩ := hu'
    exact ⟨hu.trans ((lj_moves h _ _).trans e2.symm), bk, lj_th h⟩
  obtain ⟨e, bk', hj⟩ := key
  refine la_icmp_eq K 1005 dL_law_524 rfl (fun _ => ?_) (fun z => absurd e z)
  exact next _ bk' _ _ (by show n.1 + 0 + 0 ≤ n.1 + 36; omega) (by show n.2 + 0 + 0 ≤ n.2 + 2880; omega) hj
theorem ll_c15 (hH : ll_H ω κ b N xs) (h : lj ω.2.2 bk ((th, S, T, P, R, L, B, Kd, lt, C), (ra, rb, rl, fa), (aa, su), (cp, cl, cf, ck, cm, ct), (le, tr, re), (bh, so, br, rs, ce), (wh, wy)) ((P, R, T, S, L, B', Nw, U, C, Kd), (fr, to, ln, aw), (su', ca, we, fa', sb, tb), (wk, nw, wo), (k0, k1, k2, k3, k4, k5), RE, BF, BK)) (hi : i + 7 ≤ N) (hn : n.1 + 36 ≤ 603072 ∧ n.2 + 2880 ≤ 7262314) (next : ll_Next ω κ b i ad am n) : la_At ω κ n 529 [some (.ref b), some (.ref (ad 0)), some (.ref (am 0)), some (.int (nI i))] [] (lb_W ω.2.2 ad ((P, R, T, S, L, B', Nw, U, C, Kd), (fr, to, ln, aw), (su', ca, we, fa', sb, tb), (wk, nw, wo), (k0, k1, k2, k3, k4, k5), RE, BF, BK) ++ lm_W ω.2.2 am ((th, S, T, P, R, L, B, Kd, lt, C), (ra, rb, rl, fa), (aa, su), (cp, cl, cf, ck, cm, ct), (le, tr, re), (bh, so, br, rs, ce), (wh, wy))) := by
  have K := hH.1
  have hz := hH.2.1
  have hAs := hH.2.2.1
  have hoff := hH.2.2.2.1
  have hN : N ≤ 448 := hH.2.2.2.2.2.2.2
  have hjm := h.2.2.2.2.2.1
  have hjc := h.2.2.2.2.2.2
  have hbm := h.2.2.2.1
  have hbc := h.2.2.2.2.1
  have hb : lb_Jx P R L B' Nw U C Kd fr to ln aw su' ca we fa' sb tb := hjc
  have hm : lm_Jx P R L B C Kd lt ra rb rl fa aa su cp cl cf ck cm ct le tr := hjm
  have hP : P ≤ 6 := hb.1
  have hR15 : R ≤ 15 := hb.2.1
  have hroC : ∀ k, k < R → fr k < P ∧ to k < P ∧ ¬ fr k = to k ∧ ln k ≤ 100 := fun k hk => ⟨(hb.2.2.1 k hk).1, (hb.2.2.1 k hk).2.1, (hb.2.2.1 k hk).2.2.1, (hb.2.2.1 k hk).2.2.2.2⟩
  have hL3 : L ≤ 3 := hb.2.2.2.1
  have hC12 : C ≤ 12 := hb.2.2.2.2.1
  have hKd3 : Kd ≤ 3 := hb.2.2.2.2.2.1
  have hd6 : 1 ≤ L → ∀ a b, a < P → b < P → aw (6 * a + b) ≤ 6400 := fun hL => (hb.2.2.2.2.2.2.2.2 hL).2.2.2.2.1
  have hB1 : 1 ≤ L → lp_sd P L B' := fun hL => (hb.2.2.2.2.2.2.2.2 hL).1
  refine la_aload_n (k := 1) K dL_law_529 rfl ?_
  refine ll_arg hH 1 (by decide +kernel) dL_law_530 dL_law_531 dL_law_532 dL_law_533 dL_law_534 (by omega) ?_
  refine ll_arg hH 2 (by decide +kernel) dL_law_535 dL_law_536 dL_law_537 dL_law_538 dL_law_539 (by omega) ?_
  refine la_callViF K ok_X0_work q465 (lb_work ((xs (i + 1))) ((xs (i + 2))) hP hL3 hd6 hB1 hC12 (ll_ca hb)) 0 rfl rfl rfl rfl rfl (Nat.zero_le _) ⟨Nat.le_of_ble_eq_true rfl, Nat.le_of_ble_eq_true rfl⟩ ⟨by show n.1 + 0 ≤ 603072; omega, by show n.2 + 0 ≤ 7262314; omega⟩ dL_law_540 (fun r u hu => ?_)
  refine la_aload_n (k := 2) K dL_law_543 rfl ?_
  refine ll_arg hH 1 (by decide +kernel) dL_law_544 dL_law_545 dL_law_546 dL_law_547 dL_law_548 (by omega) ?_
  refine ll_arg hH 2 (by decide +kernel) dL_law_549 dL_law_550 dL_law_551 dL_law_552 dL_law_553 (by omega) ?_
  refine la_callViG K ok_X5_work q1060 (lm_work ((xs (i + 1))) ((xs (i + 2))) hjm) 0 rfl rfl rfl rfl rfl (Nat.le_of_ble_eq_true rfl) ⟨Nat.le_of_ble_eq_true rfl, Nat.le_of_ble_eq_true rfl⟩ ⟨by show n.1 + 0 + 0 ≤ 603072; omega, by show n.2 + 0 + 0 ≤ 7262314; omega⟩ dL_law_554 (fun r' u' hu' => ?_)
  have key : r = r' ∧ ∃ bk', lj ω.2.2 bk' u' u := by
    obtain ⟨e1, wk2, nw2, rfl⟩ := hu
    obtain ⟨e2, rfl⟩ := hu'
    exact ⟨e1.trans ((lj_work h _ _).trans e2.symm), bk, lj_wk h⟩
  obtain ⟨e, bk', hj⟩ := key
  refine la_icmp_eq K 1005 dL_law_557 rfl (fun _ => ?_) (fun z => absurd e z)
  exact next _ bk' _ _ (by show n.1 + 0 + 0 ≤ n.1 + 36; omega) (by show n.2 + 0 + 0 ≤ n.2 + 2880; omega) hj
theorem ll_c16 (hH : ll_H ω κ b N xs) (h : lj ω.2.2 bk ((th, S, T, P, R, L, B, Kd, lt, C), (ra, rb, rl, fa), (aa, su), (cp, cl, cf, ck, cm, ct), (le, tr, re), (bh, so, br, rs, ce), (wh, wy)) ((P, R, T, S, L, B', Nw, U, C, Kd), (fr, to, ln, aw), (su', ca, we, fa', sb, tb), (wk, nw, wo), (k0, k1, k2, k3, k4, k5), RE, BF, BK)) (hi : i + 7 ≤ N) (hn : n.1 + 36 ≤ 603072 ∧ n.2 + 2880 ≤ 7262314) (next : ll_Next ω κ b i ad am n) : la_At ω κ n 562 [some (.ref b), some (.ref (ad 0)), some (.ref (am 0)), some (.int (nI i))] [] (lb_W ω.2.2 ad ((P, R, T, S, L, B', Nw, U, C, Kd), (fr, to, ln, aw), (su', ca, we, fa', sb, tb), (wk, nw, wo), (k0, k1, k2, k3, k4, k5), RE, BF, BK) ++ lm_W ω.2.2 am ((th, S, T, P, R, L, B, Kd, lt, C), (ra, rb, rl, fa), (aa, su), (cp, cl, cf, ck, cm, ct), (le, tr, re), (bh, so, br, rs, ce), (wh, wy))) := by
  have K := hH.1
  have hz := hH.2.1
  have hAs := hH.2.2.1
  have hoff := hH.2.2.2.1
  have hN : N ≤ 448 := hH.2.2.2.2.2.2.2
  have hjm := h.2.2.2.2.2.1
  have hjc := h.2.2.2.2.2.2
  have hbm := h.2.2.2.1
  have hbc := h.2.2.2.2.1
  have hb : lb_Jx P R L B' Nw U C Kd fr to ln aw su' ca we fa' sb tb := hjc
  have hm : lm_Jx P R L B C Kd lt ra rb rl fa aa su cp cl cf ck cm ct le tr := hjm
  have hP : P ≤ 6 := hb.1
  have hR15 : R ≤ 15 := hb.2.1
  have hroC : ∀ k, k < R → fr k < P ∧ to k < P ∧ ¬ fr k = to k ∧ ln k ≤ 100 := fun k hk => ⟨(hb.2.2.1 k hk).1, (hb.2.2.1 k hk).2.1, (hb.2.2.1 k hk).2.2.1, (hb.2.2.1 k hk).2.2.2.2⟩
  have hL3 : L ≤ 3 := hb.2.2.2.1
  have hC12 : C ≤ 12 := hb.2.2.2.2.1
  have hKd3 : Kd ≤ 3 := hb.2.2.2.2.2.1
  have hd6 : 1 ≤ L → ∀ a b, a < P → b < P → aw (6 * a + b) ≤ 6400 := fun hL => (hb.2.2.2.2.2.2.2.2 hL).2.2.2.2.1
  have hB1 : 1 ≤ L → lp_sd P L B' := fun hL => (hb.2.2.2.2.2.2.2.2 hL).1
  refine la_aload_n (k := 1) K dL_law_562 rfl ?_
  refine ll_arg hH 1 (by decide +kernel) dL_law_563 dL_law_564 dL_law_565 dL_law_566 dL_law_567 (by omega) ?_
  refine la_callViF K ok_X0_least q469 (lb_least ((xs (i + 1))) hP hL3 hd6 hB1 hC12 (ll_ca hb)) 0 rfl rfl rfl rfl rfl (Nat.zero_le _) ⟨Nat.le_of_ble_eq_true rfl, Nat.le_of_ble_eq_true rfl⟩ ⟨by show n.1 + 0 ≤ 603072; omega, by show n.2 + 0 ≤ 7262314; omega⟩ dL_law_568 (fun r u hu => ?_)
  refine la_aload_n (k := 2) K dL_law_571 rfl ?_
  refine ll_arg hH 1 (by decide +kernel) dL_law_572 dL_law_573 dL_law_574 dL_law_575 dL_law_576 (by omega) ?_
  refine la_callViG K ok_X5_least q1064 (lm_least ((xs (i + 1))) hjm) 0 rfl rfl rfl rfl rfl (Nat.le_of_ble_eq_true rfl) ⟨Nat.le_of_ble_eq_true rfl, Nat.le_of_ble_eq_true rfl⟩ ⟨by show n.1 + 0 + 0 ≤ 603072; omega, by show n.2 + 0 + 0 ≤ 7262314; omega⟩ dL_law_577 (fun r' u' hu' => ?_)
  have key : r = r' ∧ ∃ bk', lj ω.2.2 bk' u' u := by
    obtain ⟨e1, wk2, nw2, rfl⟩ := hu
    obtain ⟨e2, rfl⟩ := hu'
    exact ⟨e1.trans ((lj_least h _).trans e2.symm), bk, lj_wk h⟩
  obtain ⟨e, bk', hj⟩ := key
  refine la_icmp_eq K 1005 dL_law_580 rfl (fun _ => ?_) (fun z => absurd e z)
  exact next _ bk' _ _ (by show n.1 + 0 + 0 ≤ n.1 + 36; omega) (by show n.2 + 0 + 0 ≤ n.2 + 2880; omega) hj
theorem ll_c17 (hH : ll_H ω κ b N xs) (h : lj ω.2.2 bk ((th, S, T, P, R, L, B, Kd, lt, C), (ra, rb, rl, fa), (aa, su), (cp, cl, cf, ck, cm, ct), (le, tr, re), (bh, so, br, rs, ce), (wh, wy)) ((P, R, T, S, L, B', Nw, U, C, Kd), (fr, to, ln, aw), (su', ca, we, fa', sb, tb), (wk, nw, wo), (k0, k1, k2, k3, k4, k5), RE, BF, BK)) (hi : i + 7 ≤ N) (hn : n.1 + 36 ≤ 603072 ∧ n.2 + 2880 ≤ 7262314) (next : ll_Next ω κ b i ad am n) : la_At ω κ n 585 [some (.ref b), some (.ref (ad 0)), some (.ref (am 0)), some (.int (nI i))] [] (lb_W ω.2.2 ad ((P, R, T, S, L, B', Nw, U, C, Kd), (fr, to, ln, aw), (su', ca, we, fa', sb, tb), (wk, nw, wo), (k0, k1, k2, k3, k4, k5), RE, BF, BK) ++ lm_W ω.2.2 am ((th, S, T, P, R, L, B, Kd, lt, C), (ra, rb, rl, fa), (aa, su), (cp, cl, cf, ck, cm, ct), (le, tr, re), (bh, so, br, rs, ce), (wh, wy))) := by
  have K := hH.1
  have hz := hH.2.1
  have hAs := hH.2.2.1
  have hoff := hH.2.2.2.1
  have hN : N ≤ 448 := hH.2.2.2.2.2.2.2
  have hjm := h.2.2.2.2.2.1
  have hjc := h.2.2.2.2.2.2
  have hbm := h.2.2.2.1
  have hbc := h.2.2.2.2.1
  have hb : lb_Jx P R L B' Nw U C Kd fr to ln aw su' ca we fa' sb tb := hjc
  have hm : lm_Jx P R L B C Kd lt ra rb rl fa aa su cp cl cf ck cm ct le tr := hjm
  have hP : P ≤ 6 := hb.1
  have hR15 : R ≤ 15 := hb.2.1
  have hroC : ∀ k, k < R → fr k < P ∧ to k < P ∧ ¬ fr k = to k ∧ ln k ≤ 100 := fun k hk => ⟨(hb.2.2.1 k hk).1, (hb.2.2.1 k hk).2.1, (hb.2.2.1 k hk).2.2.1, (hb.2.2.1 k hk).2.2.2.2⟩
  have hL3 : L ≤ 3 := hb.2.2.2.1
  have hC12 : C ≤ 12 := hb.2.2.2.2.1
  have hKd3 : Kd ≤ 3 := hb.2.2.2.2.2.1
  have hd6 : 1 ≤ L → ∀ a b, a < P → b < P → aw (6 * a + b) ≤ 6400 := fun hL => (hb.2.2.2.2.2.2.2.2 hL).2.2.2.2.1
  have hB1 : 1 ≤ L → lp_sd P L B' := fun hL => (hb.2.2.2.2.2.2.2.2 hL).1
  refine la_aload_n (k := 1) K dL_law_585 rfl ?_
  refine ll_arg hH 1 (by decide +kernel) dL_law_586 dL_law_587 dL_law_588 dL_law_589 dL_law_590 (by omega) ?_
  refine ll_arg hH 2 (by decide +kernel) dL_law_591 dL_law_592 dL_law_593 dL_law_594 dL_law_595 (by omega) ?_
  refine la_callViF K ok_X0_plan q477 (lb_plan ((xs (i + 1))) ((xs (i + 2))) hjc) 0 rfl rfl rfl rfl rfl (Nat.zero_le _) ⟨Nat.le_of_ble_eq_true rfl, Nat.le_of_ble_eq_true rfl⟩ ⟨by show n.1 + 0 ≤ 603072; omega, by show n.2 + 0 ≤ 7262314; omega⟩ dL_law_596 (fun r u hu => ?_)
  refine la_aload_n (k := 2) K dL_law_599 rfl ?_
  refine ll_arg hH 1 (by decide +kernel) dL_law_600 dL_law_601 dL_law_602 dL_law_603 dL_law_604 (by omega) ?_
  refine ll_arg hH 2 (by decide +kernel) dL_law_605 dL_law_606 dL_law_607 dL_law_608 dL_law_609 (by omega) ?_
  refine la_callViG K ok_X5_plan q1071 (lm_plan ((xs (i + 1))) ((xs (i + 2))) hjm) 0 rfl rfl rfl rfl rfl (Nat.le_of_ble_eq_true rfl) ⟨Nat.le_of_ble_eq_true rfl, Nat.le_of_ble_eq_true rfl⟩ ⟨by show n.1 + 0 + 0 ≤ 603072; omega, by show n.2 + 0 + 0 ≤ 7262314; omega⟩ dL_law_610 (fun r' u' hu' => ?_)
  have key : r = r' ∧ ∃ bk', lj ω.2.2 bk' u' u := by
    obtain ⟨e1, f1, rfl⟩ := hu
    obtain ⟨e2, f2, rfl⟩ := hu'
    exact ⟨e1.trans ((lj_plan h _ _).trans e2.symm), bk, lj_re h⟩
  obtain ⟨e, bk', hj⟩ := key
  refine la_icmp_eq K 1005 dL_law_613 rfl (fun _ => ?_) (fun z => absurd e z)
  exact next _ bk' _ _ (by show n.1 + 0 + 0 ≤ n.1 + 36; omega) (by show n.2 + 0 + 0 ≤ n.2 + 2880; omega) hj
theorem ll_c18 (hH : ll_H ω κ b N xs) (h : lj ω.2.2 bk ((th, S, T, P, R, L, B, Kd, lt, C), (ra, rb, rl, fa), (aa, su), (cp, cl, cf, ck, cm, ct), (le, tr, re), (bh, so, br, rs, ce), (wh, wy)) ((P, R, T, S, L, B', Nw, U, C, Kd), (fr, to, ln, aw), (su', ca, we, fa', sb, tb), (wk, nw, wo), (k0, k1, k2, k3, k4, k5), RE, BF, BK)) (hi : i + 7 ≤ N) (hn : n.1 + 36 ≤ 603072 ∧ n.2 + 2880 ≤ 7262314) (next : ll_Next ω κ b i ad am n) : la_At ω κ n 618 [some (.ref b), some (.ref (ad 0)), some (.ref (am 0)), some (.int (nI i))] [] (lb_W ω.2.2 ad ((P, R, T, S, L, B', Nw, U, C, Kd), (fr, to, ln, aw), (su', ca, we, fa', sb, tb), (wk, nw, wo), (k0, k1, k2, k3, k4, k5), RE, BF, BK) ++ lm_W ω.2.2 am ((th, S, T, P, R, L, B, Kd, lt, C), (ra, rb, rl, fa), (aa, su), (cp, cl, cf, ck, cm, ct), (le, tr, re), (bh, so, br, rs, ce), (wh, wy))) := by
  have K := hH.1
  have hz := hH.2.1
  have hAs := hH.2.2.1
  have hoff := hH.2.2.2.1
  have hN : N ≤ 448 := hH.2.2.2.2.2.2.2
  have hjm := h.2.2.2.2.2.1
  have hjc := h.2.2.2.2.2.2
  have hbm := h.2.2.2.1
  have hbc := h.2.2.2.2.1
  have hb : lb_Jx P R L B' Nw U C Kd fr to ln aw su' ca we fa' sb tb := hjc
  have hm : lm_Jx P R L B C Kd lt ra rb rl fa aa su cp cl cf ck cm ct le tr := hjm
  have hP : P ≤ 6 := hb.1
  have hR15 : R ≤ 15 := hb.2.1
  have hroC : ∀ k, k < R → fr k < P ∧ to k < P ∧ ¬ fr k = to k ∧ ln k ≤ 100 := fun k hk => ⟨(hb.2.2.1 k hk).1, (hb.2.2.1 k hk).2.1, (hb.2.2.1 k hk).2.2.1, (hb.2.2.1 k hk).2.2.2.2⟩
  have hL3 : L ≤ 3 := hb.2.2.2.1
  have hC12 : C ≤ 12 := hb.2.2.2.2.1
  have hKd3 : Kd ≤ 3 := hb.2.2.2.2.2.1
  have hd6 : 1 ≤ L → ∀ a b, a < P → b < P → aw (6 * a + b) ≤ 6400 := fun hL => (hb.2.2.2.2.2.2.2.2 hL).2.2.2.2.1
  have hB1 : 1 ≤ L → lp_sd P L B' := fun hL => (hb.2.2.2.2.2.2.2.2 hL).1
  refine la_aload_n (k := 1) K dL_law_618 rfl ?_
  refine la_callViF K ok_X0_ratio q485 (lb_ratio hP hL3 hd6 hB1 hC12 (ll_ca hb) (ll_to hb)) 0 rfl rfl rfl rfl rfl (Nat.zero_le _) ⟨Nat.le_of_ble_eq_true rfl, Nat.le_of_ble_eq_true rfl⟩ ⟨by show n.1 + 0 ≤ 603072; omega, by show n.2 + 0 ≤ 7262314; omega⟩ dL_law_619 (fun r u hu => ?_)
  refine la_aload_n (k := 2) K dL_law_622 rfl ?_
  refine la_callViG K ok_X5_ratio q1075 (lm_ratio hjm) 0 rfl rfl rfl rfl rfl (Nat.le_of_ble_eq_true rfl) ⟨Nat.le_of_ble_eq_true rfl, Nat.le_of_ble_eq_true rfl⟩ ⟨by show n.1 + 0 + 0 ≤ 603072; omega, by show n.2 + 0 + 0 ≤ 7262314; omega⟩ dL_law_623 (fun r' u' hu' => ?_)
  have key : r = r' ∧ ∃ bk', lj ω.2.2 bk' u' u := by
    obtain ⟨e1, wk2, nw2, rfl⟩ := hu
    obtain ⟨e2, rfl⟩ := hu'
    exact ⟨e1.trans ((lj_ratio h).trans e2.symm), bk, lj_wk h⟩
  obtain ⟨e, bk', hj⟩ := key
  refine la_icmp_eq K 1005 dL_law_626 rfl (fun _ => ?_) (fun z => absurd e z)
  exact next _ bk' _ _ (by show n.1 + 0 + 0 ≤ n.1 + 36; omega) (by show n.2 + 0 + 0 ≤ n.2 + 2880; omega) hj
theorem ll_c19 (hH : ll_H ω κ b N xs) (h : lj ω.2.2 bk ((th, S, T, P, R, L, B, Kd, lt, C), (ra, rb, rl, fa), (aa, su), (cp, cl, cf, ck, cm, ct), (le, tr, re), (bh, so, br, rs, ce), (wh, wy)) ((P, R, T, S, L, B', Nw, U, C, Kd), (fr, to, ln, aw), (su', ca, we, fa', sb, tb), (wk, nw, wo), (k0, k1, k2, k3, k4, k5), RE, BF, BK)) (hi : i + 7 ≤ N) (hn : n.1 + 36 ≤ 603072 ∧ n.2 + 2880 ≤ 7262314) (next : ll_Next ω κ b i ad am n) : la_At ω κ n 631 [some (.ref b), some (.ref (ad 0)), some (.ref (am 0)), some (.int (nI i))] [] (lb_W ω.2.2 ad ((P, R, T, S, L, B', Nw, U, C, Kd), (fr, to, ln, aw), (su', ca, we, fa', sb, tb), (wk, nw, wo), (k0, k1, k2, k3, k4, k5), RE, BF, BK) ++ lm_W ω.2.2 am ((th, S, T, P, R, L, B, Kd, lt, C), (ra, rb, rl, fa), (aa, su), (cp, cl, cf, ck, cm, ct), (le, tr, re), (bh, so, br, rs, ce), (wh, wy))) := by
  have K := hH.1
  have hz := hH.2.1
  have hAs := hH.2.2.1
  have hoff := hH.2.2.2.1
  have hN : N ≤ 448 := hH.2.2.2.2.2.2.2
  have hjm := h.2.2.2.2.2.1
  have hjc := h.2.2.2.2.2.2
  have hbm := h.2.2.2.1
  have hbc := h.2.2.2.2.1
  have hb : lb_Jx P R L B' Nw U C Kd fr to ln aw su' ca we fa' sb tb := hjc
  have hm : lm_Jx P R L B C Kd lt ra rb rl fa aa su cp cl cf ck cm ct le tr := hjm
  have hP : P ≤ 6 := hb.1
  have hR15 : R ≤ 15 := hb.2.1
  have hroC : ∀ k, k < R → fr k < P ∧ to k < P ∧ ¬ fr k = to k ∧ ln k ≤ 100 := fun k hk => ⟨(hb.2.2.1 k hk).1, (hb.2.2.1 k hk).2.1, (hb.2.2.1 k hk).2.2.1, (hb.2.2.1 k hk).2.2.2.2⟩
  have hL3 : L ≤ 3 := hb.2.2.2.1
  have hC12 : C ≤ 12 := hb.2.2.2.2.1
  have hKd3 : Kd ≤ 3 := hb.2.2.2.2.2.1
  have hd6 : 1 ≤ L → ∀ a b, a < P → b < P → aw (6 * a + b) ≤ 6400 := fun hL => (hb.2.2.2.2.2.2.2.2 hL).2.2.2.2.1
  have hB1 : 1 ≤ L → lp_sd P L B' := fun hL => (hb.2.2.2.2.2.2.2.2 hL).1
  refine la_aload_n (k := 1) K dL_law_631 rfl ?_
  refine ll_arg hH 1 (by decide +kernel) dL_law_632 dL_law_633 dL_law_634 dL_law_635 dL_law_636 (by omega) ?_
  refine ll_arg hH 2 (by decide +kernel) dL_law_637 dL_law_638 dL_law_639 dL_law_640 dL_law_641 (by omega) ?_
  refine la_callViF K ok_X0_worst q489 (lb_worst ((xs (i + 1))) ((xs (i + 2))) hjc) 0 rfl rfl rfl rfl rfl (Nat.zero_le _) ⟨Nat.le_of_ble_eq_true rfl, Nat.le_of_ble_eq_true rfl⟩ ⟨by show n.1 + 0 ≤ 603072; omega, by show n.2 + 0 ≤ 7262314; omega⟩ dL_law_642 (fun r u hu => ?_)
  refine la_aload_n (k := 2) K dL_law_645 rfl ?_
  refine ll_arg hH 1 (by decide +kernel) dL_law_646 dL_law_647 dL_law_648 dL_law_649 dL_law_650 (by omega) ?_
  refine ll_arg hH 2 (by decide +kernel) dL_law_651 dL_law_652 dL_law_653 dL_law_654 dL_law_655 (by omega) ?_
  refine la_callViG K ok_X5_worst q1079 (lm_worst ((xs (i + 1))) ((xs (i + 2))) hjm) 0 rfl rfl rfl rfl rfl (Nat.le_of_ble_eq_true rfl) ⟨Nat.le_of_ble_eq_true rfl, Nat.le_of_ble_eq_true rfl⟩ ⟨by show n.1 + 0 + 0 ≤ 603072; omega, by show n.2 + 0 + 0 ≤ 7262314; omega⟩ dL_law_656 (fun r' u' hu' => ?_)
  have key : r = r' ∧ ∃ bk', lj ω.2.2 bk' u' u := by
    obtain ⟨e1, su3, ca3, we3, fa3, sb3, tb3, wk3, nw3, wo3, k03, k13, k23, k33, k43, k53, rfl, hc, hj2⟩ := hu
    obtain ⟨e2, wh2, wy2, tr2, rfl, htr⟩ := hu'
    exact ⟨e1.trans ((lj_worstA h _ _).trans e2.symm), bk, lj_worst h (lj_worstT h _ _) htr hc hj2⟩
  obtain ⟨e, bk', hj⟩ := key
  refine la_icmp_eq K 1005 dL_law_659 rfl (fun _ => ?_) (fun z => absurd e z)
  exact next _ bk' _ _ (by show n.1 + 0 + 0 ≤ n.1 + 36; omega) (by show n.2 + 0 + 0 ≤ n.2 + 2880; omega) hj
theorem ll_c26 (hH : ll_H ω κ b N xs) (h : lj ω.2.2 bk ((th, S, T, P, R, L, B, Kd, lt, C), (ra, rb, rl, fa), (aa, su), (cp, cl, cf, ck, cm, ct), (le, tr, re), (bh, so, br, rs, ce), (wh, wy)) ((P, R, T, S, L, B', Nw, U, C, Kd), (fr, to, ln, aw), (su', ca, we, fa', sb, tb), (wk, nw, wo), (k0, k1, k2, k3, k4, k5), RE, BF, BK)) (hi : i + 7 ≤ N) (hn : n.1 + 36 ≤ 603072 ∧ n.2 + 2880 ≤ 7262314) (next : ll_Next ω κ b i ad am n) : la_At ω κ n 955 [some (.ref b), some (.ref (ad 0)), some (.ref (am 0)), some (.int (nI i))] [] (lb_W ω.2.2 ad ((P, R, T, S, L, B', Nw, U, C, Kd), (fr, to, ln, aw), (su', ca, we, fa', sb, tb), (wk, nw, wo), (k0, k1, k2, k3, k4, k5), RE, BF, BK) ++ lm_W ω.2.2 am ((th, S, T, P, R, L, B, Kd, lt, C), (ra, rb, rl, fa), (aa, su), (cp, cl, cf, ck, cm, ct), (le, tr, re), (bh, so, br, rs, ce), (wh, wy))) := by
  have K := hH.1
  have hz := hH.2.1
  have hAs := hH.2.2.1
  have hoff := hH.2.2.2.1
  have hN : N ≤ 448 := hH.2.2.2.2.2.2.2
  have hjm := h.2.2.2.2.2.1
  have hjc := h.2.2.2.2.2.2
  have hbm := h.2.2.2.1
  have hbc := h.2.2.2.2.1
  have hb : lb_Jx P R L B' Nw U C Kd fr to ln aw su' ca we fa' sb tb := hjc
  have hm : lm_Jx P R L B C Kd lt ra rb rl fa aa su cp cl cf ck cm ct le tr := hjm
  have hP : P ≤ 6 := hb.1
  have hR15 : R ≤ 15 := hb.2.1
  have hroC : ∀ k, k < R → fr k < P ∧ to k < P ∧ ¬ fr k = to k ∧ ln k ≤ 100 := fun k hk => ⟨(hb.2.2.1 k hk).1, (hb.2.2.1 k hk).2.1, (hb.2.2.1 k hk).2.2.1, (hb.2.2.1 k hk).2.2.2.2⟩
  have hL3 : L ≤ 3 := hb.2.2.2.1
  have hC12 : C ≤ 12 := hb.2.2.2.2.1
  have hKd3 : Kd ≤ 3 := hb.2.2.2.2.2.1
  have hd6 : 1 ≤ L → ∀ a b, a < P → b < P → aw (6 * a + b) ≤ 6400 := fun hL => (hb.2.2.2.2.2.2.2.2 hL).2.2.2.2.1
  have hB1 : 1 ≤ L → lp_sd P L B' := fun hL => (hb.2.2.2.2.2.2.2.2 hL).1
  refine la_aload_n (k := 1) K dL_law_955 rfl ?_
  refine ll_arg hH 1 (by decide +kernel) dL_law_956 dL_law_957 dL_law_958 dL_law_959 dL_law_960 (by omega) ?_
  refine la_callViF K ok_X0_about q809 (lb_about ((xs (i + 1))) (by omega) hP (ll_haw0 hb)) 0 rfl rfl rfl rfl rfl (Nat.zero_le _) ⟨Nat.le_of_ble_eq_true rfl, Nat.le_of_ble_eq_true rfl⟩ ⟨by show n.1 + 0 ≤ 603072; omega, by show n.2 + 0 ≤ 7262314; omega⟩ dL_law_961 (fun r u hu => ?_)
  refine la_aload_n (k := 2) K dL_law_964 rfl ?_
  refine ll_arg hH 1 (by decide +kernel) dL_law_965 dL_law_966 dL_law_967 dL_law_968 dL_law_969 (by omega) ?_
  refine la_callViG K ok_X5_about q1116 (lm_about ((xs (i + 1))) hjm) 0 rfl rfl rfl rfl rfl (Nat.le_of_ble_eq_true rfl) ⟨Nat.le_of_ble_eq_true rfl, Nat.le_of_ble_eq_true rfl⟩ ⟨by show n.1 + 0 + 0 ≤ 603072; omega, by show n.2 + 0 + 0 ≤ 7262314; omega⟩ dL_law_970 (fun r' u' hu' => ?_)
  have key : r = r' ∧ ∃ bk', lj ω.2.2 bk' u' ((P, R, T, S, L, B', Nw, U, C, Kd), (fr, to, ln, aw), (su', ca, we, fa', sb, tb), (wk, nw, wo), (k0, k1, k2, k3, k4, k5), RE, BF, BK) := by
    obtain ⟨e2, fa2, rfl, hm2⟩ := hu'
    have e3 : lp_torn0 1000000 P aw = lp_torn 100000000 P (lp_ds 100000000 ra rb rl R 6) := propext (lj_torn h)
    exact ⟨hu.trans (by rw [e2, e3]), bk, lj_m h hm2⟩
  obtain ⟨e, bk', hj⟩ := key
  refine la_icmp_eq K 1005 dL_law_973 rfl (fun _ => ?_) (fun z => absurd e z)
  exact next _ bk' _ _ (by show n.1 + 0 + 0 ≤ n.1 + 36; omega) (by show n.2 + 0 + 0 ≤ n.2 + 2880; omega) hj
theorem ll_c27 (hH : ll_H ω κ b N xs) (h : lj ω.2.2 bk ((th, S, T, P, R, L, B, Kd, lt, C), (ra, rb, rl, fa), (aa, su), (cp, cl, cf, ck, cm, ct), (le, tr, re), (bh, so, br, rs, ce), (wh, wy)) ((P, R, T, S, L, B', Nw, U, C, Kd), (fr, to, ln, aw), (su', ca, we, fa', sb, tb), (wk, nw, wo), (k0, k1, k2, k3, k4, k5), RE, BF, BK)) (hi : i + 7 ≤ N) (hn : n.1 + 36 ≤ 603072 ∧ n.2 + 2880 ≤ 7262314) (next : ll_Next ω κ b i ad am n) : la_At ω κ n 978 [some (.ref b), some (.ref (ad 0)), some (.ref (am 0)), some (.int (nI i))] [] (lb_W ω.2.2 ad ((P, R, T, S, L, B', Nw, U, C, Kd), (fr, to, ln, aw), (su', ca, we, fa', sb, tb), (wk, nw, wo), (k0, k1, k2, k3, k4, k5), RE, BF, BK) ++ lm_W ω.2.2 am ((th, S, T, P, R, L, B, Kd, lt, C), (ra, rb, rl, fa), (aa, su), (cp, cl, cf, ck, cm, ct), (le, tr, re), (bh, so, br, rs, ce), (wh, wy))) := by
  have K := hH.1
  have hz := hH.2.1
  have hAs := hH.2.2.1
  have hoff := hH.2.2.2.1
  have hN : N ≤ 448 := hH.2.2.2.2.2.2.2
  have hjm := h.2.2.2.2.2.1
  have hjc := h.2.2.2.2.2.2
  have hbm := h.2.2.2.1
  have hbc := h.2.2.2.2.1
  have hb : lb_Jx P R L B' Nw U C Kd fr to ln aw su' ca we fa' sb tb := hjc
  have hm : lm_Jx P R L B C Kd lt ra rb rl fa aa su cp cl cf ck cm ct le tr := hjm
  have hP : P ≤ 6 := hb.1
  have hR15 : R ≤ 15 := hb.2.1
  have hroC : ∀ k, k < R → fr k < P ∧ to k < P ∧ ¬ fr k = to k ∧ ln k ≤ 100 := fun k hk => ⟨(hb.2.2.1 k hk).1, (hb.2.2.1 k hk).2.1, (hb.2.2.1 k hk).2.2.1, (hb.2.2.1 k hk).2.2.2.2⟩
  have hL3 : L ≤ 3 := hb.2.2.2.1
  have hC12 : C ≤ 12 := hb.2.2.2.2.1
  have hKd3 : Kd ≤ 3 := hb.2.2.2.2.2.1
  have hd6 : 1 ≤ L → ∀ a b, a < P → b < P → aw (6 * a + b) ≤ 6400 := fun hL => (hb.2.2.2.2.2.2.2.2 hL).2.2.2.2.1
  have hB1 : 1 ≤ L → lp_sd P L B' := fun hL => (hb.2.2.2.2.2.2.2.2 hL).1
  refine la_aload_n (k := 1) K dL_law_978 rfl ?_
  refine la_callVlF K ok_X0_trace q813 (lb_trace) 0 rfl rfl rfl rfl rfl (Nat.zero_le _) ⟨Nat.le_of_ble_eq_true rfl, Nat.le_of_ble_eq_true rfl⟩ ⟨by show n.1 + 0 ≤ 603072; omega, by show n.2 + 0 ≤ 7262314; omega⟩ dL_law_979 (fun r u hu => ?_)
  refine la_aload_n (k := 2) K dL_law_982 rfl ?_
  refine la_callVlG K ok_X5_trace q1120 (lm_trace) 0 rfl rfl rfl rfl rfl (Nat.le_of_ble_eq_true rfl) ⟨Nat.le_of_ble_eq_true rfl, Nat.le_of_ble_eq_true rfl⟩ ⟨by show n.1 + 0 + 0 ≤ 603072; omega, by show n.2 + 0 + 0 ≤ 7262314; omega⟩ dL_law_983 (fun r' u' hu' => ?_)
  have key : r = r' ∧ ∃ bk', lj ω.2.2 bk' u' u := by
    obtain ⟨e1, rfl⟩ := hu
    obtain ⟨e2, rfl⟩ := hu'
    exact ⟨e1.trans e2.symm, bk, lj_th h⟩
  obtain ⟨e, bk', hj⟩ := key
  refine la_lcmp K dL_law_986 ?_
  refine la_if_eq K 1005 dL_law_987 rfl (fun _ => ?_) (fun z => absurd ((lg_cmp_eq _ _).mpr e) z)
  exact next _ bk' _ _ (by show n.1 + 0 + 0 ≤ n.1 + 36; omega) (by show n.2 + 0 + 0 ≤ n.2 + 2880; omega) hj
theorem ll_c28 (hH : ll_H ω κ b N xs) (h : lj ω.2.2 bk ((th, S, T, P, R, L, B, Kd, lt, C), (ra, rb, rl, fa), (aa, su), (cp, cl, cf, ck, cm, ct), (le, tr, re), (bh, so, br, rs, ce), (wh, wy)) ((P, R, T, S, L, B', Nw, U, C, Kd), (fr, to, ln, aw), (su', ca, we, fa', sb, tb), (wk, nw, wo), (k0, k1, k2, k3, k4, k5), RE, BF, BK)) (hi : i + 7 ≤ N) (hn : n.1 + 36 ≤ 603072 ∧ n.2 + 2880 ≤ 7262314) (next : ll_Next ω κ b i ad am n) : la_At ω κ n 992 [some (.ref b), some (.ref (ad 0)), some (.ref (am 0)), some (.int (nI i))] [] (lb_W ω.2.2 ad ((P, R, T, S, L, B', Nw, U, C, Kd), (fr, to, ln, aw), (su', ca, we, fa', sb, tb), (wk, nw, wo), (k0, k1, k2, k3, k4, k5), RE, BF, BK) ++ lm_W ω.2.2 am ((th, S, T, P, R, L, B, Kd, lt, C), (ra, rb, rl, fa), (aa, su), (cp, cl, cf, ck, cm, ct), (le, tr, re), (bh, so, br, rs, ce), (wh, wy))) := by
  have K := hH.1
  have hz := hH.2.1
  have hAs := hH.2.2.1
  have hoff := hH.2.2.2.1
  have hN : N ≤ 448 := hH.2.2.2.2.2.2.2
  have hjm := h.2.2.2.2.2.1
  have hjc := h.2.2.2.2.2.2
  have hbm := h.2.2.2.1
  have hbc := h.2.2.2.2.1
  have hb : lb_Jx P R L B' Nw U C Kd fr to ln aw su' ca we fa' sb tb := hjc
  have hm : lm_Jx P R L B C Kd lt ra rb rl fa aa su cp cl cf ck cm ct le tr := hjm
  have hP : P ≤ 6 := hb.1
  have hR15 : R ≤ 15 := hb.2.1
  have hroC : ∀ k, k < R → fr k < P ∧ to k < P ∧ ¬ fr k = to k ∧ ln k ≤ 100 := fun k hk => ⟨(hb.2.2.1 k hk).1, (hb.2.2.1 k hk).2.1, (hb.2.2.1 k hk).2.2.1, (hb.2.2.1 k hk).2.2.2.2⟩
  have hL3 : L ≤ 3 := hb.2.2.2.1
  have hC12 : C ≤ 12 := hb.2.2.2.2.1
  have hKd3 : Kd ≤ 3 := hb.2.2.2.2.2.1
  have hd6 : 1 ≤ L → ∀ a b, a < P → b < P → aw (6 * a + b) ≤ 6400 := fun hL => (hb.2.2.2.2.2.2.2.2 hL).2.2.2.2.1
  have hB1 : 1 ≤ L → lp_sd P L B' := fun hL => (hb.2.2.2.2.2.2.2.2 hL).1
  refine la_aload_n (k := 1) K dL_law_992 rfl ?_
  refine la_callViF K ok_X0_status q817 (lb_status) 0 rfl rfl rfl rfl rfl (Nat.zero_le _) ⟨Nat.le_of_ble_eq_true rfl, Nat.le_of_ble_eq_true rfl⟩ ⟨by show n.1 + 0 ≤ 603072; omega, by show n.2 + 0 ≤ 7262314; omega⟩ dL_law_993 (fun r u hu => ?_)
  refine la_aload_n (k := 2) K dL_law_996 rfl ?_
  refine la_callViG K ok_X5_status q1124 (lm_status) 0 rfl rfl rfl rfl rfl (Nat.le_of_ble_eq_true rfl) ⟨Nat.le_of_ble_eq_true rfl, Nat.le_of_ble_eq_true rfl⟩ ⟨by show n.1 + 0 + 0 ≤ 603072; omega, by show n.2 + 0 + 0 ≤ 7262314; omega⟩ dL_law_997 (fun r' u' hu' => ?_)
  have key : r = r' ∧ ∃ bk', lj ω.2.2 bk' u' u := by
    obtain ⟨e1, rfl⟩ := hu
    obtain ⟨e2, rfl⟩ := hu'
    exact ⟨e1.trans e2.symm, bk, lj_th h⟩
  obtain ⟨e, bk', hj⟩ := key
  refine la_icmp_eq K 1005 dL_law_1000 rfl (fun _ => ?_) (fun z => absurd e z)
  exact next _ bk' _ _ (by show n.1 + 0 + 0 ≤ n.1 + 36; omega) (by show n.2 + 0 + 0 ≤ n.2 + 2880; omega) hj
end LLC
