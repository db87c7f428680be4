/-! THE LAW, cases [7, 8, 9, 10, 11, 12, 13]. Printed by law1.py. -/
section LLB
variable {ω : la_O} {κ : la_K} {b N i : Nat} {xs : Nat → Int32} {ad am : Nat → Nat} {n : Nat × Nat} {bk : lp_Bk}
variable {th S lt : Int32} {T : Int64} {P R L B Kd C : Nat} {ra rb rl fa aa su cp cl cf ck cm le tr re bh so br wh wy : Nat → Nat} {ct rs : Nat → Int32} {ce : Nat → Int64}
variable {B' Nw U : Nat} {fr to ln aw su' ca we fa' sb tb wk nw wo k0 k1 k2 k3 k4 k5 : Nat → Nat} {RE : Nat → Nat → Nat} {BF : Nat → Option Nat} {BK : va_W}
theorem ll_c7 (hH : ll_H ω κ b N xs) (h : lj ω.2.2 bk ((th, S, T, P, R, L, B, Kd, lt, C), (ra, rb, rl, fa), (aa, su), (cp, cl, cf, ck, cm, ct), (le, tr, re), (bh, so, br, rs, ce), (wh, wy)) ((P, R, T, S, L, B', Nw, U, C, Kd), (fr, to, ln, aw), (su', ca, we, fa', sb, tb), (wk, nw, wo), (k0, k1, k2, k3, k4, k5), RE, BF, BK)) (hi : i + 7 ≤ N) (hn : n.1 + 36 ≤ 603072 ∧ n.2 + 2880 ≤ 7262314) (next : ll_Next ω κ b i ad am n) : la_At ω κ n 355 [some (.ref b), some (.ref (ad 0)), some (.ref (am 0)), some (.int (nI i))] [] (lb_W ω.2.2 ad ((P, R, T, S, L, B', Nw, U, C, Kd), (fr, to, ln, aw), (su', ca, we, fa', sb, tb), (wk, nw, wo), (k0, k1, k2, k3, k4, k5), RE, BF, BK) ++ lm_W ω.2.2 am ((th, S, T, P, R, L, B, Kd, lt, C), (ra, rb, rl, fa), (aa, su), (cp, cl, cf, ck, cm, ct), (le, tr, re), (bh, so, br, rs, ce), (wh, wy))) := by
  have K := hH.1
  have hz := hH.2.1
  have hAs := hH.2.2.1
  have hoff := hH.2.2.2.1
  have hN : N ≤ 448 := hH.2.2.2.2.2.2.2
  have hjm := h.2.2.2.2.2.1
  have hjc := h.2.2.2.2.2.2
  have hbm := h.2.2.2.1
  have hbc := h.2.2.2.2.1
  have hb : lb_Jx P R L B' Nw U C Kd fr to ln aw su' ca we fa' sb tb := hjc
  have hm : lm_Jx P R L B C Kd lt ra rb rl fa aa su cp cl cf ck cm ct le tr := hjm
  have hP : P ≤ 6 := hb.1
  have hR15 : R ≤ 15 := hb.2.1
  have hroC : ∀ k, k < R → fr k < P ∧ to k < P ∧ ¬ fr k = to k ∧ ln k ≤ 100 := fun k hk => ⟨(hb.2.2.1 k hk).1, (hb.2.2.1 k hk).2.1, (hb.2.2.1 k hk).2.2.1, (hb.2.2.1 k hk).2.2.2.2⟩
  have hL3 : L ≤ 3 := hb.2.2.2.1
  have hC12 : C ≤ 12 := hb.2.2.2.2.1
  have hKd3 : Kd ≤ 3 := hb.2.2.2.2.2.1
  have hd6 : 1 ≤ L → ∀ a b, a < P → b < P → aw (6 * a + b) ≤ 6400 := fun hL => (hb.2.2.2.2.2.2.2.2 hL).2.2.2.2.1
  have hB1 : 1 ≤ L → lp_sd P L B' := fun hL => (hb.2.2.2.2.2.2.2.2 hL).1
  refine la_aload_n (k := 1) K dL_law_355 rfl ?_
  refine ll_arg hH 1 (by decide +kernel) dL_law_356 dL_law_357 dL_law_358 dL_law_359 dL_law_360 (by omega) ?_
  refine la_callViF K ok_X0_call q314 (lb_call ((xs (i + 1))) hjc) 0 rfl rfl rfl rfl rfl (Nat.zero_le _) ⟨Nat.le_of_ble_eq_true rfl, Nat.le_of_ble_eq_true rfl⟩ ⟨by show n.1 + 0 ≤ 603072; omega, by show n.2 + 0 ≤ 7262314; omega⟩ dL_law_361 (fun r u hu => ?_)
  refine la_aload_n (k := 2) K dL_law_364 rfl ?_
  refine ll_arg hH 1 (by decide +kernel) dL_law_365 dL_law_366 dL_law_367 dL_law_368 dL_law_369 (by omega) ?_
  refine la_callViG K ok_X5_call q983 (lm_call ((xs (i + 1))) hjm) 0 rfl rfl rfl rfl rfl (Nat.le_of_ble_eq_true rfl) ⟨Nat.le_of_ble_eq_true rfl, Nat.le_of_ble_eq_true rfl⟩ ⟨by show n.1 + 0 + 0 ≤ 603072; omega, by show n.2 + 0 + 0 ≤ 7262314; omega⟩ dL_law_370 (fun r' u' hu' => ?_)
  have key : r = r' ∧ ∃ bk', lj ω.2.2 bk' u' u := by
    rcases hu with ⟨g, e1, rfl⟩ | ⟨g, gL, e1, rfl⟩ | ⟨g, gL, gC, e1, rfl⟩ | ⟨p, ep, hp, gL, gC, e1, Nw2, U2, su3, ca3, fa3, tb3, wk3, nw3, wo3, rfl, hc1, hc2, hj2⟩
    · rcases hu' with ⟨g2, e2, rfl⟩ | ⟨g2, gL2, e2, rfl⟩ | ⟨g2, gL2, gC2, e2, rfl⟩ | ⟨p2, ep2, hp2, gL2, gC2, e2, lt2, aa2, su2, cf2, cm2, ct2, le2, rfl, hm2⟩
      · exact ⟨e1.trans e2.symm, bk, lj_th h⟩
      · exact absurd g2 g
      · exact absurd g2 g
      · exact absurd (ll_in ep2 hp2 hP) g
    · rcases hu' with ⟨g2, e2, rfl⟩ | ⟨g2, gL2, e2, rfl⟩ | ⟨g2, gL2, gC2, e2, rfl⟩ | ⟨p2, ep2, hp2, gL2, gC2, e2, lt2, aa2, su2, cf2, cm2, ct2, le2, rfl, hm2⟩
      · exact absurd g g2
      · exact ⟨e1.trans e2.symm, bk, lj_th h⟩
      · omega
      · omega
    · rcases hu' with ⟨g2, e2, rfl⟩ | ⟨g2, gL2, e2, rfl⟩ | ⟨g2, gL2, gC2, e2, rfl⟩ | ⟨p2, ep2, hp2, gL2, gC2, e2, lt2, aa2, su2, cf2, cm2, ct2, le2, rfl, hm2⟩
      · exact absurd g g2
      · omega
      · exact ⟨e1.trans e2.symm, bk, lj_th h⟩
      · omega
    · rcases hu' with ⟨g2, e2, rfl⟩ | ⟨g2, gL2, e2, rfl⟩ | ⟨g2, gL2, gC2, e2, rfl⟩ | ⟨p2, ep2, hp2, gL2, gC2, e2, lt2, aa2, su2, cf2, cm2, ct2, le2, rfl, hm2⟩
      · exact absurd (ll_in ep hp hP) g2
      · omega
      · omega
      · have e3 : p2 = p := ll_nI ep ep2 (by omega) (by omega)
        subst e3
        exact ⟨by rw [e1, e2, lj_cho h gL hp], bk, lj_call h gL hp hc1 hc2 hm2 hj2⟩
  obtain ⟨e, bk', hj⟩ := key
  refine la_icmp_eq K 1005 dL_law_373 rfl (fun _ => ?_) (fun z => absurd e z)
  exact next _ bk' _ _ (by show n.1 + 0 + 0 ≤ n.1 + 36; omega) (by show n.2 + 0 + 0 ≤ n.2 + 2880; omega) hj
theorem ll_c8 (hH : ll_H ω κ b N xs) (h : lj ω.2.2 bk ((th, S, T, P, R, L, B, Kd, lt, C), (ra, rb, rl, fa), (aa, su), (cp, cl, cf, ck, cm, ct), (le, tr, re), (bh, so, br, rs, ce), (wh, wy)) ((P, R, T, S, L, B', Nw, U, C, Kd), (fr, to, ln, aw), (su', ca, we, fa', sb, tb), (wk, nw, wo), (k0, k1, k2, k3, k4, k5), RE, BF, BK)) (hi : i + 7 ≤ N) (hn : n.1 + 36 ≤ 603072 ∧ n.2 + 2880 ≤ 7262314) (next : ll_Next ω κ b i ad am n) : la_At ω κ n 378 [some (.ref b), some (.ref (ad 0)), some (.ref (am 0)), some (.int (nI i))] [] (lb_W ω.2.2 ad ((P, R, T, S, L, B', Nw, U, C, Kd), (fr, to, ln, aw), (su', ca, we, fa', sb, tb), (wk, nw, wo), (k0, k1, k2, k3, k4, k5), RE, BF, BK) ++ lm_W ω.2.2 am ((th, S, T, P, R, L, B, Kd, lt, C), (ra, rb, rl, fa), (aa, su), (cp, cl, cf, ck, cm, ct), (le, tr, re), (bh, so, br, rs, ce), (wh, wy))) := by
  have K := hH.1
  have hz := hH.2.1
  have hAs := hH.2.2.1
  have hoff := hH.2.2.2.1
  have hN : N ≤ 448 := hH.2.2.2.2.2.2.2
  have hjm := h.2.2.2.2.2.1
  have hjc := h.2.2.2.2.2.2
  have hbm := h.2.2.2.1
  have hbc := h.2.2.2.2.1
  have hb : lb_Jx P R L B' Nw U C Kd fr to ln aw su' ca we fa' sb tb := hjc
  have hm : lm_Jx P R L B C Kd lt ra rb rl fa aa su cp cl cf ck cm ct le tr := hjm
  have hP : P ≤ 6 := hb.1
  have hR15 : R ≤ 15 := hb.2.1
  have hroC : ∀ k, k < R → fr k < P ∧ to k < P ∧ ¬ fr k = to k ∧ ln k ≤ 100 := fun k hk => ⟨(hb.2.2.1 k hk).1, (hb.2.2.1 k hk).2.1, (hb.2.2.1 k hk).2.2.1, (hb.2.2.1 k hk).2.2.2.2⟩
  have hL3 : L ≤ 3 := hb.2.2.2.1
  have hC12 : C ≤ 12 := hb.2.2.2.2.1
  have hKd3 : Kd ≤ 3 := hb.2.2.2.2.2.1
  have hd6 : 1 ≤ L → ∀ a b, a < P → b < P → aw (6 * a + b) ≤ 6400 := fun hL => (hb.2.2.2.2.2.2.2.2 hL).2.2.2.2.1
  have hB1 : 1 ≤ L → lp_sd P L B' := fun hL => (hb.2.2.2.2.2.2.2.2 hL).1
  refine la_aload_n (k := 1) K dL_law_378 rfl ?_
  refine la_callViF K ok_X0_back q425 (lb_back hC12 (ll_Nw hb) (ll_back hb)) 0 rfl rfl rfl rfl rfl (Nat.zero_le _) ⟨Nat.le_of_ble_eq_true rfl, Nat.le_of_ble_eq_true rfl⟩ ⟨by show n.1 + 0 ≤ 603072; omega, by show n.2 + 0 ≤ 7262314; omega⟩ dL_law_379 (fun r u hu => ?_)
  refine la_aload_n (k := 2) K dL_law_382 rfl ?_
  refine la_callViG K ok_X5_back q1028 (lm_back hjm) 0 rfl rfl rfl rfl rfl (Nat.le_of_ble_eq_true rfl) ⟨Nat.le_of_ble_eq_true rfl, Nat.le_of_ble_eq_true rfl⟩ ⟨by show n.1 + 0 + 0 ≤ 603072; omega, by show n.2 + 0 + 0 ≤ 7262314; omega⟩ dL_law_383 (fun r' u' hu' => ?_)
  have key : r = r' ∧ ∃ bk', lj ω.2.2 bk' u' u := by
    rcases hu with ⟨g, e1, rfl⟩ | ⟨c, g, e1, rfl⟩
    · rcases hu' with ⟨g2, e2, rfl⟩ | ⟨gL, c2, g2, e2, lt2, aa2, su2, rfl, hm2⟩
      · exact ⟨e1.trans e2.symm, bk, lj_th h⟩
      · omega
    · rcases hu' with ⟨g2, e2, rfl⟩ | ⟨gL, c2, g2, e2, lt2, aa2, su2, rfl, hm2⟩
      · have := ll_L1 hb (by omega)
        omega
      · have e3 : c2 = c := by omega
        subst e3
        subst g
        exact ⟨e1.trans e2.symm, bk, lj_back h hm2⟩
  obtain ⟨e, bk', hj⟩ := key
  refine la_icmp_eq K 1005 dL_law_386 rfl (fun _ => ?_) (fun z => absurd e z)
  exact next _ bk' _ _ (by show n.1 + 0 + 0 ≤ n.1 + 36; omega) (by show n.2 + 0 + 0 ≤ n.2 + 2880; omega) hj
theorem ll_c9 (hH : ll_H ω κ b N xs) (h : lj ω.2.2 bk ((th, S, T, P, R, L, B, Kd, lt, C), (ra, rb, rl, fa), (aa, su), (cp, cl, cf, ck, cm, ct), (le, tr, re), (bh, so, br, rs, ce), (wh, wy)) ((P, R, T, S, L, B', Nw, U, C, Kd), (fr, to, ln, aw), (su', ca, we, fa', sb, tb), (wk, nw, wo), (k0, k1, k2, k3, k4, k5), RE, BF, BK)) (hi : i + 7 ≤ N) (hn : n.1 + 36 ≤ 603072 ∧ n.2 + 2880 ≤ 7262314) (next : ll_Next ω κ b i ad am n) : la_At ω κ n 391 [some (.ref b), some (.ref (ad 0)), some (.ref (am 0)), some (.int (nI i))] [] (lb_W ω.2.2 ad ((P, R, T, S, L, B', Nw, U, C, Kd), (fr, to, ln, aw), (su', ca, we, fa', sb, tb), (wk, nw, wo), (k0, k1, k2, k3, k4, k5), RE, BF, BK) ++ lm_W ω.2.2 am ((th, S, T, P, R, L, B, Kd, lt, C), (ra, rb, rl, fa), (aa, su), (cp, cl, cf, ck, cm, ct), (le, tr, re), (bh, so, br, rs, ce), (wh, wy))) := by
  have K := hH.1
  have hz := hH.2.1
  have hAs := hH.2.2.1
  have hoff := hH.2.2.2.1
  have hN : N ≤ 448 := hH.2.2.2.2.2.2.2
  have hjm := h.2.2.2.2.2.1
  have hjc := h.2.2.2.2.2.2
  have hbm := h.2.2.2.1
  have hbc := h.2.2.2.2.1
  have hb : lb_Jx P R L B' Nw U C Kd fr to ln aw su' ca we fa' sb tb := hjc
  have hm : lm_Jx P R L B C Kd lt ra rb rl fa aa su cp cl cf ck cm ct le tr := hjm
  have hP : P ≤ 6 := hb.1
  have hR15 : R ≤ 15 := hb.2.1
  have hroC : ∀ k, k < R → fr k < P ∧ to k < P ∧ ¬ fr k = to k ∧ ln k ≤ 100 := fun k hk => ⟨(hb.2.2.1 k hk).1, (hb.2.2.1 k hk).2.1, (hb.2.2.1 k hk).2.2.1, (hb.2.2.1 k hk).2.2.2.2⟩
  have hL3 : L ≤ 3 := hb.2.2.2.1
  have hC12 : C ≤ 12 := hb.2.2.2.2.1
  have hKd3 : Kd ≤ 3 := hb.2.2.2.2.2.1
  have hd6 : 1 ≤ L → ∀ a b, a < P → b < P → aw (6 * a + b) ≤ 6400 := fun hL => (hb.2.2.2.2.2.2.2.2 hL).2.2.2.2.1
  have hB1 : 1 ≤ L → lp_sd P L B' := fun hL => (hb.2.2.2.2.2.2.2.2 hL).1
  refine la_aload_n (k := 1) K dL_law_391 rfl ?_
  refine la_callViF K ok_X0_cruel q429 (lb_cruel hjc) 0 rfl rfl rfl rfl rfl (Nat.zero_le _) ⟨Nat.le_of_ble_eq_true rfl, Nat.le_of_ble_eq_true rfl⟩ ⟨by show n.1 + 0 ≤ 603072; omega, by show n.2 + 0 ≤ 7262314; omega⟩ dL_law_392 (fun r u hu => ?_)
  refine la_aload_n (k := 2) K dL_law_395 rfl ?_
  refine la_callViG K ok_X5_cruel q1032 (lm_cruel hjm) 0 rfl rfl rfl rfl rfl (Nat.le_of_ble_eq_true rfl) ⟨Nat.le_of_ble_eq_true rfl, Nat.le_of_ble_eq_true rfl⟩ ⟨by show n.1 + 0 + 0 ≤ 603072; omega, by show n.2 + 0 + 0 ≤ 7262314; omega⟩ dL_law_396 (fun r' u' hu' => ?_)
  have key : r = r' ∧ ∃ bk', lj ω.2.2 bk' u' u := by
    rcases hu with ⟨g, e1, rfl⟩ | ⟨gL, p, hp, hu⟩
    · rcases hu' with ⟨g2, e2, rfl⟩ | ⟨gL2, p2, hp2, hu'⟩
      · exact ⟨e1.trans e2.symm, bk, lj_th h⟩
      · exfalso
        rcases g with g | g
        · omega
        · rw [← lj_now h gL2] at hp2
          exact hp2.2.1 (g p2 hp2.1)
    · rcases hu' with ⟨g2, e2, rfl⟩ | ⟨gL2, p2, hp2, hu'⟩
      · exfalso
        rcases g2 with g | g
        · omega
        · rw [← lj_now h gL] at g
          exact hp.2.1 (g p hp.1)
      · have hp3 := hp2
        rw [← lj_now h gL] at hp3
        have e3 : p2 = p := lp_free_uniq hp3 hp
        subst e3
        rcases hu with ⟨gC, e1, rfl⟩ | ⟨gC, e1, Nw2, U2, su3, ca3, fa3, tb3, wk3, nw3, wo3, rfl, hc1, hc2, hj2⟩
        · rcases hu' with ⟨gC2, e2, rfl⟩ | ⟨gC2, -⟩
          · exact ⟨e1.trans e2.symm, bk, lj_th h⟩
          · omega
        · rcases hu' with ⟨gC2, -⟩ | ⟨gC2, e2, lt2, aa2, su2, cf2, cm2, ct2, le2, rfl, hm2⟩
          · omega
          · exact ⟨e1.trans e2.symm, bk, lj_call h gL hp.1 hc1 hc2 hm2 hj2⟩
  obtain ⟨e, bk', hj⟩ := key
  refine la_icmp_eq K 1005 dL_law_399 rfl (fun _ => ?_) (fun z => absurd e z)
  exact next _ bk' _ _ (by show n.1 + 0 + 0 ≤ n.1 + 36; omega) (by show n.2 + 0 + 0 ≤ n.2 + 2880; omega) hj
theorem ll_c10 (hH : ll_H ω κ b N xs) (h : lj ω.2.2 bk ((th, S, T, P, R, L, B, Kd, lt, C), (ra, rb, rl, fa), (aa, su), (cp, cl, cf, ck, cm, ct), (le, tr, re), (bh, so, br, rs, ce), (wh, wy)) ((P, R, T, S, L, B', Nw, U, C, Kd), (fr, to, ln, aw), (su', ca, we, fa', sb, tb), (wk, nw, wo), (k0, k1, k2, k3, k4, k5), RE, BF, BK)) (hi : i + 7 ≤ N) (hn : n.1 + 36 ≤ 603072 ∧ n.2 + 2880 ≤ 7262314) (next : ll_Next ω κ b i ad am n) : la_At ω κ n 404 [some (.ref b), some (.ref (ad 0)), some (.ref (am 0)), some (.int (nI i))] [] (lb_W ω.2.2 ad ((P, R, T, S, L, B', Nw, U, C, Kd), (fr, to, ln, aw), (su', ca, we, fa', sb, tb), (wk, nw, wo), (k0, k1, k2, k3, k4, k5), RE, BF, BK) ++ lm_W ω.2.2 am ((th, S, T, P, R, L, B, Kd, lt, C), (ra, rb, rl, fa), (aa, su), (cp, cl, cf, ck, cm, ct), (le, tr, re), (bh, so, br, rs, ce), (wh, wy))) := by
  have K := hH.1
  have hz := hH.2.1
  have hAs := hH.2.2.1
  have hoff := hH.2.2.2.1
  have hN : N ≤ 448 := hH.2.2.2.2.2.2.2
  have hjm := h.2.2.2.2.2.1
  have hjc := h.2.2.2.2.2.2
  have hbm := h.2.2.2.1
  have hbc := h.2.2.2.2.1
  have hb : lb_Jx P R L B' Nw U C Kd fr to ln aw su' ca we fa' sb tb := hjc
  have hm : lm_Jx P R L B C Kd lt ra rb rl fa aa su cp cl cf ck cm ct le tr := hjm
  have hP : P ≤ 6 := hb.1
  have hR15 : R ≤ 15 := hb.2.1
  have hroC : ∀ k, k < R → fr k < P ∧ to k < P ∧ ¬ fr k = to k ∧ ln k ≤ 100 := fun k hk => ⟨(hb.2.2.1 k hk).1, (hb.2.2.1 k hk).2.1, (hb.2.2.1 k hk).2.2.1, (hb.2.2.1 k hk).2.2.2.2⟩
  have hL3 : L ≤ 3 := hb.2.2.2.1
  have hC12 : C ≤ 12 := hb.2.2.2.2.1
  have hKd3 : Kd ≤ 3 := hb.2.2.2.2.2.1
  have hd6 : 1 ≤ L → ∀ a b, a < P → b < P → aw (6 * a + b) ≤ 6400 := fun hL => (hb.2.2.2.2.2.2.2.2 hL).2.2.2.2.1
  have hB1 : 1 ≤ L → lp_sd P L B' := fun hL => (hb.2.2.2.2.2.2.2.2 hL).1
  refine la_aload_n (k := 1) K dL_law_404 rfl ?_
  refine ll_arg hH 1 (by decide +kernel) dL_law_405 dL_law_406 dL_law_407 dL_law_408 dL_law_409 (by omega) ?_
  refine la_callViF K ok_X0_ask q433 (lb_ask ((xs (i + 1))) hjc) 0 rfl rfl rfl rfl rfl (Nat.zero_le _) ⟨Nat.le_of_ble_eq_true rfl, Nat.le_of_ble_eq_true rfl⟩ ⟨by show n.1 + 0 ≤ 603072; omega, by show n.2 + 0 ≤ 7262314; omega⟩ dL_law_410 (fun r u hu => ?_)
  refine la_aload_n (k := 2) K dL_law_413 rfl ?_
  refine ll_arg hH 1 (by decide +kernel) dL_law_414 dL_law_415 dL_law_416 dL_law_417 dL_law_418 (by omega) ?_
  refine la_callViG K ok_X5_ask q1036 (lm_ask ((xs (i + 1))) hjm) 0 rfl rfl rfl rfl rfl (Nat.le_of_ble_eq_true rfl) ⟨Nat.le_of_ble_eq_true rfl, Nat.le_of_ble_eq_true rfl⟩ ⟨by show n.1 + 0 + 0 ≤ 603072; omega, by show n.2 + 0 + 0 ≤ 7262314; omega⟩ dL_law_419 (fun r' u' hu' => ?_)
  have key : r = r' ∧ ∃ bk', lj ω.2.2 bk' u' u := by
    rcases hu with ⟨g, e1, rfl⟩ | ⟨g, gL, e1, rfl⟩ | ⟨p, ep, hp, gL, e1, ca3, wk3, nw3, wo3, rfl, hc1, hj2⟩
    · rcases hu' with ⟨g2, e2, rfl⟩ | ⟨g2, gL2, e2, rfl⟩ | ⟨p2, ep2, hp2, gL2, e2, tr2, rfl, hm2⟩
      · exact ⟨e1.trans e2.symm, bk, lj_th h⟩
      · exact absurd g2 g
      · exact absurd (ll_in ep2 hp2 hP) g
    · rcases hu' with ⟨g2, e2, rfl⟩ | ⟨g2, gL2, e2, rfl⟩ | ⟨p2, ep2, hp2, gL2, e2, tr2, rfl, hm2⟩
      · exact absurd g g2
      · exact ⟨e1.trans e2.symm, bk, lj_th h⟩
      · omega
    · rcases hu' with ⟨g2, e2, rfl⟩ | ⟨g2, gL2, e2, rfl⟩ | ⟨p2, ep2, hp2, gL2, e2, tr2, rfl, hm2⟩
      · exact absurd (ll_in ep hp hP) g2
      · omega
      · have e3 : p2 = p := ll_nI ep ep2 (by omega) (by omega)
        subst e3
        exact ⟨by rw [e1, e2, lj_cho h gL hp], bk, lj_ask h gL hc1 hm2 hj2⟩
  obtain ⟨e, bk', hj⟩ := key
  refine la_icmp_eq K 1005 dL_law_422 rfl (fun _ => ?_) (fun z => absurd e z)
  exact next _ bk' _ _ (by show n.1 + 0 + 0 ≤ n.1 + 36; omega) (by show n.2 + 0 + 0 ≤ n.2 + 2880; omega) hj
theorem ll_c11 (hH : ll_H ω κ b N xs) (h : lj ω.2.2 bk ((th, S, T, P, R, L, B, Kd, lt, C), (ra, rb, rl, fa), (aa, su), (cp, cl, cf, ck, cm, ct), (le, tr, re), (bh, so, br, rs, ce), (wh, wy)) ((P, R, T, S, L, B', Nw, U, C, Kd), (fr, to, ln, aw), (su', ca, we, fa', sb, tb), (wk, nw, wo), (k0, k1, k2, k3, k4, k5), RE, BF, BK)) (hi : i + 7 ≤ N) (hn : n.1 + 36 ≤ 603072 ∧ n.2 + 2880 ≤ 7262314) (next : ll_Next ω κ b i ad am n) : la_At ω κ n 427 [some (.ref b), some (.ref (ad 0)), some (.ref (am 0)), some (.int (nI i))] [] (lb_W ω.2.2 ad ((P, R, T, S, L, B', Nw, U, C, Kd), (fr, to, ln, aw), (su', ca, we, fa', sb, tb), (wk, nw, wo), (k0, k1, k2, k3, k4, k5), RE, BF, BK) ++ lm_W ω.2.2 am ((th, S, T, P, R, L, B, Kd, lt, C), (ra, rb, rl, fa), (aa, su), (cp, cl, cf, ck, cm, ct), (le, tr, re), (bh, so, br, rs, ce), (wh, wy))) := by
  have K := hH.1
  have hz := hH.2.1
  have hAs := hH.2.2.1
  have hoff := hH.2.2.2.1
  have hN : N ≤ 448 := hH.2.2.2.2.2.2.2
  have hjm := h.2.2.2.2.2.1
  have hjc := h.2.2.2.2.2.2
  have hbm := h.2.2.2.1
  have hbc := h.2.2.2.2.1
  have hb : lb_Jx P R L B' Nw U C Kd fr to ln aw su' ca we fa' sb tb := hjc
  have hm : lm_Jx P R L B C Kd lt ra rb rl fa aa su cp cl cf ck cm ct le tr := hjm
  have hP : P ≤ 6 := hb.1
  have hR15 : R ≤ 15 := hb.2.1
  have hroC : ∀ k, k < R → fr k < P ∧ to k < P ∧ ¬ fr k = to k ∧ ln k ≤ 100 := fun k hk => ⟨(hb.2.2.1 k hk).1, (hb.2.2.1 k hk).2.1, (hb.2.2.1 k hk).2.2.1, (hb.2.2.1 k hk).2.2.2.2⟩
  have hL3 : L ≤ 3 := hb.2.2.2.1
  have hC12 : C ≤ 12 := hb.2.2.2.2.1
  have hKd3 : Kd ≤ 3 := hb.2.2.2.2.2.1
  have hd6 : 1 ≤ L → ∀ a b, a < P → b < P → aw (6 * a + b) ≤ 6400 := fun hL => (hb.2.2.2.2.2.2.2.2 hL).2.2.2.2.1
  have hB1 : 1 ≤ L → lp_sd P L B' := fun hL => (hb.2.2.2.2.2.2.2.2 hL).1
  refine la_aload_n (k := 1) K dL_law_427 rfl ?_
  refine la_callViF K ok_X0_stand q445 (lb_stand hL3) 0 rfl rfl rfl rfl rfl (Nat.zero_le _) ⟨Nat.le_of_ble_eq_true rfl, Nat.le_of_ble_eq_true rfl⟩ ⟨by show n.1 + 0 ≤ 603072; omega, by show n.2 + 0 ≤ 7262314; omega⟩ dL_law_428 (fun r u hu => ?_)
  refine la_aload_n (k := 2) K dL_law_431 rfl ?_
  refine la_callViG K ok_X5_stand q1040 (lm_stand hjm) 0 rfl rfl rfl rfl rfl (Nat.le_of_ble_eq_true rfl) ⟨Nat.le_of_ble_eq_true rfl, Nat.le_of_ble_eq_true rfl⟩ ⟨by show n.1 + 0 + 0 ≤ 603072; omega, by show n.2 + 0 + 0 ≤ 7262314; omega⟩ dL_law_432 (fun r' u' hu' => ?_)
  have key : r = r' ∧ ∃ bk', lj ω.2.2 bk' u' ((P, R, T, S, L, B', Nw, U, C, Kd), (fr, to, ln, aw), (su', ca, we, fa', sb, tb), (wk, nw, wo), (k0, k1, k2, k3, k4, k5), RE, BF, BK) := by
    obtain ⟨e2, rfl⟩ := hu'
    exact ⟨hu.trans ((lj_stand h).trans e2.symm), bk, lj_th h⟩
  obtain ⟨e, bk', hj⟩ := key
  refine la_icmp_eq K 1005 dL_law_435 rfl (fun _ => ?_) (fun z => absurd e z)
  exact next _ bk' _ _ (by show n.1 + 0 + 0 ≤ n.1 + 36; omega) (by show n.2 + 0 + 0 ≤ n.2 + 2880; omega) hj
theorem ll_c12 (hH : ll_H ω κ b N xs) (h : lj ω.2.2 bk ((th, S, T, P, R, L, B, Kd, lt, C), (ra, rb, rl, fa), (aa, su), (cp, cl, cf, ck, cm, ct), (le, tr, re), (bh, so, br, rs, ce), (wh, wy)) ((P, R, T, S, L, B', Nw, U, C, Kd), (fr, to, ln, aw), (su', ca, we, fa', sb, tb), (wk, nw, wo), (k0, k1, k2, k3, k4, k5), RE, BF, BK)) (hi : i + 7 ≤ N) (hn : n.1 + 36 ≤ 603072 ∧ n.2 + 2880 ≤ 7262314) (next : ll_Next ω κ b i ad am n) : la_At ω κ n 440 [some (.ref b), some (.ref (ad 0)), some (.ref (am 0)), some (.int (nI i))] [] (lb_W ω.2.2 ad ((P, R, T, S, L, B', Nw, U, C, Kd), (fr, to, ln, aw), (su', ca, we, fa', sb, tb), (wk, nw, wo), (k0, k1, k2, k3, k4, k5), RE, BF, BK) ++ lm_W ω.2.2 am ((th, S, T, P, R, L, B, Kd, lt, C), (ra, rb, rl, fa), (aa, su), (cp, cl, cf, ck, cm, ct), (le, tr, re), (bh, so, br, rs, ce), (wh, wy))) := by
  have K := hH.1
  have hz := hH.2.1
  have hAs := hH.2.2.1
  have hoff := hH.2.2.2.1
  have hN : N ≤ 448 := hH.2.2.2.2.2.2.2
  have hjm := h.2.2.2.2.2.1
  have hjc := h.2.2.2.2.2.2
  have hbm := h.2.2.2.1
  have hbc := h.2.2.2.2.1
  have hb : lb_Jx P R L B' Nw U C Kd fr to ln aw su' ca we fa' sb tb := hjc
  have hm : lm_Jx P R L B C Kd lt ra rb rl fa aa su cp cl cf ck cm ct le tr := hjm
  have hP : P ≤ 6 := hb.1
  have hR15 : R ≤ 15 := hb.2.1
  have hroC : ∀ k, k < R → fr k < P ∧ to k < P ∧ ¬ fr k = to k ∧ ln k ≤ 100 := fun k hk => ⟨(hb.2.2.1 k hk).1, (hb.2.2.1 k hk).2.1, (hb.2.2.1 k hk).2.2.1, (hb.2.2.1 k hk).2.2.2.2⟩
  have hL3 : L ≤ 3 := hb.2.2.2.1
  have hC12 : C ≤ 12 := hb.2.2.2.2.1
  have hKd3 : Kd ≤ 3 := hb.2.2.2.2.2.1
  have hd6 : 1 ≤ L → ∀ a b, a < P → b < P → aw (6 * a + b) ≤ 6400 := fun hL => (hb.2.2.2.2.2.2.2.2 hL).2.2.2.2.1
  have hB1 : 1 ≤ L → lp_sd P L B' := fun hL => (hb.2.2.2.2.2.2.2.2 hL).1
  refine la_aload_n (k := 1) K dL_law_440 rfl ?_
  refine ll_arg hH 1 (by decide +kernel) dL_law_441 dL_law_442 dL_law_443 dL_law_444 dL_law_445 (by omega) ?_
  refine ll_arg hH 2 (by decide +kernel) dL_law_446 dL_law_447 dL_law_448 dL_law_449 dL_law_450 (by omega) ?_
  refine la_callViF K ok_X0_told q449 (lb_told ((xs (i + 1))) ((xs (i + 2))) hC12 (ll_fa hb)) 0 rfl rfl rfl rfl rfl (Nat.zero_le _) ⟨Nat.le_of_ble_eq_true rfl, Nat.le_of_ble_eq_true rfl⟩ ⟨by show n.1 + 0 ≤ 603072; omega, by show n.2 + 0 ≤ 7262314; omega⟩ dL_law_451 (fun r u hu => ?_)
  refine la_aload_n (k := 2) K dL_law_454 rfl ?_
  refine ll_arg hH 1 (by decide +kernel) dL_law_455 dL_law_456 dL_law_457 dL_law_458 dL_law_459 (by omega) ?_
  refine ll_arg hH 2 (by decide +kernel) dL_law_460 dL_law_461 dL_law_462 dL_law_463 dL_law_464 (by omega) ?_
  refine la_callViG K ok_X5_told q1044 (lm_told ((xs (i + 1))) ((xs (i + 2))) hC12) 0 rfl rfl rfl rfl rfl (Nat.le_of_ble_eq_true rfl) ⟨Nat.le_of_ble_eq_true rfl, Nat.le_of_ble_eq_true rfl⟩ ⟨by show n.1 + 0 + 0 ≤ 603072; omega, by show n.2 + 0 + 0 ≤ 7262314; omega⟩ dL_law_465 (fun r' u' hu' => ?_)
  have key : r = r' ∧ ∃ bk', lj ω.2.2 bk' u' ((P, R, T, S, L, B', Nw, U, C, Kd), (fr, to, ln, aw), (su', ca, we, fa', sb, tb), (wk, nw, wo), (k0, k1, k2, k3, k4, k5), RE, BF, BK) := by
    obtain ⟨e2, rfl⟩ := hu'
    exact ⟨hu.trans ((lj_told h _ _).trans e2.symm), bk, lj_th h⟩
  obtain ⟨e, bk', hj⟩ := key
  refine la_icmp_eq K 1005 dL_law_468 rfl (fun _ => ?_) (fun z => absurd e z)
  exact next _ bk' _ _ (by show n.1 + 0 + 0 ≤ n.1 + 36; omega) (by show n.2 + 0 + 0 ≤ n.2 + 2880; omega) hj
theorem ll_c13 (hH : ll_H ω κ b N xs) (h : lj ω.2.2 bk ((th, S, T, P, R, L, B, Kd, lt, C), (ra, rb, rl, fa), (aa, su), (cp, cl, cf, ck, cm, ct), (le, tr, re), (bh, so, br, rs, ce), (wh, wy)) ((P, R, T, S, L, B', Nw, U, C, Kd), (fr, to, ln, aw), (su', ca, we, fa', sb, tb), (wk, nw, wo), (k0, k1, k2, k3, k4, k5), RE, BF, BK)) (hi : i + 7 ≤ N) (hn : n.1 + 36 ≤ 603072 ∧ n.2 + 2880 ≤ 7262314) (next : ll_Next ω κ b i ad am n) : la_At ω κ n 473 [some (.ref b), some (.ref (ad 0)), some (.ref (am 0)), some (.int (nI i))] [] (lb_W ω.2.2 ad ((P, R, T, S, L, B', Nw, U, C, Kd), (fr, to, ln, aw), (su', ca, we, fa', sb, tb), (wk, nw, wo), (k0, k1, k2, k3, k4, k5), RE, BF, BK) ++ lm_W ω.2.2 am ((th, S, T, P, R, L, B, Kd, lt, C), (ra, rb, rl, fa), (aa, su), (cp, cl, cf, ck, cm, ct), (le, tr, re), (bh, so, br, rs, ce), (wh, wy))) := by
  have K := hH.1
  have hz := hH.2.1
  have hAs := hH.2.2.1
  have hoff := hH.2.2.2.1
  have hN : N ≤ 448 := hH.2.2.2.2.2.2.2
  have hjm := h.2.2.2.2.2.1
  have hjc := h.2.2.2.2.2.2
  have hbm := h.2.2.2.1
  have hbc := h.2.2.2.2.1
  have hb : lb_Jx P R L B' Nw U C Kd fr to ln aw su' ca we fa' sb tb := hjc
  have hm : lm_Jx P R L B C Kd lt ra rb rl fa aa su cp cl cf ck cm ct le tr := hjm
  have hP : P ≤ 6 := hb.1
  have hR15 : R ≤ 15 := hb.2.1
  have hroC : ∀ k, k < R → fr k < P ∧ to k < P ∧ ¬ fr k = to k ∧ ln k ≤ 100 := fun k hk => ⟨(hb.2.2.1 k hk).1, (hb.2.2.1 k hk).2.1, (hb.2.2.1 k hk).2.2.1, (hb.2.2.1 k hk).2.2.2.2⟩
  have hL3 : L ≤ 3 := hb.2.2.2.1
  have hC12 : C ≤ 12 := hb.2.2.2.2.1
  have hKd3 : Kd ≤ 3 := hb.2.2.2.2.2.1
  have hd6 : 1 ≤ L → ∀ a b, a < P → b < P → aw (6 * a + b) ≤ 6400 := fun hL => (hb.2.2.2.2.2.2.2.2 hL).2.2.2.2.1
  have hB1 : 1 ≤ L → lp_sd P L B' := fun hL => (hb.2.2.2.2.2.2.2.2 hL).1
  refine la_aload_n (k := 1) K dL_law_473 rfl ?_
  refine ll_arg hH 1 (by decide +kernel) dL_law_474 dL_law_475 dL_law_476 dL_law_477 dL_law_478 (by omega) ?_
  refine la_callViF K ok_X0_cost q453 (lb_cost ((xs (i + 1))) hL3) 0 rfl rfl rfl rfl rfl (Nat.zero_le _) ⟨Nat.le_of_ble_eq_true rfl, Nat.le_of_ble_eq_true rfl⟩ ⟨by show n.1 + 0 ≤ 603072; omega, by show n.2 + 0 ≤ 7262314; omega⟩ dL_law_479 (fun r u hu => ?_)
  refine la_aload_n (k := 2) K dL_law_482 rfl ?_
  refine ll_arg hH 1 (by decide +kernel) dL_law_483 dL_law_484 dL_law_485 dL_law_486 dL_law_487 (by omega) ?_
  refine la_callViG K ok_X5_cost q1048 (lm_cost ((xs (i + 1))) hL3) 0 rfl rfl rfl rfl rfl (Nat.le_of_ble_eq_true rfl) ⟨Nat.le_of_ble_eq_true rfl, Nat.le_of_ble_eq_true rfl⟩ ⟨by show n.1 + 0 + 0 ≤ 603072; omega, by show n.2 + 0 + 0 ≤ 7262314; omega⟩ dL_law_488 (fun r' u' hu' => ?_)
  have key : r = r' ∧ ∃ bk', lj ω.2.2 bk' u' ((P, R, T, S, L, B', Nw, U, C, Kd), (fr, to, ln, aw), (su', ca, we, fa', sb, tb), (wk, nw, wo), (k0, k1, k2, k3, k4, k5), RE, BF, BK) := by
    obtain ⟨e2, rfl⟩ := hu'
    exact ⟨hu.trans ((lj_cost h _).trans e2.symm), bk, lj_th h⟩
  obtain ⟨e, bk', hj⟩ := key
  refine la_icmp_eq K 1005 dL_law_491 rfl (fun _ => ?_) (fun z => absurd e z)
  exact next _ bk' _ _ (by show n.1 + 0 + 0 ≤ n.1 + 36; omega) (by show n.2 + 0 + 0 ≤ n.2 + 2880; omega) hj
end LLB
