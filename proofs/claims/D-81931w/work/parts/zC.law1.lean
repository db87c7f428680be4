/-! THE LAW: rows, and one theorem a case. Printed by law1.py. -/
/-- what holds all through the law's run: the script of N ints xs at b, the words, no traces -/
def ll_H (ω : la_O) (κ : la_K) (b N : Nat) (xs : Nat → Int32) : Prop := la_Cx ω κ cL_law 4 "LadderCallsLaw" room_1 ∧ lt_Zs (la_s κ) ∧ lt_As κ ∧ lt_off ω.1 ∧ va_X b N xs (la_s κ) (la_s κ).heap ∧ b < (la_s κ).heap.size ∧ ¬ la_A κ b ∧ N ≤ 448
/-- behind a case -/
def ll_Next (ω : la_O) (κ : la_K) (b i : Nat) (ad am : Nat → Nat) (n : Nat × Nat) : Prop := ∀ (n' : Nat × Nat) (bk' : lp_Bk) (τ' : lm_S) (σ' : lb_S), n'.1 ≤ n.1 + 36 → n'.2 ≤ n.2 + 2880 → lj ω.2.2 bk' τ' σ' → la_At ω κ n' 1005 [some (.ref b), some (.ref (ad 0)), some (.ref (am 0)), some (.int (nI i))] [] (lb_W ω.2.2 ad σ' ++ lm_W ω.2.2 am τ')
section LLR
variable {ω : la_O} {κ : la_K} {b N i : Nat} {xs : Nat → Int32} {ad am : Nat → Nat} {n : Nat × Nat} {pc : Nat} {lv : List (Option Value)} {st : List Value} {ws : va_W}
theorem ll_sld (hH : ll_H ω κ b N xs) {i : Nat} (hd : decode cL_law pc = .ok (.iaload, 1)) (hi : i < N) (kk : la_At ω κ n (pc + 1) lv (.int (xs i) :: st) ws) : la_At ω κ n pc lv (.int (nI i) :: .ref b :: st) ws := by
  obtain ⟨⟨hx, hb, -⟩, -, -, -, hX, hbl, hbA, hN⟩ := hH
  intro H locs ls hP hD hS hl
  refine va_sld hx hb hX hbl hbA hS (i := nI i) (vp_in_nI hi (by omega)) hd ?_
  rw [nI_clamp (by omega)]
  exact kk H locs ls hP hD hS hl
theorem ll_len (hH : ll_H ω κ b N xs) (hd : decode cL_law pc = .ok (.arraylength, 1)) (kk : la_At ω κ n (pc + 1) lv (.int (nI N) :: st) ws) : la_At ω κ n pc lv (.ref b :: st) ws := by
  obtain ⟨⟨hx, hb, -⟩, -, -, -, hX, hbl, hbA, hN⟩ := hH
  intro H locs ls hP hD hS hl
  exact va_slen hx hb hX hbl hbA hS hd (kk H locs ls hP hD hS hl)
theorem ll_arg (hH : ll_H ω κ b N xs) (k : Nat) {z : Int} (hz : Int32.ofInt z = nI k) (d0 : decode cL_law pc = .ok (.aload_n 0, 1)) (d1 : decode cL_law (pc + 1) = .ok (.iload_n 3, 1)) (d2 : decode cL_law (pc + 2) = .ok (.iconst z, 1)) (d3 : decode cL_law (pc + 3) = .ok (.iadd, 1)) (d4 : decode cL_law (pc + 4) = .ok (.iaload, 1)) (hi : i + k < N) (kk : la_At ω κ n (pc + 5) [some (.ref b), some (.ref (ad 0)), some (.ref (am 0)), some (.int (nI i))] (.int (xs (i + k)) :: st) ws) : la_At ω κ n pc [some (.ref b), some (.ref (ad 0)), some (.ref (am 0)), some (.int (nI i))] st ws :=
  la_aload_n (k := 0) hH.1 d0 rfl (la_iload_n (k := 3) hH.1 d1 rfl (la_iconst hH.1 d2 hz (la_iaddN hH.1 d3 (ll_sld hH d4 hi kk))))
theorem ll_argB (hH : ll_H ω κ b N xs) (k : Nat) {z : Int} (hz : (Int8.ofInt z).toInt32 = nI k) (d0 : decode cL_law pc = .ok (.aload_n 0, 1)) (d1 : decode cL_law (pc + 1) = .ok (.iload_n 3, 1)) (d2 : decode cL_law (pc + 2) = .ok (.bipush z, 2)) (d3 : decode cL_law (pc + 4) = .ok (.iadd, 1)) (d4 : decode cL_law (pc + 5) = .ok (.iaload, 1)) (hi : i + k < N) (kk : la_At ω κ n (pc + 6) [some (.ref b), some (.ref (ad 0)), some (.ref (am 0)), some (.int (nI i))] (.int (xs (i + k)) :: st) ws) : la_At ω κ n pc [some (.ref b), some (.ref (ad 0)), some (.ref (am 0)), some (.int (nI i))] st ws :=
  la_aload_n (k := 0) hH.1 d0 rfl (la_iload_n (k := 3) hH.1 d1 rfl (la_bipush hH.1 d2 hz (la_iaddN hH.1 d3 (ll_sld hH d4 hi kk))))
theorem ll_in {x : Int32} {p P : Nat} (e : x = nI p) (hp : p < P) (hP : P ≤ 6) : lp_in x P := by
  rw [e]
  unfold lp_in
  rw [nI_toInt (by omega)]
  omega
theorem ll_inI {x : Int32} {p a b : Nat} (e : x = nI p) (h1 : a ≤ p) (h2 : p ≤ b) (hb : b < 1000) : lp_inI x a b := by
  rw [e]
  exact (lp_inI_nI (by omega)).mpr ⟨h1, h2⟩
theorem ll_le {x : Int32} {p b : Nat} (e : x = nI p) (h : p ≤ b) (hb : b < 1000) : x ≤ nI b := by
  rw [e]
  exact nI_le h (by omega)
theorem ll_neg {x : Int32} {b : Nat} (h : x < 0) (hb : b < 1000) : x ≤ nI b := by
  have h0 : (0 : Int32) ≤ nI b := by
    rw [← nI_0]
    exact nI_le (Nat.zero_le b) (by omega)
  exact Int32.le_trans (Int32.le_of_lt h) h0
theorem ll_nn {x : Int32} {p b : Nat} (e : x = nI p) (h : p ≤ b) (hb : b < 1000) : ¬ x < 0 := by
  intro hx
  rw [e, ← nI_0] at hx
  exact Nat.not_lt_zero _ ((nI_ltI (by omega) (by omega)).mp hx)
theorem ll_nI {x : Int32} {p q : Nat} (e1 : x = nI p) (e2 : x = nI q) (hp : p < 1000) (hq : q < 1000) : q = p := (nI_eq (by omega) (by omega)).mp (e2.symm.trans e1)
theorem lt_iv {r x : Int32} (h : (Sum.inl (some (Value.int r)) : lt_R) = Sum.inl (some (Value.int x))) : r = x := by
  cases h
  rfl
theorem lt_lv {r x : Int64} (h : (Sum.inl (some (Value.long r)) : lt_R) = Sum.inl (some (Value.long x))) : r = x := by
  cases h
  rfl
end LLR
section LLA
variable {ω : la_O} {κ : la_K} {b N i : Nat} {xs : Nat → Int32} {ad am : Nat → Nat} {n : Nat × Nat} {bk : lp_Bk}
variable {th S lt : Int32} {T : Int64} {P R L B Kd C : Nat} {ra rb rl fa aa su cp cl cf ck cm le tr re bh so br wh wy : Nat → Nat} {ct rs : Nat → Int32} {ce : Nat → Int64}
variable {B' Nw U : Nat} {fr to ln aw su' ca we fa' sb tb wk nw wo k0 k1 k2 k3 k4 k5 : Nat → Nat} {RE : Nat → Nat → Nat} {BF : Nat → Option Nat} {BK : va_W}
theorem ll_haw (hb : lb_Jx P R L B' Nw U C Kd fr to ln aw su' ca we fa' sb tb) : ∀ a b, a < P → b < P → aw (6 * a + b) ≤ 1000000 := fun a b h1 h2 => by
  rw [hb.2.2.2.2.2.2.2.1 a b h1 h2]
  exact lp_ds_le _ _ _
theorem ll_haw0 (hb : lb_Jx P R L B' Nw U C Kd fr to ln aw su' ca we fa' sb tb) : ∀ b, b < P → aw b ≤ 1000000 := fun b h => by
  have := ll_haw hb 0 b (by omega) h
  rw [show 6 * 0 + b = b by omega] at this
  exact this
theorem ll_L1 (hb : lb_Jx P R L B' Nw U C Kd fr to ln aw su' ca we fa' sb tb) (hC : 1 ≤ C) : 1 ≤ L := by
  rcases Nat.eq_zero_or_pos L with z | z
  · have := hb.2.2.2.2.2.2.1 z
    omega
  · exact z
theorem ll_ca (hb : lb_Jx P R L B' Nw U C Kd fr to ln aw su' ca we fa' sb tb) : ∀ i, i < C → ca i < P := fun i hi => (hb.2.2.2.2.2.2.2.2 (ll_L1 hb (by omega))).2.1 i hi
theorem ll_fa (hb : lb_Jx P R L B' Nw U C Kd fr to ln aw su' ca we fa' sb tb) : ∀ i, i < C → fa' i < 1000000 := fun i hi => by
  have hD := hb.2.2.2.2.2.2.2.2 (ll_L1 hb (by omega))
  have h1 := hD.2.2.2.2.2.2.2.2.2.1 i hi
  have h2 : lp_dg (lp_sn B' ca we i) (we i) < 8 := lp_dg_lt _ _
  have h3 := lp_cf_le hb.1 hb.2.2.2.1 hD.1 hD.2.1 hD.2.2.1 hD.2.2.2.2.1 hi
  omega
theorem ll_to (hb : lb_Jx P R L B' Nw U C Kd fr to ln aw su' ca we fa' sb tb) : lp_tot su' L ≤ 1000000 := by
  rcases Nat.eq_zero_or_pos L with z | z
  · subst z
    exact Nat.zero_le _
  · have hs := lb_D_su hb.1 hb.2.2.2.1 hb.2.2.2.2.1 (hb.2.2.2.2.2.2.2.2 z)
    have h3 : L = 1 ∨ L = 2 ∨ L = 3 := by
      have := hb.2.2.2.1
      omega
    rcases h3 with rfl | rfl | rfl
    · have a := hs 0 (by omega)
      simp only [lp_tot]
      omega
    · have a := hs 0 (by omega)
      have b := hs 1 (by omega)
      simp only [lp_tot]
      omega
    · have a := hs 0 (by omega)
      have b := hs 1 (by omega)
      have c := hs 2 (by omega)
      simp only [lp_tot]
      omega
theorem ll_Nw (hb : lb_Jx P R L B' Nw U C Kd fr to ln aw su' ca we fa' sb tb) (hC : 1 ≤ C) : Nw < 512 := lp_sd_lt (lb_D_now hb.1 hb.2.2.2.1 (hb.2.2.2.2.2.2.2.2 (ll_L1 hb hC))) hb.2.2.2.1
theorem ll_back (hb : lb_Jx P R L B' Nw U C Kd fr to ln aw su' ca we fa' sb tb) : ∀ c, C = c + 1 → we c < 3 ∧ fa' c / 8 ≤ su' (we c) ∧ fa' c < 1000000 := by
  intro c e
  subst e
  have hC := hb.2.2.2.2.1
  obtain ⟨-, h1, h2, h3⟩ := lb_unstep hb.1 hb.2.2.2.1 (by omega) (hb.2.2.2.2.2.2.2.2 (ll_L1 hb (by omega)))
  have := hb.2.2.2.1
  exact ⟨by omega, h2, h3⟩
theorem lj_m {fa2 : Nat → Nat} (h : lj ω.2.2 bk ((th, S, T, P, R, L, B, Kd, lt, C), (ra, rb, rl, fa), (aa, su), (cp, cl, cf, ck, cm, ct), (le, tr, re), (bh, so, br, rs, ce), (wh, wy)) ((P, R, T, S, L, B', Nw, U, C, Kd), (fr, to, ln, aw), (su', ca, we, fa', sb, tb), (wk, nw, wo), (k0, k1, k2, k3, k4, k5), RE, BF, BK)) (hm : lm_J ((nI 0, S, T, P, R, L, B, Kd, lt, C), (ra, rb, rl, fa2), (aa, su), (cp, cl, cf, ck, cm, ct), (le, tr, re), (bh, so, br, rs, ce), (wh, wy))) : lj ω.2.2 bk ((nI 0, S, T, P, R, L, B, Kd, lt, C), (ra, rb, rl, fa2), (aa, su), (cp, cl, cf, ck, cm, ct), (le, tr, re), (bh, so, br, rs, ce), (wh, wy)) ((P, R, T, S, L, B', Nw, U, C, Kd), (fr, to, ln, aw), (su', ca, we, fa', sb, tb), (wk, nw, wo), (k0, k1, k2, k3, k4, k5), RE, BF, BK) := by
  obtain ⟨h1, hro, hca, hbm, hbc, -, hjc⟩ := h
  exact ⟨h1, hro, hca, hbm, hbc, hm, hjc⟩
theorem ll_in2 {x : Int32} {p P : Nat} (e : x = nI p) (hp : p < P) (hP : P ≤ 4) : lp_in x P := ll_in e hp (by omega)
theorem ll_c0 (hH : ll_H ω κ b N xs) (h : lj ω.2.2 bk ((th, S, T, P, R, L, B, Kd, lt, C), (ra, rb, rl, fa), (aa, su), (cp, cl, cf, ck, cm, ct), (le, tr, re), (bh, so, br, rs, ce), (wh, wy)) ((P, R, T, S, L, B', Nw, U, C, Kd), (fr, to, ln, aw), (su', ca, we, fa', sb, tb), (wk, nw, wo), (k0, k1, k2, k3, k4, k5), RE, BF, BK)) (hi : i + 7 ≤ N) (hn : n.1 + 36 ≤ 603072 ∧ n.2 + 2880 ≤ 7262314) (next : ll_Next ω κ b i ad am n) : la_At ω κ n 164 [some (.ref b), some (.ref (ad 0)), some (.ref (am 0)), some (.int (nI i))] [] (lb_W ω.2.2 ad ((P, R, T, S, L, B', Nw, U, C, Kd), (fr, to, ln, aw), (su', ca, we, fa', sb, tb), (wk, nw, wo), (k0, k1, k2, k3, k4, k5), RE, BF, BK) ++ lm_W ω.2.2 am ((th, S, T, P, R, L, B, Kd, lt, C), (ra, rb, rl, fa), (aa, su), (cp, cl, cf, ck, cm, ct), (le, tr, re), (bh, so, br, rs, ce), (wh, wy))) := by
  have K := hH.1
  have hz := hH.2.1
  have hAs := hH.2.2.1
  have hoff := hH.2.2.2.1
  have hN : N ≤ 448 := hH.2.2.2.2.2.2.2
  have hjm := h.2.2.2.2.2.1
  have hjc := h.2.2.2.2.2.2
  have hbm := h.2.2.2.1
  have hbc := h.2.2.2.2.1
  have hb : lb_Jx P R L B' Nw U C Kd fr to ln aw su' ca we fa' sb tb := hjc
  have hm : lm_Jx P R L B C Kd lt ra rb rl fa aa su cp cl cf ck cm ct le tr := hjm
  have hP : P ≤ 6 := hb.1
  have hR15 : R ≤ 15 := hb.2.1
  have hroC : ∀ k, k < R → fr k < P ∧ to k < P ∧ ¬ fr k = to k ∧ ln k ≤ 100 := fun k hk => ⟨(hb.2.2.1 k hk).1, (hb.2.2.1 k hk).2.1, (hb.2.2.1 k hk).2.2.1, (hb.2.2.1 k hk).2.2.2.2⟩
  have hL3 : L ≤ 3 := hb.2.2.2.1
  have hC12 : C ≤ 12 := hb.2.2.2.2.1
  have hKd3 : Kd ≤ 3 := hb.2.2.2.2.2.1
  have hd6 : 1 ≤ L → ∀ a b, a < P → b < P → aw (6 * a + b) ≤ 6400 := fun hL => (hb.2.2.2.2.2.2.2.2 hL).2.2.2.2.1
  have hB1 : 1 ≤ L → lp_sd P L B' := fun hL => (hb.2.2.2.2.2.2.2.2 hL).1
  refine la_aload_n (k := 1) K dL_law_164 rfl ?_
  refine la_callViF K ok_X0_place q234 (lb_place hP hL3 hR15 hroC) 0 rfl rfl rfl rfl rfl (Nat.zero_le _) ⟨Nat.le_of_ble_eq_true rfl, Nat.le_of_ble_eq_true rfl⟩ ⟨by show n.1 + 0 ≤ 603072; omega, by show n.2 + 0 ≤ 7262314; omega⟩ dL_law_165 (fun r u hu => ?_)
  refine la_aload_n (k := 2) K dL_law_168 rfl ?_
  refine la_callViG K ok_X5_place q925 (lm_place hP hL3) 0 rfl rfl rfl rfl rfl (Nat.le_of_ble_eq_true rfl) ⟨Nat.le_of_ble_eq_true rfl, Nat.le_of_ble_eq_true rfl⟩ ⟨by show n.1 + 0 + 0 ≤ 603072; omega, by show n.2 + 0 + 0 ≤ 7262314; omega⟩ dL_law_169 (fun r' u' hu' => ?_)
  have key : r = r' ∧ ∃ bk', lj ω.2.2 bk' u' u := by
    obtain ⟨e1, hu⟩ := hu
    obtain ⟨e2, rfl⟩ := hu'
    refine ⟨e1.trans e2.symm, bk, ?_⟩
    rcases hu with ⟨hg, rfl⟩ | ⟨g1, g2, aw2, rfl, haw2⟩
    · have e3 : lp_plP P L = P := by
        unfold lp_plP
        split
        · rfl
        · split
          · rfl
          · omega
      rw [e3]
      exact lj_th h
    · have e3 : lp_plP P L = P + 1 := by
        unfold lp_plP
        rw [if_neg (by omega), if_neg (by omega)]
      rw [e3]
      exact lj_place h g1 g2 haw2
  obtain ⟨e, bk', hj⟩ := key
  refine la_icmp_eq K 1005 dL_law_172 rfl (fun _ => ?_) (fun z => absurd e z)
  exact next _ bk' _ _ (by show n.1 + 0 + 0 ≤ n.1 + 36; omega) (by show n.2 + 0 + 0 ≤ n.2 + 2880; omega) hj
theorem ll_c1 (hH : ll_H ω κ b N xs) (h : lj ω.2.2 bk ((th, S, T, P, R, L, B, Kd, lt, C), (ra, rb, rl, fa), (aa, su), (cp, cl, cf, ck, cm, ct), (le, tr, re), (bh, so, br, rs, ce), (wh, wy)) ((P, R, T, S, L, B', Nw, U, C, Kd), (fr, to, ln, aw), (su', ca, we, fa', sb, tb), (wk, nw, wo), (k0, k1, k2, k3, k4, k5), RE, BF, BK)) (hi : i + 7 ≤ N) (hn : n.1 + 36 ≤ 603072 ∧ n.2 + 2880 ≤ 7262314) (next : ll_Next ω κ b i ad am n) : la_At ω κ n 177 [some (.ref b), some (.ref (ad 0)), some (.ref (am 0)), some (.int (nI i))] [] (lb_W ω.2.2 ad ((P, R, T, S, L, B', Nw, U, C, Kd), (fr, to, ln, aw), (su', ca, we, fa', sb, tb), (wk, nw, wo), (k0, k1, k2, k3, k4, k5), RE, BF, BK) ++ lm_W ω.2.2 am ((th, S, T, P, R, L, B, Kd, lt, C), (ra, rb, rl, fa), (aa, su), (cp, cl, cf, ck, cm, ct), (le, tr, re), (bh, so, br, rs, ce), (wh, wy))) := by
  have K := hH.1
  have hz := hH.2.1
  have hAs := hH.2.2.1
  have hoff := hH.2.2.2.1
  have hN : N ≤ 448 := hH.2.2.2.2.2.2.2
  have hjm := h.2.2.2.2.2.1
  have hjc := h.2.2.2.2.2.2
  have hbm := h.2.2.2.1
  have hbc := h.2.2.2.2.1
  have hb : lb_Jx P R L B' Nw U C Kd fr to ln aw su' ca we fa' sb tb := hjc
  have hm : lm_Jx P R L B C Kd lt ra rb rl fa aa su cp cl cf ck cm ct le tr := hjm
  have hP : P ≤ 6 := hb.1
  have hR15 : R ≤ 15 := hb.2.1
  have hroC : ∀ k, k < R → fr k < P ∧ to k < P ∧ ¬ fr k = to k ∧ ln k ≤ 100 := fun k hk => ⟨(hb.2.2.1 k hk).1, (hb.2.2.1 k hk).2.1, (hb.2.2.1 k hk).2.2.1, (hb.2.2.1 k hk).2.2.2.2⟩
  have hL3 : L ≤ 3 := hb.2.2.2.1
  have hC12 : C ≤ 12 := hb.2.2.2.2.1
  have hKd3 : Kd ≤ 3 := hb.2.2.2.2.2.1
  have hd6 : 1 ≤ L → ∀ a b, a < P → b < P → aw (6 * a + b) ≤ 6400 := fun hL => (hb.2.2.2.2.2.2.2.2 hL).2.2.2.2.1
  have hB1 : 1 ≤ L → lp_sd P L B' := fun hL => (hb.2.2.2.2.2.2.2.2 hL).1
  refine la_aload_n (k := 1) K dL_law_177 rfl ?_
  refine ll_arg hH 1 (by decide +kernel) dL_law_178 dL_law_179 dL_law_180 dL_law_181 dL_law_182 (by omega) ?_
  refine ll_arg hH 2 (by decide +kernel) dL_law_183 dL_law_184 dL_law_185 dL_law_186 dL_law_187 (by omega) ?_
  refine ll_arg hH 3 (by decide +kernel) dL_law_188 dL_law_189 dL_law_190 dL_law_191 dL_law_192 (by omega) ?_
  refine la_callViF K ok_X0_road q246 (lb_road ((xs (i + 1))) ((xs (i + 2))) ((xs (i + 3))) hP hL3 hR15 hroC) 0 rfl rfl rfl rfl rfl (Nat.zero_le _) ⟨Nat.le_of_ble_eq_true rfl, Nat.le_of_ble_eq_true rfl⟩ ⟨by show n.1 + 0 ≤ 603072; omega, by show n.2 + 0 ≤ 7262314; omega⟩ dL_law_193 (fun r u hu => ?_)
  refine la_aload_n (k := 2) K dL_law_196 rfl ?_
  refine ll_arg hH 1 (by decide +kernel) dL_law_197 dL_law_198 dL_law_199 dL_law_200 dL_law_201 (by omega) ?_
  refine ll_arg hH 2 (by decide +kernel) dL_law_202 dL_law_203 dL_law_204 dL_law_205 dL_law_206 (by omega) ?_
  refine ll_arg hH 3 (by decide +kernel) dL_law_207 dL_law_208 dL_law_209 dL_law_210 dL_law_211 (by omega) ?_
  refine la_callViG K ok_X5_road q929 (lm_road ((xs (i + 1))) ((xs (i + 2))) ((xs (i + 3))) hP hL3 hR15) 0 rfl rfl rfl rfl rfl (Nat.le_of_ble_eq_true rfl) ⟨Nat.le_of_ble_eq_true rfl, Nat.le_of_ble_eq_true rfl⟩ ⟨by show n.1 + 0 + 0 ≤ 603072; omega, by show n.2 + 0 + 0 ≤ 7262314; omega⟩ dL_law_212 (fun r' u' hu' => ?_)
  have key : r = r' ∧ ∃ bk', lj ω.2.2 bk' u' u := by
    obtain ⟨e1, hu⟩ := hu
    obtain ⟨e2, hu'⟩ := hu'
    refine ⟨e1.trans e2.symm, bk, ?_⟩
    rcases hu with ⟨g, rfl⟩ | ⟨g, aw2, rfl, haw2⟩
    · rcases hu' with ⟨g2, rfl⟩ | ⟨g2, rfl⟩
      · exact lj_th h
      · exact absurd g2 g
    · rcases hu' with ⟨g2, rfl⟩ | ⟨g2, rfl⟩
      · exact absurd g g2
      · exact lj_road h g haw2
  obtain ⟨e, bk', hj⟩ := key
  refine la_icmp_eq K 1005 dL_law_215 rfl (fun _ => ?_) (fun z => absurd e z)
  exact next _ bk' _ _ (by show n.1 + 0 + 0 ≤ n.1 + 36; omega) (by show n.2 + 0 + 0 ≤ n.2 + 2880; omega) hj
theorem ll_c2 (hH : ll_H ω κ b N xs) (h : lj ω.2.2 bk ((th, S, T, P, R, L, B, Kd, lt, C), (ra, rb, rl, fa), (aa, su), (cp, cl, cf, ck, cm, ct), (le, tr, re), (bh, so, br, rs, ce), (wh, wy)) ((P, R, T, S, L, B', Nw, U, C, Kd), (fr, to, ln, aw), (su', ca, we, fa', sb, tb), (wk, nw, wo), (k0, k1, k2, k3, k4, k5), RE, BF, BK)) (hi : i + 7 ≤ N) (hn : n.1 + 36 ≤ 603072 ∧ n.2 + 2880 ≤ 7262314) (next : ll_Next ω κ b i ad am n) : la_At ω κ n 220 [some (.ref b), some (.ref (ad 0)), some (.ref (am 0)), some (.int (nI i))] [] (lb_W ω.2.2 ad ((P, R, T, S, L, B', Nw, U, C, Kd), (fr, to, ln, aw), (su', ca, we, fa', sb, tb), (wk, nw, wo), (k0, k1, k2, k3, k4, k5), RE, BF, BK) ++ lm_W ω.2.2 am ((th, S, T, P, R, L, B, Kd, lt, C), (ra, rb, rl, fa), (aa, su), (cp, cl, cf, ck, cm, ct), (le, tr, re), (bh, so, br, rs, ce), (wh, wy))) := by
  have K := hH.1
  have hz := hH.2.1
  have hAs := hH.2.2.1
  have hoff := hH.2.2.2.1
  have hN : N ≤ 448 := hH.2.2.2.2.2.2.2
  have hjm := h.2.2.2.2.2.1
  have hjc := h.2.2.2.2.2.2
  have hbm := h.2.2.2.1
  have hbc := h.2.2.2.2.1
  have hb : lb_Jx P R L B' Nw U C Kd fr to ln aw su' ca we fa' sb tb := hjc
  have hm : lm_Jx P R L B C Kd lt ra rb rl fa aa su cp cl cf ck cm ct le tr := hjm
  have hP : P ≤ 6 := hb.1
  have hR15 : R ≤ 15 := hb.2.1
  have hroC : ∀ k, k < R → fr k < P ∧ to k < P ∧ ¬ fr k = to k ∧ ln k ≤ 100 := fun k hk => ⟨(hb.2.2.1 k hk).1, (hb.2.2.1 k hk).2.1, (hb.2.2.1 k hk).2.2.1, (hb.2.2.1 k hk).2.2.2.2⟩
  have hL3 : L ≤ 3 := hb.2.2.2.1
  have hC12 : C ≤ 12 := hb.2.2.2.2.1
  have hKd3 : Kd ≤ 3 := hb.2.2.2.2.2.1
  have hd6 : 1 ≤ L → ∀ a b, a < P → b < P → aw (6 * a + b) ≤ 6400 := fun hL => (hb.2.2.2.2.2.2.2.2 hL).2.2.2.2.1
  have hB1 : 1 ≤ L → lp_sd P L B' := fun hL => (hb.2.2.2.2.2.2.2.2 hL).1
  refine la_aload_n (k := 1) K dL_law_220 rfl ?_
  refine ll_arg hH 1 (by decide +kernel) dL_law_221 dL_law_222 dL_law_223 dL_law_224 dL_law_225 (by omega) ?_
  refine ll_arg hH 2 (by decide +kernel) dL_law_226 dL_law_227 dL_law_228 dL_law_229 dL_law_230 (by omega) ?_
  refine la_callViF K ok_X0_apart q261 (lb_apart ((xs (i + 1))) ((xs (i + 2))) hP (ll_haw hb)) 0 rfl rfl rfl rfl rfl (Nat.zero_le _) ⟨Nat.le_of_ble_eq_true rfl, Nat.le_of_ble_eq_true rfl⟩ ⟨by show n.1 + 0 ≤ 603072; omega, by show n.2 + 0 ≤ 7262314; omega⟩ dL_law_231 (fun r u hu => ?_)
  refine la_aload_n (k := 2) K dL_law_234 rfl ?_
  refine ll_arg hH 1 (by decide +kernel) dL_law_235 dL_law_236 dL_law_237 dL_law_238 dL_law_239 (by omega) ?_
  refine ll_arg hH 2 (by decide +kernel) dL_law_240 dL_law_241 dL_law_242 dL_law_243 dL_law_244 (by omega) ?_
  refine la_callViG K ok_X5_apart q941 (lm_apart ((xs (i + 1))) ((xs (i + 2))) hP hR15 (lm_roads hm)) 0 rfl rfl rfl rfl rfl (Nat.le_of_ble_eq_true rfl) ⟨Nat.le_of_ble_eq_true rfl, Nat.le_of_ble_eq_true rfl⟩ ⟨by show n.1 + 0 + 0 ≤ 603072; omega, by show n.2 + 0 + 0 ≤ 7262314; omega⟩ dL_law_245 (fun r' u' hu' => ?_)
  have key : r = r' ∧ ∃ bk', lj ω.2.2 bk' u' ((P, R, T, S, L, B', Nw, U, C, Kd), (fr, to, ln, aw), (su', ca, we, fa', sb, tb), (wk, nw, wo), (k0, k1, k2, k3, k4, k5), RE, BF, BK) := by
    obtain ⟨e2, fa2, rfl, hf⟩ := hu'
    exact ⟨hu.trans ((lj_apart h _ _).trans e2.symm), bk, lj_fa h hf⟩
  obtain ⟨e, bk', hj⟩ := key
  refine la_icmp_eq K 1005 dL_law_248 rfl (fun _ => ?_) (fun z => absurd e z)
  exact next _ bk' _ _ (by show n.1 + 0 + 0 ≤ n.1 + 36; omega) (by show n.2 + 0 + 0 ≤ n.2 + 2880; omega) hj
theorem ll_c3 (hH : ll_H ω κ b N xs) (h : lj ω.2.2 bk ((th, S, T, P, R, L, B, Kd, lt, C), (ra, rb, rl, fa), (aa, su), (cp, cl, cf, ck, cm, ct), (le, tr, re), (bh, so, br, rs, ce), (wh, wy)) ((P, R, T, S, L, B', Nw, U, C, Kd), (fr, to, ln, aw), (su', ca, we, fa', sb, tb), (wk, nw, wo), (k0, k1, k2, k3, k4, k5), RE, BF, BK)) (hi : i + 7 ≤ N) (hn : n.1 + 36 ≤ 603072 ∧ n.2 + 2880 ≤ 7262314) (next : ll_Next ω κ b i ad am n) : la_At ω κ n 253 [some (.ref b), some (.ref (ad 0)), some (.ref (am 0)), some (.int (nI i))] [] (lb_W ω.2.2 ad ((P, R, T, S, L, B', Nw, U, C, Kd), (fr, to, ln, aw), (su', ca, we, fa', sb, tb), (wk, nw, wo), (k0, k1, k2, k3, k4, k5), RE, BF, BK) ++ lm_W ω.2.2 am ((th, S, T, P, R, L, B, Kd, lt, C), (ra, rb, rl, fa), (aa, su), (cp, cl, cf, ck, cm, ct), (le, tr, re), (bh, so, br, rs, ce), (wh, wy))) := by
  have K := hH.1
  have hz := hH.2.1
  have hAs := hH.2.2.1
  have hoff := hH.2.2.2.1
  have hN : N ≤ 448 := hH.2.2.2.2.2.2.2
  have hjm := h.2.2.2.2.2.1
  have hjc := h.2.2.2.2.2.2
  have hbm := h.2.2.2.1
  have hbc := h.2.2.2.2.1
  have hb : lb_Jx P R L B' Nw U C Kd fr to ln aw su' ca we fa' sb tb := hjc
  have hm : lm_Jx P R L B C Kd lt ra rb rl fa aa su cp cl cf ck cm ct le tr := hjm
  have hP : P ≤ 6 := hb.1
  have hR15 : R ≤ 15 := hb.2.1
  have hroC : ∀ k, k < R → fr k < P ∧ to k < P ∧ ¬ fr k = to k ∧ ln k ≤ 100 := fun k hk => ⟨(hb.2.2.1 k hk).1, (hb.2.2.1 k hk).2.1, (hb.2.2.1 k hk).2.2.1, (hb.2.2.1 k hk).2.2.2.2⟩
  have hL3 : L ≤ 3 := hb.2.2.2.1
  have hC12 : C ≤ 12 := hb.2.2.2.2.1
  have hKd3 : Kd ≤ 3 := hb.2.2.2.2.2.1
  have hd6 : 1 ≤ L → ∀ a b, a < P → b < P → aw (6 * a + b) ≤ 6400 := fun hL => (hb.2.2.2.2.2.2.2.2 hL).2.2.2.2.1
  have hB1 : 1 ≤ L → lp_sd P L B' := fun hL => (hb.2.2.2.2.2.2.2.2 hL).1
  refine la_aload_n (k := 1) K dL_law_253 rfl ?_
  refine ll_arg hH 1 (by decide +kernel) dL_law_254 dL_law_255 dL_law_256 dL_law_257 dL_law_258 (by omega) ?_
  refine ll_arg hH 2 (by decide +kernel) dL_law_259 dL_law_260 dL_law_261 dL_law_262 dL_law_263 (by omega) ?_
  refine la_callViF K ok_X0_way q269 (lb_way ((xs (i + 1))) ((xs (i + 2))) hP hR15 hroC (ll_haw hb)) 0 rfl rfl rfl rfl rfl (Nat.zero_le _) ⟨Nat.le_of_ble_eq_true rfl, Nat.le_of_ble_eq_true rfl⟩ ⟨by show n.1 + 0 ≤ 603072; omega, by show n.2 + 0 ≤ 7262314; omega⟩ dL_law_264 (fun r u hu => ?_)
  refine la_aload_n (k := 2) K dL_law_267 rfl ?_
  refine ll_arg hH 1 (by decide +kernel) dL_law_268 dL_law_269 dL_law_270 dL_law_271 dL_law_272 (by omega) ?_
  refine ll_arg hH 2 (by decide +kernel) dL_law_273 dL_law_274 dL_law_275 dL_law_276 dL_law_277 (by omega) ?_
  refine la_callViG K ok_X5_way q954 (lm_way ((xs (i + 1))) ((xs (i + 2))) hP hR15 (lm_roads hm)) 0 rfl rfl rfl rfl rfl (Nat.le_of_ble_eq_true rfl) ⟨Nat.le_of_ble_eq_true rfl, Nat.le_of_ble_eq_true rfl⟩ ⟨by show n.1 + 0 + 0 ≤ 603072; omega, by show n.2 + 0 + 0 ≤ 7262314; omega⟩ dL_law_278 (fun r' u' hu' => ?_)
  have key : r = r' ∧ ∃ bk', lj ω.2.2 bk' u' ((P, R, T, S, L, B', Nw, U, C, Kd), (fr, to, ln, aw), (su', ca, we, fa', sb, tb), (wk, nw, wo), (k0, k1, k2, k3, k4, k5), RE, BF, BK) := by
    obtain ⟨e2, fa2, rfl, hf⟩ := hu'
    exact ⟨hu.trans ((lj_way h _ _).trans e2.symm), bk, lj_fa h hf⟩
  obtain ⟨e, bk', hj⟩ := key
  refine la_icmp_eq K 1005 dL_law_281 rfl (fun _ => ?_) (fun z => absurd e z)
  exact next _ bk' _ _ (by show n.1 + 0 + 0 ≤ n.1 + 36; omega) (by show n.2 + 0 + 0 ≤ n.2 + 2880; omega) hj
theorem ll_c4 (hH : ll_H ω κ b N xs) (h : lj ω.2.2 bk ((th, S, T, P, R, L, B, Kd, lt, C), (ra, rb, rl, fa), (aa, su), (cp, cl, cf, ck, cm, ct), (le, tr, re), (bh, so, br, rs, ce), (wh, wy)) ((P, R, T, S, L, B', Nw, U, C, Kd), (fr, to, ln, aw), (su', ca, we, fa', sb, tb), (wk, nw, wo), (k0, k1, k2, k3, k4, k5), RE, BF, BK)) (hi : i + 7 ≤ N) (hn : n.1 + 36 ≤ 603072 ∧ n.2 + 2880 ≤ 7262314) (next : ll_Next ω κ b i ad am n) : la_At ω κ n 286 [some (.ref b), some (.ref (ad 0)), some (.ref (am 0)), some (.int (nI i))] [] (lb_W ω.2.2 ad ((P, R, T, S, L, B', Nw, U, C, Kd), (fr, to, ln, aw), (su', ca, we, fa', sb, tb), (wk, nw, wo), (k0, k1, k2, k3, k4, k5), RE, BF, BK) ++ lm_W ω.2.2 am ((th, S, T, P, R, L, B, Kd, lt, C), (ra, rb, rl, fa), (aa, su), (cp, cl, cf, ck, cm, ct), (le, tr, re), (bh, so, br, rs, ce), (wh, wy))) := by
  have K := hH.1
  have hz := hH.2.1
  have hAs := hH.2.2.1
  have hoff := hH.2.2.2.1
  have hN : N ≤ 448 := hH.2.2.2.2.2.2.2
  have hjm := h.2.2.2.2.2.1
  have hjc := h.2.2.2.2.2.2
  have hbm := h.2.2.2.1
  have hbc := h.2.2.2.2.1
  have hb : lb_Jx P R L B' Nw U C Kd fr to ln aw su' ca we fa' sb tb := hjc
  have hm : lm_Jx P R L B C Kd lt ra rb rl fa aa su cp cl cf ck cm ct le tr := hjm
  have hP : P ≤ 6 := hb.1
  have hR15 : R ≤ 15 := hb.2.1
  have hroC : ∀ k, k < R → fr k < P ∧ to k < P ∧ ¬ fr k = to k ∧ ln k ≤ 100 := fun k hk => ⟨(hb.2.2.1 k hk).1, (hb.2.2.1 k hk).2.1, (hb.2.2.1 k hk).2.2.1, (hb.2.2.1 k hk).2.2.2.2⟩
  have hL3 : L ≤ 3 := hb.2.2.2.1
  have hC12 : C ≤ 12 := hb.2.2.2.2.1
  have hKd3 : Kd ≤ 3 := hb.2.2.2.2.2.1
  have hd6 : 1 ≤ L → ∀ a b, a < P → b < P → aw (6 * a + b) ≤ 6400 := fun hL => (hb.2.2.2.2.2.2.2.2 hL).2.2.2.2.1
  have hB1 : 1 ≤ L → lp_sd P L B' := fun hL => (hb.2.2.2.2.2.2.2.2 hL).1
  refine la_aload_n (k := 1) K dL_law_286 rfl ?_
  refine ll_arg hH 1 (by decide +kernel) dL_law_287 dL_law_288 dL_law_289 dL_law_290 dL_law_291 (by omega) ?_
  refine ll_arg hH 2 (by decide +kernel) dL_law_292 dL_law_293 dL_law_294 dL_law_295 dL_law_296 (by omega) ?_
  refine la_callViF K ok_X0_begin q273 (lb_begin ((xs (i + 1))) ((xs (i + 2))) hP (ll_haw0 hb)) 0 rfl rfl rfl rfl rfl (Nat.zero_le _) ⟨Nat.le_of_ble_eq_true rfl, Nat.le_of_ble_eq_true rfl⟩ ⟨by show n.1 + 0 ≤ 603072; omega, by show n.2 + 0 ≤ 7262314; omega⟩ dL_law_297 (fun r u hu => ?_)
  refine la_aload_n (k := 2) K dL_law_300 rfl ?_
  refine ll_arg hH 1 (by decide +kernel) dL_law_301 dL_law_302 dL_law_303 dL_law_304 dL_law_305 (by omega) ?_
  refine ll_arg hH 2 (by decide +kernel) dL_law_306 dL_law_307 dL_law_308 dL_law_309 dL_law_310 (by omega) ?_
  refine la_callViG K ok_X5_begin q958 (lm_begin ((xs (i + 1))) ((xs (i + 2))) hjm) 0 rfl rfl rfl rfl rfl (Nat.le_of_ble_eq_true rfl) ⟨Nat.le_of_ble_eq_true rfl, Nat.le_of_ble_eq_true rfl⟩ ⟨by show n.1 + 0 + 0 ≤ 603072; omega, by show n.2 + 0 + 0 ≤ 7262314; omega⟩ dL_law_311 (fun r' u' hu' => ?_)
  have key : r = r' ∧ ∃ bk', lj ω.2.2 bk' u' u := by
    rcases hu with ⟨g, e1, rfl⟩ | ⟨g, t, e1, rfl⟩ | ⟨k, x, en, h1, h3, es, hx, hsd, ht, e1, su3, rfl, hsu⟩
    · rcases hu' with ⟨g2, e2, rfl⟩ | ⟨g2, t2, e2, fa2, rfl, hm2⟩ | ⟨k2, x2, en2, h12, h32, es2, hx2, hsd2, ht2, e2, lt2, fa2, aa2, su2, le2, rfl, hm2⟩
      · exact ⟨e1.trans e2.symm, bk, lj_th h⟩
      · exact absurd g2 g
      · exact absurd ⟨k2, x2, en2, h12, h32, es2, hx2, hsd2⟩ g
    · rcases hu' with ⟨g2, e2, rfl⟩ | ⟨g2, t2, e2, fa2, rfl, hm2⟩ | ⟨k2, x2, en2, h12, h32, es2, hx2, hsd2, ht2, e2, lt2, fa2, aa2, su2, le2, rfl, hm2⟩
      · exact absurd g g2
      · exact ⟨e1.trans e2.symm, bk, lj_m h hm2⟩
      · exact absurd ((lj_torn h).mp t) ht2
    · rcases hu' with ⟨g2, e2, rfl⟩ | ⟨g2, t2, e2, fa2, rfl, hm2⟩ | ⟨k2, x2, en2, h12, h32, es2, hx2, hsd2, ht2, e2, lt2, fa2, aa2, su2, le2, rfl, hm2⟩
      · exact absurd ⟨k, x, en, h1, h3, es, hx, hsd⟩ g2
      · exact absurd ((lj_torn h).mpr t2) ht
      · have ek : k2 = k := ll_nI en en2 (by omega) (by omega)
        have ex : x2 = x := (nI_eq hx2 hx).mp (es2.symm.trans es)
        subst ek ex
        exact ⟨e1.trans e2.symm, bk, lj_begin h h1 h3 hsd ht hsu hm2⟩
  obtain ⟨e, bk', hj⟩ := key
  refine la_icmp_eq K 1005 dL_law_314 rfl (fun _ => ?_) (fun z => absurd e z)
  exact next _ bk' _ _ (by show n.1 + 0 + 0 ≤ n.1 + 36; omega) (by show n.2 + 0 + 0 ≤ n.2 + 2880; omega) hj
theorem ll_c5 (hH : ll_H ω κ b N xs) (h : lj ω.2.2 bk ((th, S, T, P, R, L, B, Kd, lt, C), (ra, rb, rl, fa), (aa, su), (cp, cl, cf, ck, cm, ct), (le, tr, re), (bh, so, br, rs, ce), (wh, wy)) ((P, R, T, S, L, B', Nw, U, C, Kd), (fr, to, ln, aw), (su', ca, we, fa', sb, tb), (wk, nw, wo), (k0, k1, k2, k3, k4, k5), RE, BF, BK)) (hi : i + 7 ≤ N) (hn : n.1 + 36 ≤ 603072 ∧ n.2 + 2880 ≤ 7262314) (next : ll_Next ω κ b i ad am n) : la_At ω κ n 319 [some (.ref b), some (.ref (ad 0)), some (.ref (am 0)), some (.int (nI i))] [] (lb_W ω.2.2 ad ((P, R, T, S, L, B', Nw, U, C, Kd), (fr, to, ln, aw), (su', ca, we, fa', sb, tb), (wk, nw, wo), (k0, k1, k2, k3, k4, k5), RE, BF, BK) ++ lm_W ω.2.2 am ((th, S, T, P, R, L, B, Kd, lt, C), (ra, rb, rl, fa), (aa, su), (cp, cl, cf, ck, cm, ct), (le, tr, re), (bh, so, br, rs, ce), (wh, wy))) := by
  have K := hH.1
  have hz := hH.2.1
  have hAs := hH.2.2.1
  have hoff := hH.2.2.2.1
  have hN : N ≤ 448 := hH.2.2.2.2.2.2.2
  have hjm := h.2.2.2.2.2.1
  have hjc := h.2.2.2.2.2.2
  have hbm := h.2.2.2.1
  have hbc := h.2.2.2.2.1
  have hb : lb_Jx P R L B' Nw U C Kd fr to ln aw su' ca we fa' sb tb := hjc
  have hm : lm_Jx P R L B C Kd lt ra rb rl fa aa su cp cl cf ck cm ct le tr := hjm
  have hP : P ≤ 6 := hb.1
  have hR15 : R ≤ 15 := hb.2.1
  have hroC : ∀ k, k < R → fr k < P ∧ to k < P ∧ ¬ fr k = to k ∧ ln k ≤ 100 := fun k hk => ⟨(hb.2.2.1 k hk).1, (hb.2.2.1 k hk).2.1, (hb.2.2.1 k hk).2.2.1, (hb.2.2.1 k hk).2.2.2.2⟩
  have hL3 : L ≤ 3 := hb.2.2.2.1
  have hC12 : C ≤ 12 := hb.2.2.2.2.1
  have hKd3 : Kd ≤ 3 := hb.2.2.2.2.2.1
  have hd6 : 1 ≤ L → ∀ a b, a < P → b < P → aw (6 * a + b) ≤ 6400 := fun hL => (hb.2.2.2.2.2.2.2.2 hL).2.2.2.2.1
  have hB1 : 1 ≤ L → lp_sd P L B' := fun hL => (hb.2.2.2.2.2.2.2.2 hL).1
  refine la_aload_n (k := 1) K dL_law_319 rfl ?_
  refine la_callViF K ok_X0_end q292 (lb_end hL3) 0 rfl rfl rfl rfl rfl (Nat.zero_le _) ⟨Nat.le_of_ble_eq_true rfl, Nat.le_of_ble_eq_true rfl⟩ ⟨by show n.1 + 0 ≤ 603072; omega, by show n.2 + 0 ≤ 7262314; omega⟩ dL_law_320 (fun r u hu => ?_)
  refine la_aload_n (k := 2) K dL_law_323 rfl ?_
  refine la_callViG K ok_X5_end q975 (lm_end hL3) 0 rfl rfl rfl rfl rfl (Nat.le_of_ble_eq_true rfl) ⟨Nat.le_of_ble_eq_true rfl, Nat.le_of_ble_eq_true rfl⟩ ⟨by show n.1 + 0 + 0 ≤ 603072; omega, by show n.2 + 0 + 0 ≤ 7262314; omega⟩ dL_law_324 (fun r' u' hu' => ?_)
  have key : r = r' ∧ ∃ bk', lj ω.2.2 bk' u' u := by
    rcases hu with ⟨g, e1, rfl⟩ | ⟨g, e1, rfl⟩
    · rcases hu' with ⟨g2, e2, rfl⟩ | ⟨g2, e2, rfl⟩
      · exact ⟨e1.trans e2.symm, bk, lj_th h⟩
      · omega
    · rcases hu' with ⟨g2, e2, rfl⟩ | ⟨g2, e2, rfl⟩
      · omega
      · exact ⟨e1.trans e2.symm, bk, (lj_end h).2 g⟩
  obtain ⟨e, bk', hj⟩ := key
  refine la_icmp_eq K 1005 dL_law_327 rfl (fun _ => ?_) (fun z => absurd e z)
  exact next _ bk' _ _ (by show n.1 + 0 + 0 ≤ n.1 + 36; omega) (by show n.2 + 0 + 0 ≤ n.2 + 2880; omega) hj
theorem ll_c6 (hH : ll_H ω κ b N xs) (h : lj ω.2.2 bk ((th, S, T, P, R, L, B, Kd, lt, C), (ra, rb, rl, fa), (aa, su), (cp, cl, cf, ck, cm, ct), (le, tr, re), (bh, so, br, rs, ce), (wh, wy)) ((P, R, T, S, L, B', Nw, U, C, Kd), (fr, to, ln, aw), (su', ca, we, fa', sb, tb), (wk, nw, wo), (k0, k1, k2, k3, k4, k5), RE, BF, BK)) (hi : i + 7 ≤ N) (hn : n.1 + 36 ≤ 603072 ∧ n.2 + 2880 ≤ 7262314) (next : ll_Next ω κ b i ad am n) : la_At ω κ n 332 [some (.ref b), some (.ref (ad 0)), some (.ref (am 0)), some (.int (nI i))] [] (lb_W ω.2.2 ad ((P, R, T, S, L, B', Nw, U, C, Kd), (fr, to, ln, aw), (su', ca, we, fa', sb, tb), (wk, nw, wo), (k0, k1, k2, k3, k4, k5), RE, BF, BK) ++ lm_W ω.2.2 am ((th, S, T, P, R, L, B, Kd, lt, C), (ra, rb, rl, fa), (aa, su), (cp, cl, cf, ck, cm, ct), (le, tr, re), (bh, so, br, rs, ce), (wh, wy))) := by
  have K := hH.1
  have hz := hH.2.1
  have hAs := hH.2.2.1
  have hoff := hH.2.2.2.1
  have hN : N ≤ 448 := hH.2.2.2.2.2.2.2
  have hjm := h.2.2.2.2.2.1
  have hjc := h.2.2.2.2.2.2
  have hbm := h.2.2.2.1
  have hbc := h.2.2.2.2.1
  have hb : lb_Jx P R L B' Nw U C Kd fr to ln aw su' ca we fa' sb tb := hjc
  have hm : lm_Jx P R L B C Kd lt ra rb rl fa aa su cp cl cf ck cm ct le tr := hjm
  have hP : P ≤ 6 := hb.1
  have hR15 : R ≤ 15 := hb.2.1
  have hroC : ∀ k, k < R → fr k < P ∧ to k < P ∧ ¬ fr k = to k ∧ ln k ≤ 100 := fun k hk => ⟨(hb.2.2.1 k hk).1, (hb.2.2.1 k hk).2.1, (hb.2.2.1 k hk).2.2.1, (hb.2.2.1 k hk).2.2.2.2⟩
  have hL3 : L ≤ 3 := hb.2.2.2.1
  have hC12 : C ≤ 12 := hb.2.2.2.2.1
  have hKd3 : Kd ≤ 3 := hb.2.2.2.2.2.1
  have hd6 : 1 ≤ L → ∀ a b, a < P → b < P → aw (6 * a + b) ≤ 6400 := fun hL => (hb.2.2.2.2.2.2.2.2 hL).2.2.2.2.1
  have hB1 : 1 ≤ L → lp_sd P L B' := fun hL => (hb.2.2.2.2.2.2.2.2 hL).1
  refine la_aload_n (k := 1) K dL_law_332 rfl ?_
  refine ll_arg hH 1 (by decide +kernel) dL_law_333 dL_law_334 dL_law_335 dL_law_336 dL_law_337 (by omega) ?_
  refine la_callViF K ok_X0_rule q296 (lb_rule ((xs (i + 1))) (by omega)) 0 rfl rfl rfl rfl rfl (Nat.zero_le _) ⟨Nat.le_of_ble_eq_true rfl, Nat.le_of_ble_eq_true rfl⟩ ⟨by show n.1 + 0 ≤ 603072; omega, by show n.2 + 0 ≤ 7262314; omega⟩ dL_law_338 (fun r u hu => ?_)
  refine la_aload_n (k := 2) K dL_law_341 rfl ?_
  refine ll_arg hH 1 (by decide +kernel) dL_law_342 dL_law_343 dL_law_344 dL_law_345 dL_law_346 (by omega) ?_
  refine la_callViG K ok_X5_rule q979 (lm_rule ((xs (i + 1)))) 0 rfl rfl rfl rfl rfl (Nat.le_of_ble_eq_true rfl) ⟨Nat.le_of_ble_eq_true rfl, Nat.le_of_ble_eq_true rfl⟩ ⟨by show n.1 + 0 + 0 ≤ 603072; omega, by show n.2 + 0 + 0 ≤ 7262314; omega⟩ dL_law_347 (fun r' u' hu' => ?_)
  have key : r = r' ∧ ∃ bk', lj ω.2.2 bk' u' u := by
    rcases hu with ⟨g, e1, rfl⟩ | ⟨k, ek, hk, e1, rfl⟩
    · rcases hu' with ⟨g2, e2, rfl⟩ | ⟨k2, ek2, hk2, e2, rfl⟩
      · exact ⟨e1.trans e2.symm, bk, lj_th h⟩
      · exact absurd (ll_inI ek2 (Nat.zero_le _) hk2 (by omega)) g
    · rcases hu' with ⟨g2, e2, rfl⟩ | ⟨k2, ek2, hk2, e2, rfl⟩
      · exact absurd (ll_inI ek (Nat.zero_le _) (Nat.le_of_lt_succ hk) (by omega)) g2
      · have e3 : k2 = k := ll_nI ek ek2 (by omega) (by omega)
        subst e3
        exact ⟨e1.trans e2.symm, bk, lj_rule h hk⟩
  obtain ⟨e, bk', hj⟩ := key
  refine la_icmp_eq K 1005 dL_law_350 rfl (fun _ => ?_) (fun z => absurd e z)
  exact next _ bk' _ _ (by show n.1 + 0 + 0 ≤ n.1 + 36; omega) (by show n.2 + 0 + 0 ≤ n.2 + 2880; omega) hj
end LLA
