/-! THE LAW: the loop and the start. Printed by law2.py. -/
theorem lj_elim {E : Nat → ClassId} {bk : lp_Bk} {τ : lm_S} {σ : lb_S} (motive : lm_S → lb_S → Prop) (h : lj E bk τ σ) (k : ∀ (th S lt : Int32) (T : Int64) (P R L B Kd C : Nat) (ra rb rl fa aa su cp cl cf ck cm le tr re bh so br wh wy : Nat → Nat) (ct rs : Nat → Int32) (ce : Nat → Int64) (B' Nw U : Nat) (fr to ln aw su' ca we fa' sb tb wk nw wo k0 k1 k2 k3 k4 k5 : Nat → Nat) (RE : Nat → Nat → Nat) (BF : Nat → Option Nat) (BK : va_W), lj E bk ((th, S, T, P, R, L, B, Kd, lt, C), (ra, rb, rl, fa), (aa, su), (cp, cl, cf, ck, cm, ct), (le, tr, re), (bh, so, br, rs, ce), (wh, wy)) ((P, R, T, S, L, B', Nw, U, C, Kd), (fr, to, ln, aw), (su', ca, we, fa', sb, tb), (wk, nw, wo), (k0, k1, k2, k3, k4, k5), RE, BF, BK) → motive ((th, S, T, P, R, L, B, Kd, lt, C), (ra, rb, rl, fa), (aa, su), (cp, cl, cf, ck, cm, ct), (le, tr, re), (bh, so, br, rs, ce), (wh, wy)) ((P, R, T, S, L, B', Nw, U, C, Kd), (fr, to, ln, aw), (su', ca, we, fa', sb, tb), (wk, nw, wo), (k0, k1, k2, k3, k4, k5), RE, BF, BK)) : motive τ σ := by
  obtain ⟨⟨th, S, T, P, R, L, B, Kd, lt, C⟩, ⟨ra, rb, rl, fa⟩, ⟨aa, su⟩, ⟨cp, cl, cf, ck, cm, ct⟩, ⟨le, tr, re⟩, ⟨bh, so, br, rs, ce⟩, ⟨wh, wy⟩⟩ := τ
  obtain ⟨⟨P2, R2, T2, S2, L2, B', Nw, U, C2, Kd2⟩, ⟨fr, to, ln, aw⟩, ⟨su', ca, we, fa', sb, tb⟩, ⟨wk, nw, wo⟩, ⟨k0, k1, k2, k3, k4, k5⟩, RE, BF, BK⟩ := σ
  obtain ⟨⟨h1, h2, h3, h4, h5, h6, h7, h8⟩, hro, hca, hbm, hbc, hjm, hjc⟩ := h
  subst h1 h2 h3 h4 h5 h7 h8
  exact k _ _ _ _ _ _ _ _ _ _ _ _ _ _ _ _ _ _ _ _ _ _ _ _ _ _ _ _ _ _ _ _ _ _ _ _ _ _ _ _ _ _ _ _ _ _ _ _ _ _ _ _ _ _ _ _ _ ⟨⟨rfl, rfl, rfl, rfl, rfl, h6, rfl, rfl⟩, hro, hca, hbm, hbc, hjm, hjc⟩
section LLT
variable {ω : la_O} {κ : la_K} {cc : ByteArray} {nL : Nat} {own : String} {R0 : Room} {n : Nat × Nat} {pc : Nat} {lv : List (Option Value)} {st : List Value} {ws : va_W}
theorem la_tabIn (K : la_Cx ω κ cc nL own R0) {dflt lo hi : Int} {offs : Array Int} {len : Nat} {x : Int32} {off : Int} (tgt : Nat) (hd : decode cc pc = .ok (.tableswitch dflt lo hi offs, len)) (h1 : ¬ x.toInt < lo) (h2 : ¬ hi < x.toInt) (ho : offs[(x.toInt - lo).toNat]? = some off) (ht : (pc : Int) + off = (tgt : Int)) (kk : la_At ω κ n tgt lv st ws) : la_At ω κ n pc lv (.int x :: st) ws := by
  obtain ⟨hx, hb, -⟩ := K
  intro H locs ls hP hD hS hl
  exact lv_tableIn hx hb hd h1 h2 ho ht (kk H locs ls hP hD hS hl)
theorem la_tabOut (K : la_Cx ω κ cc nL own R0) {dflt lo hi : Int} {offs : Array Int} {len : Nat} {x : Int32} (tgt : Nat) (hd : decode cc pc = .ok (.tableswitch dflt lo hi offs, len)) (h : x.toInt < lo ∨ hi < x.toInt) (ht : (pc : Int) + dflt = (tgt : Int)) (kk : la_At ω κ n tgt lv st ws) : la_At ω κ n pc lv (.int x :: st) ws := by
  obtain ⟨hx, hb, -⟩ := K
  intro H locs ls hP hD hS hl
  exact lv_tableOut hx hb hd h ht (kk H locs ls hP hD hS hl)
end LLT
theorem ll_and31 (x : Int32) : ∃ k, k < 32 ∧ x &&& nI 31 = nI k := by
  obtain ⟨a, ha, rfl⟩ : ∃ a, a < 2 ^ 32 ∧ x = nI a := by
    obtain ⟨⟨bv⟩⟩ := x
    refine ⟨bv.toNat, bv.isLt, ?_⟩
    show (⟨⟨bv⟩⟩ : Int32) = ⟨⟨BitVec.ofNat 32 bv.toNat⟩⟩
    rw [BitVec.ofNat_toNat, BitVec.setWidth_eq]
  exact ⟨a % 32, Nat.mod_lt _ (by omega), pk_andN ha 5 (by decide +kernel)⟩
theorem ll_cmp {N i : Nat} (hN : N ≤ 448) (hi : i ≤ 448) : nI N - nI 7 < nI i ↔ N < i + 7 := by
  by_cases h : 7 ≤ N
  · rw [pk_sub h, nI_ltI (by omega) (by omega)]
    omega
  · constructor
    · intro _
      omega
    · intro _
      have hneg : nI N - nI 7 < nI 0 := by
        have h7 : N = 0 ∨ N = 1 ∨ N = 2 ∨ N = 3 ∨ N = 4 ∨ N = 5 ∨ N = 6 := by omega
        rcases h7 with rfl | rfl | rfl | rfl | rfl | rfl | rfl <;> decide +kernel
      exact Int32.lt_of_lt_of_le hneg (nI_le (Nat.zero_le i) (by omega))
section LLP
variable {ω : la_O} {κ : la_K} {b N : Nat} {xs : Nat → Int32} {ad am : Nat → Nat}
theorem ll_step (hH : ll_H ω κ b N xs) {i : Nat} {n : Nat × Nat} {bk : lp_Bk} {τ : lm_S} {σ : lb_S} (h0 : lj ω.2.2 bk τ σ) (hi : i + 7 ≤ N) (hn : n.1 + 36 ≤ 603072 ∧ n.2 + 2880 ≤ 7262314) (next : ll_Next ω κ b i ad am n) : la_At ω κ n 27 [some (.ref b), some (.ref (ad 0)), some (.ref (am 0)), some (.int (nI i))] [] (lb_W ω.2.2 ad σ ++ lm_W ω.2.2 am τ) := by
  have K := hH.1
  have hN : N ≤ 448 := hH.2.2.2.2.2.2.2
  refine la_aload_n (k := 0) K dL_law_27 rfl ?_
  refine la_iload_n (k := 3) K dL_law_28 rfl ?_
  refine ll_sld hH dL_law_29 (by omega) ?_
  refine la_bipush (v := nI 31) K dL_law_30 (by decide +kernel) ?_
  refine la_iand K dL_law_32 ?_
  obtain ⟨k, hk, e⟩ := ll_and31 (xs i)
  rw [e]
  refine lj_elim (fun τ σ => la_At ω κ n 33 [some (.ref b), some (.ref (ad 0)), some (.ref (am 0)), some (.int (nI i))] [.int (nI k)] (lb_W ω.2.2 ad σ ++ lm_W ω.2.2 am τ)) h0 ?_
  intro th S lt T P R L B Kd C ra rb rl fa aa su cp cl cf ck cm le tr re bh so br wh wy ct rs ce B' Nw U fr to ln aw su' ca we fa' sb tb wk nw wo k0 k1 k2 k3 k4 k5 RE BF BK h
  have hk2 : k = 0 ∨ k = 1 ∨ k = 2 ∨ k = 3 ∨ k = 4 ∨ k = 5 ∨ k = 6 ∨ k = 7 ∨ k = 8 ∨ k = 9 ∨ k = 10 ∨ k = 11 ∨ k = 12 ∨ k = 13 ∨ k = 14 ∨ k = 15 ∨ k = 16 ∨ k = 17 ∨ k = 18 ∨ k = 19 ∨ k = 20 ∨ k = 21 ∨ k = 22 ∨ k = 23 ∨ k = 24 ∨ k = 25 ∨ k = 26 ∨ k = 27 ∨ k = 28 ∨ k = 29 ∨ k = 30 ∨ k = 31 := by omega
  rcases hk2 with rfl | rfl | rfl | rfl | rfl | rfl | rfl | rfl | rfl | rfl | rfl | rfl | rfl | rfl | rfl | rfl | rfl | rfl | rfl | rfl | rfl | rfl | rfl | rfl | rfl | rfl | rfl | rfl | rfl | rfl | rfl | rfl
  · exact la_tabIn K 164 dL_law_33 (by decide +kernel) (by decide +kernel) (off := 131) (by decide +kernel) rfl (ll_c0 hH h hi ⟨by omega, by omega⟩ next)
  · exact la_tabIn K 177 dL_law_33 (by decide +kernel) (by decide +kernel) (off := 144) (by decide +kernel) rfl (ll_c1 hH h hi ⟨by omega, by omega⟩ next)
  · exact la_tabIn K 220 dL_law_33 (by decide +kernel) (by decide +kernel) (off := 187) (by decide +kernel) rfl (ll_c2 hH h hi ⟨by omega, by omega⟩ next)
  · exact la_tabIn K 253 dL_law_33 (by decide +kernel) (by decide +kernel) (off := 220) (by decide +kernel) rfl (ll_c3 hH h hi ⟨by omega, by omega⟩ next)
  · exact la_tabIn K 286 dL_law_33 (by decide +kernel) (by decide +kernel) (off := 253) (by decide +kernel) rfl (ll_c4 hH h hi ⟨by omega, by omega⟩ next)
  · exact la_tabIn K 319 dL_law_33 (by decide +kernel) (by decide +kernel) (off := 286) (by decide +kernel) rfl (ll_c5 hH h hi ⟨by omega, by omega⟩ next)
  · exact la_tabIn K 332 dL_law_33 (by decide +kernel) (by decide +kernel) (off := 299) (by decide +kernel) rfl (ll_c6 hH h hi ⟨by omega, by omega⟩ next)
  · exact la_tabIn K 355 dL_law_33 (by decide +kernel) (by decide +kernel) (off := 322) (by decide +kernel) rfl (ll_c7 hH h hi ⟨by omega, by omega⟩ next)
  · exact la_tabIn K 378 dL_law_33 (by decide +kernel) (by decide +kernel) (off := 345) (by decide +kernel) rfl (ll_c8 hH h hi ⟨by omega, by omega⟩ next)
  · exact la_tabIn K 391 dL_law_33 (by decide +kernel) (by decide +kernel) (off := 358) (by decide +kernel) rfl (ll_c9 hH h hi ⟨by omega, by omega⟩ next)
  · exact la_tabIn K 404 dL_law_33 (by decide +kernel) (by decide +kernel) (off := 371) (by decide +kernel) rfl (ll_c10 hH h hi ⟨by omega, by omega⟩ next)
  · exact la_tabIn K 427 dL_law_33 (by decide +kernel) (by decide +kernel) (off := 394) (by decide +kernel) rfl (ll_c11 hH h hi ⟨by omega, by omega⟩ next)
  · exact la_tabIn K 440 dL_law_33 (by decide +kernel) (by decide +kernel) (off := 407) (by decide +kernel) rfl (ll_c12 hH h hi ⟨by omega, by omega⟩ next)
  · exact la_tabIn K 473 dL_law_33 (by decide +kernel) (by decide +kernel) (off := 440) (by decide +kernel) rfl (ll_c13 hH h hi ⟨by omega, by omega⟩ next)
  · exact la_tabIn K 496 dL_law_33 (by decide +kernel) (by decide +kernel) (off := 463) (by decide +kernel) rfl (ll_c14 hH h hi ⟨by omega, by omega⟩ next)
  · exact la_tabIn K 529 dL_law_33 (by decide +kernel) (by decide +kernel) (off := 496) (by decide +kernel) rfl (ll_c15 hH h hi ⟨by omega, by omega⟩ next)
  · exact la_tabIn K 562 dL_law_33 (by decide +kernel) (by decide +kernel) (off := 529) (by decide +kernel) rfl (ll_c16 hH h hi ⟨by omega, by omega⟩ next)
  · exact la_tabIn K 585 dL_law_33 (by decide +kernel) (by decide +kernel) (off := 552) (by decide +kernel) rfl (ll_c17 hH h hi ⟨by omega, by omega⟩ next)
  · exact la_tabIn K 618 dL_law_33 (by decide +kernel) (by decide +kernel) (off := 585) (by decide +kernel) rfl (ll_c18 hH h hi ⟨by omega, by omega⟩ next)
  · exact la_tabIn K 631 dL_law_33 (by decide +kernel) (by decide +kernel) (off := 598) (by decide +kernel) rfl (ll_c19 hH h hi ⟨by omega, by omega⟩ next)
  · exact la_tabIn K 664 dL_law_33 (by decide +kernel) (by decide +kernel) (off := 631) (by decide +kernel) rfl (ll_c20 hH h hi ⟨by omega, by omega⟩ next)
  · exact la_tabIn K 707 dL_law_33 (by decide +kernel) (by decide +kernel) (off := 674) (by decide +kernel) rfl (ll_c21 hH h hi ⟨by omega, by omega⟩ next)
  · exact la_tabIn K 750 dL_law_33 (by decide +kernel) (by decide +kernel) (off := 717) (by decide +kernel) rfl (ll_c22 hH h hi ⟨by omega, by omega⟩ next)
  · exact la_tabIn K 845 dL_law_33 (by decide +kernel) (by decide +kernel) (off := 812) (by decide +kernel) rfl (ll_c23 hH h hi ⟨by omega, by omega⟩ next)
  · exact la_tabIn K 899 dL_law_33 (by decide +kernel) (by decide +kernel) (off := 866) (by decide +kernel) rfl (ll_c24 hH h hi ⟨by omega, by omega⟩ next)
  · exact la_tabIn K 922 dL_law_33 (by decide +kernel) (by decide +kernel) (off := 889) (by decide +kernel) rfl (ll_c25 hH h hi ⟨by omega, by omega⟩ next)
  · exact la_tabIn K 955 dL_law_33 (by decide +kernel) (by decide +kernel) (off := 922) (by decide +kernel) rfl (ll_c26 hH h hi ⟨by omega, by omega⟩ next)
  · exact la_tabIn K 978 dL_law_33 (by decide +kernel) (by decide +kernel) (off := 945) (by decide +kernel) rfl (ll_c27 hH h hi ⟨by omega, by omega⟩ next)
  · exact la_tabIn K 992 dL_law_33 (by decide +kernel) (by decide +kernel) (off := 959) (by decide +kernel) rfl (ll_c28 hH h hi ⟨by omega, by omega⟩ next)
  · exact la_tabOut K 1005 dL_law_33 (Or.inr (by decide +kernel)) rfl (next n bk _ _ (by omega) (by omega) h)
  · exact la_tabOut K 1005 dL_law_33 (Or.inr (by decide +kernel)) rfl (next n bk _ _ (by omega) (by omega) h)
  · exact la_tabOut K 1005 dL_law_33 (Or.inr (by decide +kernel)) rfl (next n bk _ _ (by omega) (by omega) h)
theorem ll_loop (hH : ll_H ω κ b N xs) (hret : ∀ (n : Nat × Nat) (lv : List (Option Value)) (ws : va_W), n.1 ≤ 603072 → n.2 ≤ 7262314 → la_At ω κ n 1012 lv [.int 1] ws) : ∀ (f i : Nat) (n : Nat × Nat) (bk : lp_Bk) (τ : lm_S) (σ : lb_S), N < i + 7 * f + 7 → i ≤ N → n.1 + 36 * f ≤ 603072 → n.2 + 2880 * f ≤ 7262314 → lj ω.2.2 bk τ σ → la_At ω κ n 18 [some (.ref b), some (.ref (ad 0)), some (.ref (am 0)), some (.int (nI i))] [] (lb_W ω.2.2 ad σ ++ lm_W ω.2.2 am τ) := by
  have K := hH.1
  have hN : N ≤ 448 := hH.2.2.2.2.2.2.2
  intro f
  induction f with
  | zero =>
    intro i n bk τ σ hf hi hn1 hn2 h
    refine la_iload_n (k := 3) K dL_law_18 rfl ?_
    refine la_aload_n (k := 0) K dL_law_19 rfl ?_
    refine ll_len hH dL_law_20 ?_
    refine la_bipush (v := nI 7) K dL_law_21 (by decide +kernel) ?_
    refine la_isub K dL_law_23 ?_
    refine la_icmp_gt K 1011 dL_law_24 rfl (fun _ => ?_) (fun z => absurd ((ll_cmp hN (by omega)).mpr (by omega)) z)
    refine la_iconst (v := 1) K dL_law_1011 (by decide +kernel) ?_
    exact hret n _ _ (by omega) (by omega)
  | succ f ih =>
    intro i n bk τ σ hf hi hn1 hn2 h
    refine la_iload_n (k := 3) K dL_law_18 rfl ?_
    refine la_aload_n (k := 0) K dL_law_19 rfl ?_
    refine ll_len hH dL_law_20 ?_
    refine la_bipush (v := nI 7) K dL_law_21 (by decide +kernel) ?_
    refine la_isub K dL_law_23 ?_
    refine la_icmp_gt K 1011 dL_law_24 rfl (fun _ => ?_) (fun z => ?_)
    · refine la_iconst (v := 1) K dL_law_1011 (by decide +kernel) ?_
      exact hret n _ _ (by omega) (by omega)
    · have hi7 : i + 7 ≤ N := Nat.not_lt.mp fun q => z ((ll_cmp hN (by omega)).mpr q)
      refine ll_step hH h hi7 ⟨by omega, by omega⟩ ?_
      intro n' bk' τ' σ' h1 h2 hj
      refine la_iinc3 K dL_law_1005 (v := nI (i + 7)) (nI_add i 7) rfl ?_
      refine la_goto K 18 dL_law_1008 rfl ?_
      exact ih (i + 7) n' bk' τ' σ' (by omega) hi7 (by omega) (by omega) hj
end LLP
/-- the array classes of the run, out of the tables -/
theorem la_E_of {s : State} {a : Array Value} (hts : ∀ w ∈ lw_tbl, w.before a s = true) : ∃ E : Nat → ClassId, ∀ (k : Nat) (q : ClassId × FieldType), (la_ty E)[k]? = some q → ArrOfT s q.1 q.2 ∧ va_RA s q.1 q.2 := by
  obtain ⟨c0, k0, m0, f0, g0, h0⟩ := Cond.arrayClass_spec (hts _ (lw_all_tbl q82))
  obtain ⟨c1, k1, m1, f1, g1, h1⟩ := Cond.arrayClass_spec (hts _ (lw_all_tbl q924))
  obtain ⟨c2, k2, m2, f2, g2, h2⟩ := Cond.arrayClass_spec (hts _ (lw_all_tbl q718))
  obtain ⟨c3, k3, m3, f3, g3, h3⟩ := Cond.arrayClass_spec (hts _ (lw_all_tbl q582))
  obtain ⟨c4, k4, m4, f4, g4, h4⟩ := Cond.arrayClass_spec (hts _ (lw_all_tbl q719))
  obtain ⟨m5, c5, k5, f5, -, g5, h5, j5⟩ := Cond.arrayOver_spec (hts _ q72)
  obtain ⟨m6, c6, k6, f6, -, g6, h6, j6⟩ := Cond.arrayOver_spec (hts _ q123)
  obtain ⟨m7, c7, k7, f7, g7, h7, j7⟩ := Cond.arrayOver_specA (hts _ q121)
  obtain ⟨m8, c8, k8, f8, g8, h8, j8⟩ := Cond.arrayOver_specA (hts _ q607)
  obtain ⟨m9, c9, k9, f9, g9, h9, j9⟩ := Cond.arrayOver_specA (hts _ q620)
  obtain ⟨mA, cA, kA, fA, gA, hA, jA⟩ := Cond.arrayOver_specA (hts _ q645)
  refine ⟨fun k => [c0, c1, c2, c3, c4, c5, c6, c7, c8, c9, cA].getD k c0, fun k q hq => ?_⟩
  match k, hq with
  | 0, hq => cases hq; exact ⟨fun n z => ⟨fun k h => (by cases h), k0, g0, m0, h0⟩, f0⟩
  | 1, hq => cases hq; exact ⟨fun n z => ⟨fun k h => (by cases h), k1, g1, m1, h1⟩, f1⟩
  | 2, hq => cases hq; exact ⟨fun n z => ⟨fun k h => (by cases h), k2, g2, m2, h2⟩, f2⟩
  | 3, hq => cases hq; exact ⟨fun n z => ⟨fun k h => (by cases h), k3, g3, m3, h3⟩, f3⟩
  | 4, hq => cases hq; exact ⟨fun n z => ⟨fun k h => (by cases h), k4, g4, m4, h4⟩, f4⟩
  | 5, hq => cases hq; exact ⟨fun n z => ⟨fun k h => (by cases h), k5, g5, m5, h5⟩, ⟨k5, m5, g5, h5, f5, j5⟩⟩
  | 6, hq => cases hq; exact ⟨fun n z => ⟨fun k h => (by cases h), k6, g6, m6, h6⟩, ⟨k6, m6, g6, h6, f6, j6⟩⟩
  | 7, hq => cases hq; exact ⟨fun n z => ⟨fun k h => (by cases h), k7, g7, m7, h7⟩, j7⟩
  | 8, hq => cases hq; exact ⟨fun n z => ⟨fun k h => (by cases h), k8, g8, m8, h8⟩, j8⟩
  | 9, hq => cases hq; exact ⟨fun n z => ⟨fun k h => (by cases h), k9, g9, m9, h9⟩, j9⟩
  | 10, hq => cases hq; exact ⟨fun n z => ⟨fun k h => (by cases h), kA, gA, mA, hA⟩, jA⟩
  | k + 11, hq => cases hq
/-- the classes of the run, out of the tables -/
theorem la_D_of {s : State} {a : Array Value} (hts : ∀ w ∈ lw_all, w.before a s = true) : ∃ D : va_G, ∀ (k : Nat) (q : vw_C), la_cl[k]? = some q → u_Kn s q.1 q.2.1 q.2.2 (D.1 k) (D.2 k) := by
  have h : ∀ k : Nat, ∃ (cC : ClassId) (iS : Nat → Nat), ∀ q : vw_C, la_cl[k]? = some q → u_Kn s q.1 q.2.1 q.2.2 cC iS := by
    intro k
    obtain ⟨d0, i0, z0⟩ := u_known hts in_X0 (hts _ q64)
    match k with
    | 0 => exact ⟨d0, i0, fun q hq => by cases hq; exact z0⟩
    | 1 =>
      obtain ⟨d, i, z⟩ := u_known hts in_X1 (hts _ q73)
      exact ⟨d, i, fun q hq => by cases hq; exact z⟩
    | 2 =>
      obtain ⟨d, i, z⟩ := u_known hts in_X2 (hts _ q84)
      exact ⟨d, i, fun q hq => by cases hq; exact z⟩
    | 3 =>
      obtain ⟨d, i, z⟩ := u_known hts in_X3 (hts _ q95)
      exact ⟨d, i, fun q hq => by cases hq; exact z⟩
    | 4 =>
      obtain ⟨d, i, z⟩ := u_known hts in_X4 (hts _ q106)
      exact ⟨d, i, fun q hq => by cases hq; exact z⟩
    | 5 =>
      obtain ⟨d, i, z⟩ := u_known hts in_X5 (hts _ q822)
      exact ⟨d, i, fun q hq => by cases hq; exact z⟩
    | 6 =>
      obtain ⟨d, i, z⟩ := u_known hts in_X7 (hts _ q598)
      exact ⟨d, i, fun q hq => by cases hq; exact z⟩
    | 7 =>
      obtain ⟨d, i, z⟩ := u_known hts in_X8 (hts _ q614)
      exact ⟨d, i, fun q hq => by cases hq; exact z⟩
    | 8 =>
      obtain ⟨d, i, z⟩ := u_known hts in_X9 (hts _ q627)
      exact ⟨d, i, fun q hq => by cases hq; exact z⟩
    | 9 =>
      obtain ⟨d, i, z⟩ := u_known hts in_X10 (hts _ q639)
      exact ⟨d, i, fun q hq => by cases hq; exact z⟩
    | k + 10 => exact ⟨d0, i0, fun q hq => by cases hq⟩
  exact ⟨(fun k => (h k).choose, fun k => (h k).choose_spec.choose), fun k q hq => (h k).choose_spec.choose_spec q hq⟩
/-- from the law's entry to the loop -/
theorem ll_start {ω : la_O} {κ : la_K} {b N : Nat} {xs : Nat → Int32} (hH : ll_H ω κ b N xs) (hret : ∀ (n : Nat × Nat) (lv : List (Option Value)) (ws : va_W), n.1 ≤ 603072 → n.2 ≤ 7262314 → la_At ω κ n 1012 lv [.int 1] ws) : la_At ω κ (0, 0) 0 [some (.ref b), none, none, none] [] [] := by
  have K := hH.1
  have hz := hH.2.1
  have hAs := hH.2.2.1
  have hN : N ≤ 448 := hH.2.2.2.2.2.2.2
  refine la_newO K in_X0 tyX0 tyX0_ok q63 q64 q41 (ci := 0) rfl (fs := lb_f0) (by decide +kernel) ⟨Nat.le_of_ble_eq_true rfl, Nat.le_of_ble_eq_true rfl⟩ dL_law_0 (fun a => ?_)
  refine la_dup K dL_law_3 rfl ?_
  refine lt_at (ws := [(a, .inr (0, lb_f0))]) K (lb_init a) lt_Zs_b (by decide) (lt_codeC K q67) (lt_invI (k := 0) (As := []) (rest := [.ref a]) K q65 q66 q67 rfl (by decide +kernel) rfl dL_law_4) dL_law_4 rfl (Nat.le_of_ble_eq_true rfl) ⟨Nat.le_of_ble_eq_true rfl, Nat.le_of_ble_eq_true rfl⟩ ⟨Nat.le_of_ble_eq_true rfl, Nat.le_of_ble_eq_true rfl⟩ (lt_Zs_at hz hAs) (fun v ad hu => ?_) (fun X ad hu => ?_)
  case refine_2 =>
    exact absurd hu.1 (by intro z; cases z)
  obtain ⟨e, ha⟩ := hu
  cases e
  subst ha
  refine la_astore1 K dL_law_7 rfl ?_
  refine la_newO K in_X5 tyX5 tyX5_ok q821 q822 q46 (ci := 5) rfl (fs := lm_f0) (by decide +kernel) ⟨Nat.le_of_ble_eq_true rfl, Nat.le_of_ble_eq_true rfl⟩ dL_law_8 (fun a2 => ?_)
  refine la_dup K dL_law_11 rfl ?_
  refine la_At_perm (ws := [(a2, .inr (5, lm_f0))] ++ lb_W ω.2.2 ad lb_σ0) List.perm_append_comm ?_
  refine lt_atF (ws := [(a2, .inr (5, lm_f0))]) K (lm_init a2) lt_Zs_b (by decide) (lt_codeC K q825) (lt_invI (k := 0) (As := []) (rest := [.ref a2]) K q823 q824 q825 rfl (by decide +kernel) rfl dL_law_12) dL_law_12 rfl (Nat.le_of_ble_eq_true rfl) ⟨Nat.le_of_ble_eq_true rfl, Nat.le_of_ble_eq_true rfl⟩ ⟨Nat.le_of_ble_eq_true rfl, Nat.le_of_ble_eq_true rfl⟩ (lt_Zs_at hz hAs) (fun v am hu => ?_) (fun X am hu => ?_)
  case refine_2 =>
    exact absurd hu.1 (by intro z; cases z)
  obtain ⟨e, ha⟩ := hu
  cases e
  subst ha
  refine la_At_perm (ws := lb_W ω.2.2 ad lb_σ0 ++ lm_W ω.2.2 am lm_τ0) List.perm_append_comm ?_
  refine la_astore2 K dL_law_15 rfl ?_
  refine la_iconst (v := nI 0) K dL_law_16 (by decide +kernel) ?_
  refine la_istore3 K dL_law_17 rfl ?_
  exact ll_loop hH hret 64 0 _ _ _ _ (by omega) (Nat.zero_le _) (Nat.le_of_ble_eq_true rfl) (Nat.le_of_ble_eq_true rfl) lj_0
