/-! THE MODEL's METHODS, part 3: stands and least costs. Printed by m3.py. -/
section LM3
variable {ω : la_O} {ad : Nat → Nat} {th S lt : Int32} {T : Int64} {P R L B Kd C : Nat} {ra rb rl fa aa su cp cl cf ck cm le tr re bh so br wh wy : Nat → Nat} {ct rs : Nat → Int32} {ce : Nat → Int64}
theorem lm_moved {s l p : Nat} (hs : s < 512) (hl : l < 3) (hp : p < 8) (ws : va_W) : la_CP ω yX5_moved cX5_moved 3 (some .int) (la_rm 0) [.int (nI s), .int (nI l), .int (nI p)] ws (nI (lp_mv s l p)) := by
  refine la_CI_of (by decide) [some (.int (nI (s))), some (.int (nI (l))), some (.int (nI (p)))] rfl rfl (Nat.le_of_ble_eq_true rfl) ?_
  intro κ K hret
  refine la_iload_n K dX5_moved_0 rfl ?_
  refine la_bipush K dX5_moved_1 la_kb_7 ?_
  refine la_iconst K dX5_moved_3 la_ki_3 ?_
  refine la_iload_n K dX5_moved_4 rfl ?_
  refine la_imulN K dX5_moved_5 ?_
  refine la_ishl K dX5_moved_6 ?_
  refine la_iconst K dX5_moved_7 la_ki_m1 ?_
  refine la_ixor K dX5_moved_8 ?_
  refine la_iand K dX5_moved_9 ?_
  refine la_iload_n K dX5_moved_10 rfl ?_
  refine la_iconst K dX5_moved_11 la_ki_3 ?_
  refine la_iload_n K dX5_moved_12 rfl ?_
  refine la_imulN K dX5_moved_13 ?_
  refine la_ishl K dX5_moved_14 ?_
  refine la_ior K dX5_moved_15 ?_
  exact hret _ _ _ () dX5_moved_16 (lp_mv_bits hs hl hp)
theorem lm_farOf {s a t b : Nat} (hs : s < 512) (ht : t < 512) (ha : a < 3) (hb : b < 3) (h1 : lp_dg s a < 6) (h2 : lp_dg t b < 6) : la_CP ω yX5_farOf cX5_farOf 5 (some .int) (la_rm 0) [.ref (ad 0), .int (nI s), .int (nI a), .int (nI t), .int (nI b)] (lm_W ω.2.2 ad ((th, S, T, P, R, L, B, Kd, lt, C), (ra, rb, rl, fa), (aa, su), (cp, cl, cf, ck, cm, ct), (le, tr, re), (bh, so, br, rs, ce), (wh, wy))) (nI (lp_D fa s a t b)) := by
  refine la_CI_of (by decide) [some (.ref (ad 0)), some (.int (nI (s))), some (.int (nI (a))), some (.int (nI (t))), some (.int (nI (b)))] rfl rfl (Nat.le_of_ble_eq_true rfl) ?_
  intro κ K hret
  refine la_aload_n K dX5_farOf_0 rfl ?_
  refine lm_g_fa K q835 dX5_farOf_1 ?_
  refine la_bipush K dX5_farOf_4 la_kb_6 ?_
  refine la_iload_n K dX5_farOf_6 rfl ?_
  refine la_iconst K dX5_farOf_7 la_ki_3 ?_
  refine la_iload_n K dX5_farOf_8 rfl ?_
  refine la_imulN K dX5_farOf_9 ?_
  refine la_ishrN K dX5_farOf_10 (by omega) (by omega) ?_
  refine la_bipush K dX5_farOf_11 la_kb_7 ?_
  refine la_iand7 K dX5_farOf_13 (by have := Nat.div_le_self s (2 ^ (3 * a)); omega) ?_
  refine la_imulN K dX5_farOf_14 ?_
  refine la_iload_n K dX5_farOf_15 rfl ?_
  refine la_iconst K dX5_farOf_16 la_ki_3 ?_
  refine la_iload K dX5_farOf_17 rfl ?_
  refine la_imulN K dX5_farOf_19 ?_
  refine la_ishrN K dX5_farOf_20 (by omega) (by omega) ?_
  refine la_bipush K dX5_farOf_21 la_kb_7 ?_
  refine la_iand7 K dX5_farOf_23 (by have := Nat.div_le_self t (2 ^ (3 * b)); omega) ?_
  refine la_iaddN K dX5_farOf_24 ?_
  refine lm_ld_fa K (by have : lp_dg s a < 6 := h1; have : lp_dg t b < 6 := h2; unfold lp_dg at *; omega) dX5_farOf_25 ?_
  exact hret _ _ _ () dX5_farOf_26 rfl
set_option maxHeartbeats 4000000 in
theorem lm_isStand {n : Nat} (x : Int32) (hn : n ≤ 3) (hP : P ≤ 6) : la_CP ω yX5_isStand cX5_isStand 5 (some .boolean) (la_rm 0) [.ref (ad 0), .int (nI n), .int x] (lm_W ω.2.2 ad ((th, S, T, P, R, L, B, Kd, lt, C), (ra, rb, rl, fa), (aa, su), (cp, cl, cf, ck, cm, ct), (le, tr, re), (bh, so, br, rs, ce), (wh, wy))) (nI (lp_b (lp_st P n x))) := by
  refine la_CZ_of (by decide) [some (.ref (ad 0)), some (.int (nI (n))), some (.int (x)), none, none] rfl rfl (Nat.le_of_ble_eq_true rfl) ?_
  intro κ K hret
  by_cases h0 : x < 0
  · skip
    refine la_iload_n K dX5_isStand_0 rfl ?_
    refine la_if_lt K 17 dX5_isStand_1 rfl (fun h1 => ?_) (fun h1 => absurd h0 h1)
    refine la_iconst K dX5_isStand_17 la_ki_0 ?_
    refine la_istore3 K dX5_isStand_18 rfl ?_
    refine la_iconst K dX5_isStand_19 la_ki_0 ?_
    refine la_istore4 K dX5_isStand_20 rfl ?_
    refine la_iload K dX5_isStand_22 rfl ?_
    refine la_iload_n K dX5_isStand_24 rfl ?_
    refine la_icmp_geN K 60 dX5_isStand_25 rfl (by omega) (by omega) (fun h25 => ?_) (fun h25 => ?_)
    · refine la_iload_n K dX5_isStand_60 rfl ?_
      exact hret _ _ _ () (by decide) dX5_isStand_61 (by rw [lp_b_f (lp_st_neg h0)])
    · refine la_iload_n K dX5_isStand_28 rfl ?_
      refine la_if_eqN K 60 dX5_isStand_29 rfl (by omega) (fun h29 => ?_) (fun h29 => absurd rfl h29)
      refine la_iload_n K dX5_isStand_60 rfl ?_
      exact hret _ _ _ () (by decide) dX5_isStand_61 (by rw [lp_b_f (lp_st_neg h0)])
  · obtain ⟨k, hk, rfl⟩ := nI_of h0
    have lp : ∀ (j i : Nat) (z : Nat), i ≤ n → n < i + j → z < 2 → (z = 1 ↔ (k < 2 ^ (3 * n) ∧ ∀ l, l < i → lp_dg k l < P)) → la_At ω κ (0, 0) 22 [some (.ref (ad 0)), some (.int (nI (n))), some (.int (nI (k))), some (.int (nI (z))), some (.int (nI (i)))] [] (lm_W ω.2.2 ad ((th, S, T, P, R, L, B, Kd, lt, C), (ra, rb, rl, fa), (aa, su), (cp, cl, cf, ck, cm, ct), (le, tr, re), (bh, so, br, rs, ce), (wh, wy))) := by
      intro j
      induction j with
      | zero => intro i z h1 h2; omega
      | succ j ih =>
        intro i z h1 h2 hz2 hz
        refine la_iload K dX5_isStand_22 rfl ?_
        refine la_iload_n K dX5_isStand_24 rfl ?_
        refine la_icmp_geN K 60 dX5_isStand_25 rfl (by omega) (by omega) (fun h25 => ?_) (fun h25 => ?_)
        · refine la_iload_n K dX5_isStand_60 rfl ?_
          exact hret _ _ _ () (by omega) dX5_isStand_61 (by rw [show i = n by omega] at hz; rw [← lp_b_eq hz2 (hz.trans (lp_st_N (by omega)).symm)])
        · refine la_iload_n K dX5_isStand_28 rfl ?_
          refine la_if_eqN K 60 dX5_isStand_29 rfl (by omega) (fun h29 => ?_) (fun h29 => ?_)
          · refine la_iload_n K dX5_isStand_60 rfl ?_
            exact hret _ _ _ () (by omega) dX5_isStand_61 (by rw [show z = 0 by omega, lp_b_f (fun q => by have q2 := (lp_st_N (by omega)).mp q; have := hz.mpr ⟨q2.1, fun l hl => q2.2 l (by omega)⟩; omega)])
          · refine la_iload_n K dX5_isStand_32 rfl ?_
            refine la_iconst K dX5_isStand_33 la_ki_3 ?_
            refine la_iload K dX5_isStand_34 rfl ?_
            refine la_imulN K dX5_isStand_36 ?_
            refine la_ishrN K dX5_isStand_37 (by omega) (by omega) ?_
            refine la_bipush K dX5_isStand_38 la_kb_7 ?_
            refine la_iand7 K dX5_isStand_40 (by have := Nat.div_le_self k (2 ^ (3 * i)); omega) ?_
            refine la_aload_n K dX5_isStand_41 rfl ?_
            refine lm_g_P K q830 dX5_isStand_42 ?_
            refine la_icmp_geN K 52 dX5_isStand_45 rfl (by have := lp_dg_lt k i; unfold lp_dg at this; omega) (by omega) (fun h45 => ?_) (fun h45 => ?_)
            · refine la_iconst K dX5_isStand_52 la_ki_0 ?_
              refine la_istore3 K dX5_isStand_53 rfl ?_
              refine la_iinc4 K dX5_isStand_54 (la_inc_N _) rfl ?_
              refine la_goto K 22 dX5_isStand_57 rfl ?_
              exact ih (i + 1) _ (by omega) (by omega) (by omega) ⟨fun h => by omega, fun h => absurd (h.2 i (by omega)) (by unfold lp_dg; omega)⟩
            · refine la_iconst K dX5_isStand_48 la_ki_1 ?_
              refine la_goto K 53 dX5_isStand_49 rfl ?_
              refine la_istore3 K dX5_isStand_53 rfl ?_
              refine la_iinc4 K dX5_isStand_54 (la_inc_N _) rfl ?_
              refine la_goto K 22 dX5_isStand_57 rfl ?_
              have hall : ∀ q, q < i + 1 → lp_dg k q < P := by
                intro q hq
                by_cases e : q = i
                · subst e; exact h45
                · exact (hz.mp (by omega)).2 q (by omega)
              exact ih (i + 1) _ (by omega) (by omega) (by omega) ⟨fun _ => ⟨(hz.mp (by omega)).1, hall⟩, fun _ => rfl⟩
    refine la_iload_n K dX5_isStand_0 rfl ?_
    refine la_if_ltN K 17 dX5_isStand_1 rfl (by omega) ?_
    refine la_iload_n K dX5_isStand_4 rfl ?_
    refine la_iconst K dX5_isStand_5 la_ki_1 ?_
    refine la_iconst K dX5_isStand_6 la_ki_3 ?_
    refine la_iload_n K dX5_isStand_7 rfl ?_
    refine la_imulN K dX5_isStand_8 ?_
    refine la_ishlN K dX5_isStand_9 (by omega) (by have := lp_pw hn; omega) ?_
    refine la_icmp_geN K 17 dX5_isStand_10 rfl (by omega) (by have := lp_pw hn; omega) (fun h10 => ?_) (fun h10 => ?_)
    · refine la_iconst K dX5_isStand_17 la_ki_0 ?_
      refine la_istore3 K dX5_isStand_18 rfl ?_
      refine la_iconst K dX5_isStand_19 la_ki_0 ?_
      refine la_istore4 K dX5_isStand_20 rfl ?_
      exact lp (n + 1) 0 _ (by omega) (by omega) (by omega) ⟨fun h => by omega, fun h => by omega⟩
    · refine la_iconst K dX5_isStand_13 la_ki_1 ?_
      refine la_goto K 18 dX5_isStand_14 rfl ?_
      refine la_istore3 K dX5_isStand_18 rfl ?_
      refine la_iconst K dX5_isStand_19 la_ki_0 ?_
      refine la_istore4 K dX5_isStand_20 rfl ?_
      exact lp (n + 1) 0 _ (by omega) (by omega) (by omega) ⟨fun _ => ⟨by omega, fun l hl => by omega⟩, fun _ => rfl⟩
set_option maxHeartbeats 4000000 in
theorem lm_movesOf {s t : Nat} (hP : P ≤ 6) (hL1 : 1 ≤ L) (hL3 : L ≤ 3) (hfa : ∀ i, i < 36 → fa i ≤ 100000000) (hs : lp_sd P L s) (ht : lp_sd P L t) : la_CP ω yX5_movesOf cX5_movesOf 7 (some .int) (la_rm 1) [.ref (ad 0), .int (nI s), .int (nI t)] (lm_W ω.2.2 ad ((th, S, T, P, R, L, B, Kd, lt, C), (ra, rb, rl, fa), (aa, su), (cp, cl, cf, ck, cm, ct), (le, tr, re), (bh, so, br, rs, ce), (wh, wy))) (nI (lp_min 100000000 (lp_MQ L fa s t))) := by
  refine la_CI_of (by decide) [some (.ref (ad 0)), some (.int (nI (s))), some (.int (nI (t))), none, none, none, none] rfl rfl (Nat.le_of_ble_eq_true rfl) ?_
  intro κ K hret
  have hD : ∀ a b, a < L → b < L → lp_D fa s a t b ≤ 100000000 := fun a b h1 h2 => hfa _ (by have := hs.2 a h1; have := ht.2 b h2; omega)
  have l1 : ¬ L = 1 → ∀ (j a : Nat) (v : Nat) (x5 x6 : Option Value), a ≤ L → L < a + j → lp_MJ L fa s t a 0 v → la_At ω κ (0, 0) 23 [some (.ref (ad 0)), some (.int (nI (s))), some (.int (nI (t))), some (.int (nI (v))), some (.int (nI (a))), x5, x6] [] (lm_W ω.2.2 ad ((th, S, T, P, R, L, B, Kd, lt, C), (ra, rb, rl, fa), (aa, su), (cp, cl, cf, ck, cm, ct), (le, tr, re), (bh, so, br, rs, ce), (wh, wy))) := by
    intro h5 j
    induction j with
    | zero => intro a v x5 x6 h1 h2; omega
    | succ j ih1 =>
      intro a v x5 x6 h1 h2 hJ
      have l2 : a < L → ∀ (j b : Nat) (v : Nat) (x6 : Option Value), b ≤ L → L < b + j → lp_MJ L fa s t a b v → la_At ω κ (0, 0) 35 [some (.ref (ad 0)), some (.int (nI (s))), some (.int (nI (t))), some (.int (nI (v))), some (.int (nI (a))), some (.int (nI (b))), x6] [] (lm_W ω.2.2 ad ((th, S, T, P, R, L, B, Kd, lt, C), (ra, rb, rl, fa), (aa, su), (cp, cl, cf, ck, cm, ct), (le, tr, re), (bh, so, br, rs, ce), (wh, wy))) := by
        intro ha j
        induction j with
        | zero => intro b v x6 h1 h2; omega
        | succ j ih2 =>
          intro b v x6 h1 h2 hJ
          refine la_iload K dX5_movesOf_35 rfl ?_
          refine la_aload_n K dX5_movesOf_37 rfl ?_
          refine lm_g_L K q836 dX5_movesOf_38 ?_
          refine la_icmp_geN K 118 dX5_movesOf_41 rfl (by omega) (by omega) (fun h41 => ?_) (fun h41 => ?_)
          · refine la_iinc4 K dX5_movesOf_118 (la_inc_N _) rfl ?_
            refine la_goto K 23 dX5_movesOf_121 rfl ?_
            exact ih1 (a + 1) _ _ _ (by omega) (by omega) (lp_MJ_row (by rw [show b = L by omega] at hJ; exact hJ))
          · refine la_iload K dX5_movesOf_44 rfl ?_
            refine la_iload K dX5_movesOf_46 rfl ?_
            refine la_icmp_eqN K 112 dX5_movesOf_48 rfl (by omega) (by omega) (fun h48 => ?_) (fun h48 => ?_)
            · refine la_iinc5 K dX5_movesOf_112 (la_inc_N _) rfl ?_
              refine la_goto K 35 dX5_movesOf_115 rfl ?_
              exact ih2 (b + 1) _ _ (by omega) (by omega) (by rw [show b = a by omega] at hJ ⊢; exact lp_MJ_skip hJ)
            · refine la_aload_n K dX5_movesOf_51 rfl ?_
              refine la_iload_n K dX5_movesOf_52 rfl ?_
              refine la_iconst K dX5_movesOf_53 la_ki_0 ?_
              refine la_iload_n K dX5_movesOf_54 rfl ?_
              refine la_iload K dX5_movesOf_55 rfl ?_
              refine la_callVp K ok_X5_farOf q1024 (lm_farOf (lp_sd_lt hs hL3) (lp_sd_lt ht hL3) (by omega) (by omega) (by have := hs.2 0 (by omega); omega) (by have := ht.2 a (by omega); omega)) 0 rfl rfl rfl rfl rfl (Nat.le_of_ble_eq_true rfl) ⟨Nat.le_of_ble_eq_true rfl, Nat.le_of_ble_eq_true rfl⟩ ⟨Nat.zero_le _, Nat.zero_le _⟩ dX5_movesOf_57 ?_
              refine la_aload_n K dX5_movesOf_60 rfl ?_
              refine la_iload_n K dX5_movesOf_61 rfl ?_
              refine la_iconst K dX5_movesOf_62 la_ki_1 ?_
              refine la_iload_n K dX5_movesOf_63 rfl ?_
              refine la_iload K dX5_movesOf_64 rfl ?_
              refine la_callVp K ok_X5_farOf q1024 (lm_farOf (lp_sd_lt hs hL3) (lp_sd_lt ht hL3) (by omega) (by omega) (by have := hs.2 1 (by omega); omega) (by have := ht.2 b (by omega); omega)) 0 rfl rfl rfl rfl rfl (Nat.le_of_ble_eq_true rfl) ⟨Nat.le_of_ble_eq_true rfl, Nat.le_of_ble_eq_true rfl⟩ ⟨Nat.zero_le _, Nat.zero_le _⟩ dX5_movesOf_66 ?_
              refine la_iaddN K dX5_movesOf_69 ?_
              refine la_aload_n K dX5_movesOf_70 rfl ?_
              refine lm_g_L K q836 dX5_movesOf_71 ?_
              refine la_iconst K dX5_movesOf_74 la_ki_3 ?_
              refine la_icmp_neN K 95 dX5_movesOf_75 rfl (by omega) (by omega) (fun h75 => ?_) (fun h75 => ?_)
              · refine la_iconst K dX5_movesOf_95 la_ki_0 ?_
                refine la_iaddN K dX5_movesOf_96 ?_
                refine la_istore6 K dX5_movesOf_97 rfl ?_
                refine la_iload K dX5_movesOf_99 rfl ?_
                refine la_iload_n K dX5_movesOf_101 rfl ?_
                refine la_icmp_geN K 110 dX5_movesOf_102 rfl (by have b1 := hD 0 a (by omega) (by omega); have b2 := hD 1 b (by omega) (by omega); skip; omega) (by have := hJ.1; omega) (fun h102 => ?_) (fun h102 => ?_)
                · refine la_iload_n K dX5_movesOf_110 rfl ?_
                  refine la_istore3 K dX5_movesOf_111 rfl ?_
                  refine la_iinc5 K dX5_movesOf_112 (la_inc_N _) rfl ?_
                  refine la_goto K 35 dX5_movesOf_115 rfl ?_
                  have e : min v (lp_mq L fa s t a b) = v := by
                    unfold lp_mq; rw [if_neg h75]; omega
                  exact ih2 (b + 1) _ _ (by omega) (by omega) (e ▸ lp_MJ_step hJ (by omega) (by omega) (by omega))
                · refine la_iload K dX5_movesOf_105 rfl ?_
                  refine la_goto K 111 dX5_movesOf_107 rfl ?_
                  refine la_istore3 K dX5_movesOf_111 rfl ?_
                  refine la_iinc5 K dX5_movesOf_112 (la_inc_N _) rfl ?_
                  refine la_goto K 35 dX5_movesOf_115 rfl ?_
                  have e : min v (lp_mq L fa s t a b) = lp_D fa s 0 t a + lp_D fa s 1 t b + 0 := by
                    unfold lp_mq; rw [if_neg h75]; omega
                  exact ih2 (b + 1) _ _ (by omega) (by omega) (e ▸ lp_MJ_step hJ (by omega) (by omega) (by omega))
              · refine la_aload_n K dX5_movesOf_78 rfl ?_
                refine la_iload_n K dX5_movesOf_79 rfl ?_
                refine la_iconst K dX5_movesOf_80 la_ki_2 ?_
                refine la_iload_n K dX5_movesOf_81 rfl ?_
                refine la_iconst K dX5_movesOf_82 la_ki_3 ?_
                refine la_iload K dX5_movesOf_83 rfl ?_
                refine la_isubN K dX5_movesOf_85 (by omega) ?_
                refine la_iload K dX5_movesOf_86 rfl ?_
                refine la_isubN K dX5_movesOf_88 (by omega) ?_
                refine la_callVp K ok_X5_farOf q1024 (lm_farOf (lp_sd_lt hs hL3) (lp_sd_lt ht hL3) (by omega) (by omega) (by have := hs.2 2 (by omega); omega) (by have := ht.2 (3 - a - b) (by omega); omega)) 0 rfl rfl rfl rfl rfl (Nat.le_of_ble_eq_true rfl) ⟨Nat.le_of_ble_eq_true rfl, Nat.le_of_ble_eq_true rfl⟩ ⟨Nat.zero_le _, Nat.zero_le _⟩ dX5_movesOf_89 ?_
                refine la_goto K 96 dX5_movesOf_92 rfl ?_
                refine la_iaddN K dX5_movesOf_96 ?_
                refine la_istore6 K dX5_movesOf_97 rfl ?_
                refine la_iload K dX5_movesOf_99 rfl ?_
                refine la_iload_n K dX5_movesOf_101 rfl ?_
                refine la_icmp_geN K 110 dX5_movesOf_102 rfl (by have b1 := hD 0 a (by omega) (by omega); have b2 := hD 1 b (by omega) (by omega); have b3 := hD 2 (3 - a - b) (by omega) (by omega); omega) (by have := hJ.1; omega) (fun h102 => ?_) (fun h102 => ?_)
                · refine la_iload_n K dX5_movesOf_110 rfl ?_
                  refine la_istore3 K dX5_movesOf_111 rfl ?_
                  refine la_iinc5 K dX5_movesOf_112 (la_inc_N _) rfl ?_
                  refine la_goto K 35 dX5_movesOf_115 rfl ?_
                  have e : min v (lp_mq L fa s t a b) = v := by
                    unfold lp_mq; rw [if_pos h75]; omega
                  exact ih2 (b + 1) _ _ (by omega) (by omega) (e ▸ lp_MJ_step hJ (by omega) (by omega) (by omega))
                · refine la_iload K dX5_movesOf_105 rfl ?_
                  refine la_goto K 111 dX5_movesOf_107 rfl ?_
                  refine la_istore3 K dX5_movesOf_111 rfl ?_
                  refine la_iinc5 K dX5_movesOf_112 (la_inc_N _) rfl ?_
                  refine la_goto K 35 dX5_movesOf_115 rfl ?_
                  have e : min v (lp_mq L fa s t a b) = lp_D fa s 0 t a + lp_D fa s 1 t b + lp_D fa s 2 t (3 - a - b) := by
                    unfold lp_mq; rw [if_pos h75]; omega
                  exact ih2 (b + 1) _ _ (by omega) (by omega) (e ▸ lp_MJ_step hJ (by omega) (by omega) (by omega))
      refine la_iload K dX5_movesOf_23 rfl ?_
      refine la_aload_n K dX5_movesOf_25 rfl ?_
      refine lm_g_L K q836 dX5_movesOf_26 ?_
      refine la_icmp_geN K 124 dX5_movesOf_29 rfl (by omega) (by omega) (fun h29 => ?_) (fun h29 => ?_)
      · refine la_iload_n K dX5_movesOf_124 rfl ?_
        exact hret _ _ _ () dX5_movesOf_125 (congrArg nI (lp_MJ_end h5 (by rw [show a = L by omega] at hJ; exact hJ)))
      · refine la_iconst K dX5_movesOf_32 la_ki_0 ?_
        refine la_istore5 K dX5_movesOf_33 rfl ?_
        exact l2 (by omega) (L + 1) 0 _ _ (by omega) (by omega) hJ
  refine la_aload_n K dX5_movesOf_0 rfl ?_
  refine lm_g_L K q836 dX5_movesOf_1 ?_
  refine la_iconst K dX5_movesOf_4 la_ki_1 ?_
  refine la_icmp_neN K 17 dX5_movesOf_5 rfl (by omega) (by omega) (fun h5 => ?_) (fun h5 => ?_)
  · refine la_ldc K q953 la_kl_100000000 dX5_movesOf_17 ?_
    refine la_istore3 K dX5_movesOf_19 rfl ?_
    refine la_iconst K dX5_movesOf_20 la_ki_0 ?_
    refine la_istore4 K dX5_movesOf_21 rfl ?_
    exact l1 h5 (L + 1) 0 _ _ _ (by omega) (by omega) lp_MJ_0
  · refine la_aload_n K dX5_movesOf_8 rfl ?_
    refine la_iload_n K dX5_movesOf_9 rfl ?_
    refine la_iconst K dX5_movesOf_10 la_ki_0 ?_
    refine la_iload_n K dX5_movesOf_11 rfl ?_
    refine la_iconst K dX5_movesOf_12 la_ki_0 ?_
    refine la_callVp K ok_X5_farOf q1024 (lm_farOf (lp_sd_lt hs hL3) (lp_sd_lt ht hL3) (by omega) (by omega) (by have := hs.2 0 (by omega); omega) (by have := ht.2 0 (by omega); omega)) 0 rfl rfl rfl rfl rfl (Nat.le_of_ble_eq_true rfl) ⟨Nat.le_of_ble_eq_true rfl, Nat.le_of_ble_eq_true rfl⟩ ⟨Nat.zero_le _, Nat.zero_le _⟩ dX5_movesOf_13 ?_
    exact hret _ _ _ () dX5_movesOf_16 (by rw [← lp_MQ_1 h5 (hD 0 0 (by omega) (by omega))])
theorem lm_startsL (hB : B < 512) : la_CV ω yX5_starts cX5_starts 3 none (la_rm 0) [.ref (ad 0), .ref (ad 13)] (lm_W ω.2.2 ad ((th, S, T, P, R, L, B, Kd, lt, C), (ra, rb, rl, fa), (aa, su), (cp, cl, cf, ck, cm, ct), (le, tr, re), (bh, so, br, rs, ce), (wh, wy))) (lm_W ω.2.2 ad) (fun u : lm_S => ∃ f, u = ((th, S, T, P, R, L, B, Kd, lt, C), (ra, rb, rl, fa), (aa, su), (cp, cl, cf, ck, cm, ct), (f, tr, re), (bh, so, br, rs, ce), (wh, wy)) ∧ (∀ i, i < 512 → f i = if i = B then 0 else 100000000) ∧ (∀ i, 512 ≤ i → f i = le i)) := by
  refine la_CV_of (by decide) [some (.ref (ad 0)), some (.ref (ad 13)), none] rfl rfl (Nat.le_of_ble_eq_true rfl) ?_
  intro κ K hret
  have lp : ∀ (j s : Nat) (f : Nat → Nat), s ≤ 512 → 512 < s + j → (∀ i, i < s → f i = if i = B then 0 else 100000000) → (∀ i, s ≤ i → f i = le i) → la_At ω κ (0, 0) 2 [some (.ref (ad 0)), some (.ref (ad 13)), some (.int (nI (s)))] [] (lm_W ω.2.2 ad ((th, S, T, P, R, L, B, Kd, lt, C), (ra, rb, rl, fa), (aa, su), (cp, cl, cf, ck, cm, ct), (f, tr, re), (bh, so, br, rs, ce), (wh, wy))) := by
    intro j
    induction j with
    | zero => intro s f h1 h2; omega
    | succ j ih =>
      intro s f h1 h2 hA hB
      refine la_iload_n K dX5_starts_2 rfl ?_
      refine la_sipush K dX5_starts_3 la_ks_512 ?_
      refine la_icmp_geN K 32 dX5_starts_6 rfl (by omega) (by omega) (fun h6 => ?_) (fun h6 => ?_)
      · exact hret _ _ _ dX5_starts_32 ⟨f, rfl, fun i hi => by rw [show s = 512 by omega] at hA; exact hA i hi, fun i hi => hB i (by omega)⟩
      · refine la_aload_n K dX5_starts_9 rfl ?_
        refine la_iload_n K dX5_starts_10 rfl ?_
        refine la_iload_n K dX5_starts_11 rfl ?_
        refine la_aload_n K dX5_starts_12 rfl ?_
        refine lm_g_B K q837 dX5_starts_13 ?_
        refine la_icmp_neN K 23 dX5_starts_16 rfl (by omega) (by omega) (fun h16 => ?_) (fun h16 => ?_)
        · refine la_ldc K q953 la_kl_100000000 dX5_starts_23 ?_
          refine lm_st_le K (by omega) dX5_starts_25 ?_
          refine la_iinc2 K dX5_starts_26 (la_inc_N _) rfl ?_
          refine la_goto K 2 dX5_starts_29 rfl ?_
          have hA2 : ∀ i, i < s + 1 → va_up f s 100000000 i = if i = B then 0 else 100000000 := by
            intro i hi
            by_cases e : i = s
            · subst e; rw [va_up_self, if_neg h16]
            · rw [va_up_ne _ _ e]; exact hA i (by omega)
          exact ih (s + 1) _ (by omega) (by omega) hA2 (by intro i hi; rw [va_up_ne _ _ (by omega)]; exact hB i (by omega))
        · refine la_iconst K dX5_starts_19 la_ki_0 ?_
          refine la_goto K 25 dX5_starts_20 rfl ?_
          refine lm_st_le K (by omega) dX5_starts_25 ?_
          refine la_iinc2 K dX5_starts_26 (la_inc_N _) rfl ?_
          refine la_goto K 2 dX5_starts_29 rfl ?_
          have hA2 : ∀ i, i < s + 1 → va_up f s 0 i = if i = B then 0 else 100000000 := by
            intro i hi
            by_cases e : i = s
            · subst e; rw [va_up_self, if_pos h16]
            · rw [va_up_ne _ _ e]; exact hA i (by omega)
          exact ih (s + 1) _ (by omega) (by omega) hA2 (by intro i hi; rw [va_up_ne _ _ (by omega)]; exact hB i (by omega))
  refine la_iconst K dX5_starts_0 la_ki_0 ?_
  refine la_istore2 K dX5_starts_1 rfl ?_
  exact lp 513 0 _ (by omega) (by omega) (fun i hi => by omega) (fun i _ => rfl)
theorem lm_leastOfL {q : Nat} (hq : q + 512 ≤ 6656) (hf : ∀ i, le i ≤ 100000000) : la_CP ω yX5_leastOf cX5_leastOf 4 (some .int) (la_rm 0) [.ref (ad 13), .int (nI q)] (lm_W ω.2.2 ad ((th, S, T, P, R, L, B, Kd, lt, C), (ra, rb, rl, fa), (aa, su), (cp, cl, cf, ck, cm, ct), (le, tr, re), (bh, so, br, rs, ce), (wh, wy))) (nI (lp_min 100000000 (lp_LQ (fun s => le (q + s)) 512))) := by
  refine la_CI_of (by decide) [some (.ref (ad 13)), some (.int (nI (q))), none, none] rfl rfl (Nat.le_of_ble_eq_true rfl) ?_
  intro κ K hret
  have lp : ∀ (j s : Nat) (v : Nat), s ≤ 512 → 512 < s + j → lp_mn 100000000 (lp_LQ (fun s => le (q + s)) s) v → la_At ω κ (0, 0) 5 [some (.ref (ad 13)), some (.int (nI (q))), some (.int (nI (v))), some (.int (nI (s)))] [] (lm_W ω.2.2 ad ((th, S, T, P, R, L, B, Kd, lt, C), (ra, rb, rl, fa), (aa, su), (cp, cl, cf, ck, cm, ct), (le, tr, re), (bh, so, br, rs, ce), (wh, wy))) := by
    intro j
    induction j with
    | zero => intro s v h1 h2; omega
    | succ j ih =>
      intro s v h1 h2 hv
      refine la_iload_n K dX5_leastOf_5 rfl ?_
      refine la_sipush K dX5_leastOf_6 la_ks_512 ?_
      refine la_icmp_geN K 37 dX5_leastOf_9 rfl (by omega) (by omega) (fun h9 => ?_) (fun h9 => ?_)
      · refine la_iload_n K dX5_leastOf_37 rfl ?_
        exact hret _ _ _ () dX5_leastOf_38 (by rw [show s = 512 by omega] at hv; rw [lp_mn_min hv])
      · refine la_aload_n K dX5_leastOf_12 rfl ?_
        refine la_iload_n K dX5_leastOf_13 rfl ?_
        refine la_iload_n K dX5_leastOf_14 rfl ?_
        refine la_iaddN K dX5_leastOf_15 ?_
        refine lm_ld_le K (by omega) dX5_leastOf_16 ?_
        refine la_iload_n K dX5_leastOf_17 rfl ?_
        refine la_icmp_geN K 29 dX5_leastOf_18 rfl (by have := hf (q + s); omega) (by have := hv.1; omega) (fun h18 => ?_) (fun h18 => ?_)
        · refine la_iload_n K dX5_leastOf_29 rfl ?_
          refine la_istore2 K dX5_leastOf_30 rfl ?_
          refine la_iinc3 K dX5_leastOf_31 (la_inc_N _) rfl ?_
          refine la_goto K 5 dX5_leastOf_34 rfl ?_
          exact ih (s + 1) _ (by omega) (by omega) (lp_LQ_step hv (by first | omega | (dsimp only; omega)))
        · refine la_aload_n K dX5_leastOf_21 rfl ?_
          refine la_iload_n K dX5_leastOf_22 rfl ?_
          refine la_iload_n K dX5_leastOf_23 rfl ?_
          refine la_iaddN K dX5_leastOf_24 ?_
          refine lm_ld_le K (by omega) dX5_leastOf_25 ?_
          refine la_goto K 30 dX5_leastOf_26 rfl ?_
          refine la_istore2 K dX5_leastOf_30 rfl ?_
          refine la_iinc3 K dX5_leastOf_31 (la_inc_N _) rfl ?_
          refine la_goto K 5 dX5_leastOf_34 rfl ?_
          exact ih (s + 1) _ (by omega) (by omega) (lp_LQ_step hv (by first | omega | (dsimp only; omega)))
  refine la_ldc K q953 la_kl_100000000 dX5_leastOf_0 ?_
  refine la_istore2 K dX5_leastOf_2 rfl ?_
  refine la_iconst K dX5_leastOf_3 la_ki_0 ?_
  refine la_istore3 K dX5_leastOf_4 rfl ?_
  exact lp 513 0 _ (by omega) (by omega) lp_LQ_0
set_option maxHeartbeats 4000000 in
theorem lm_workOfL {q x : Nat} (hP : P ≤ 6) (hL1 : 1 ≤ L) (hL3 : L ≤ 3) (hfa : ∀ i, i < 36 → fa i ≤ 100000000) (hq : q + 512 ≤ 6656) (hf : ∀ i, le i ≤ 100000000) (hst : ∀ s, s < 512 → le (q + s) < 100000000 → lp_sd P L s) (hx : lp_sd P L x) : la_CP ω yX5_workOf cX5_workOf 7 (some .int) (la_rm 2) [.ref (ad 0), .ref (ad 13), .int (nI q), .int (nI x)] (lm_W ω.2.2 ad ((th, S, T, P, R, L, B, Kd, lt, C), (ra, rb, rl, fa), (aa, su), (cp, cl, cf, ck, cm, ct), (le, tr, re), (bh, so, br, rs, ce), (wh, wy))) (nI (lp_min 100000000 (lp_WQ L fa (fun s => le (q + s)) x 512))) := by
  refine la_CI_of (by decide) [some (.ref (ad 0)), some (.ref (ad 13)), some (.int (nI (q))), some (.int (nI (x))), none, none, none] rfl rfl (Nat.le_of_ble_eq_true rfl) ?_
  intro κ K hret
  have lp : ∀ (j s : Nat) (v : Nat) (x6 : Option Value), s ≤ 512 → 512 < s + j → lp_mn 100000000 (lp_WQ L fa (fun s => le (q + s)) x s) v → la_At ω κ (0, 0) 7 [some (.ref (ad 0)), some (.ref (ad 13)), some (.int (nI (q))), some (.int (nI (x))), some (.int (nI (v))), some (.int (nI (s))), x6] [] (lm_W ω.2.2 ad ((th, S, T, P, R, L, B, Kd, lt, C), (ra, rb, rl, fa), (aa, su), (cp, cl, cf, ck, cm, ct), (le, tr, re), (bh, so, br, rs, ce), (wh, wy))) := by
    intro j
    induction j with
    | zero => intro s v x6 h1 h2; omega
    | succ j ih =>
      intro s v x6 h1 h2 hv
      refine la_iload K dX5_workOf_7 rfl ?_
      refine la_sipush K dX5_workOf_9 la_ks_512 ?_
      refine la_icmp_geN K 64 dX5_workOf_12 rfl (by omega) (by omega) (fun h12 => ?_) (fun h12 => ?_)
      · refine la_iload K dX5_workOf_64 rfl ?_
        exact hret _ _ _ () dX5_workOf_66 (by rw [show s = 512 by omega] at hv; rw [lp_mn_min hv])
      · refine la_aload_n K dX5_workOf_15 rfl ?_
        refine la_iload_n K dX5_workOf_16 rfl ?_
        refine la_iload K dX5_workOf_17 rfl ?_
        refine la_iaddN K dX5_workOf_19 ?_
        refine lm_ld_le K (by omega) dX5_workOf_20 ?_
        refine la_iload K dX5_workOf_21 rfl ?_
        refine la_icmp_geN K 58 dX5_workOf_23 rfl (by have := hf (q + s); omega) (by have := hv.1; omega) (fun h23 => ?_) (fun h23 => ?_)
        · refine la_iinc5 K dX5_workOf_58 (la_inc_N _) rfl ?_
          refine la_goto K 7 dX5_workOf_61 rfl ?_
          exact ih (s + 1) _ _ (by omega) (by omega) (lp_WQ_skip hv h23)
        · refine la_aload_n K dX5_workOf_26 rfl ?_
          refine la_iload_n K dX5_workOf_27 rfl ?_
          refine la_iload K dX5_workOf_28 rfl ?_
          refine la_iaddN K dX5_workOf_30 ?_
          refine lm_ld_le K (by omega) dX5_workOf_31 ?_
          refine la_aload_n K dX5_workOf_32 rfl ?_
          refine la_iload K dX5_workOf_33 rfl ?_
          refine la_iload_n K dX5_workOf_35 rfl ?_
          refine la_callVp K ok_X5_movesOf q1020 (lm_movesOf hP hL1 hL3 hfa (hst s (by omega) (by have := hv.1; omega)) hx) 0 rfl rfl rfl rfl rfl (Nat.le_of_ble_eq_true rfl) ⟨Nat.le_of_ble_eq_true rfl, Nat.le_of_ble_eq_true rfl⟩ ⟨Nat.zero_le _, Nat.zero_le _⟩ dX5_workOf_36 ?_
          refine la_iaddN K dX5_workOf_39 ?_
          refine la_istore6 K dX5_workOf_40 rfl ?_
          refine la_iload K dX5_workOf_42 rfl ?_
          refine la_iload K dX5_workOf_44 rfl ?_
          refine la_icmp_geN K 54 dX5_workOf_46 rfl (by have := hf (q + s); have := lp_min_le 100000000 (lp_MQ L fa s x); omega) (by have := hv.1; omega) (fun h46 => ?_) (fun h46 => ?_)
          · refine la_iload K dX5_workOf_54 rfl ?_
            refine la_istore4 K dX5_workOf_56 rfl ?_
            refine la_iinc5 K dX5_workOf_58 (la_inc_N _) rfl ?_
            refine la_goto K 7 dX5_workOf_61 rfl ?_
            exact ih (s + 1) _ _ (by omega) (by omega) (lp_WQ_step hv (by have := hv.1; first | omega | (dsimp only; omega)) (by first | omega | (dsimp only; omega)))
          · refine la_iload K dX5_workOf_49 rfl ?_
            refine la_goto K 56 dX5_workOf_51 rfl ?_
            refine la_istore4 K dX5_workOf_56 rfl ?_
            refine la_iinc5 K dX5_workOf_58 (la_inc_N _) rfl ?_
            refine la_goto K 7 dX5_workOf_61 rfl ?_
            exact ih (s + 1) _ _ (by omega) (by omega) (lp_WQ_step hv (by have := hv.1; first | omega | (dsimp only; omega)) (by first | omega | (dsimp only; omega)))
  refine la_ldc K q953 la_kl_100000000 dX5_workOf_0 ?_
  refine la_istore4 K dX5_workOf_2 rfl ?_
  refine la_iconst K dX5_workOf_4 la_ki_0 ?_
  refine la_istore5 K dX5_workOf_5 rfl ?_
  exact lp 513 0 _ _ (by omega) (by omega) lp_WQ_0
set_option maxHeartbeats 4000000 in
theorem lm_servesL {q p : Nat} (hP : P ≤ 6) (hL3 : L ≤ 3) (hp : p < P) (hfa : ∀ i, i < 36 → fa i ≤ 100000000) (hq : q + 1024 ≤ 6656) (hf : ∀ i, le i ≤ 100000000) (hst : ∀ s, s < 512 → le (q + s) < 100000000 → lp_sd P L s) : la_CV ω yX5_serves cX5_serves 8 none (la_rm 1) [.ref (ad 0), .ref (ad 13), .int (nI q), .int (nI p)] (lm_W ω.2.2 ad ((th, S, T, P, R, L, B, Kd, lt, C), (ra, rb, rl, fa), (aa, su), (cp, cl, cf, ck, cm, ct), (le, tr, re), (bh, so, br, rs, ce), (wh, wy))) (lm_W ω.2.2 ad) (fun u : lm_S => ∃ f, u = ((th, S, T, P, R, L, B, Kd, lt, C), (ra, rb, rl, fa), (aa, su), (cp, cl, cf, ck, cm, ct), (f, tr, re), (bh, so, br, rs, ce), (wh, wy)) ∧ (∀ i, (i < q + 512 ∨ q + 1024 ≤ i) → f i = le i) ∧ (∀ i, f i ≤ 100000000) ∧ ∀ t, t < 512 → lp_mn 100000000 (lp_SQ L fa p (fun s => le (q + s)) t) (f (q + 512 + t))) := by
  refine la_CV_of (by decide) [some (.ref (ad 0)), some (.ref (ad 13)), some (.int (nI (q))), some (.int (nI (p))), none, none, none, none] rfl rfl (Nat.le_of_ble_eq_true rfl) ?_
  intro κ K hret
  have l1 : ∀ (j s : Nat) (f : Nat → Nat) (x5 x6 x7 : Option Value), s ≤ 512 → 512 < s + j → (∀ i, (i < q + 512 ∨ q + 1024 ≤ i) → f i = le i) → (∀ i, f i ≤ 100000000) → lp_SV L fa p (fun s => le (q + s)) q s 0 f → la_At ω κ (0, 0) 32 [some (.ref (ad 0)), some (.ref (ad 13)), some (.int (nI (q))), some (.int (nI (p))), some (.int (nI (s))), x5, x6, x7] [] (lm_W ω.2.2 ad ((th, S, T, P, R, L, B, Kd, lt, C), (ra, rb, rl, fa), (aa, su), (cp, cl, cf, ck, cm, ct), (f, tr, re), (bh, so, br, rs, ce), (wh, wy))) := by
    intro j
    induction j with
    | zero => intro s f x5 x6 x7 h1 h2; omega
    | succ j ih1 =>
      intro s f x5 x6 x7 h1 h2 hk hbd hV
      have l2 : s < 512 → ∀ (j l : Nat) (f : Nat → Nat) (x6 x7 : Option Value), l ≤ L → L < l + j → (∀ i, (i < q + 512 ∨ q + 1024 ≤ i) → f i = le i) → (∀ i, f i ≤ 100000000) → lp_SV L fa p (fun s => le (q + s)) q s l f → f (q + s) < 100000000 → la_At ω κ (0, 0) 54 [some (.ref (ad 0)), some (.ref (ad 13)), some (.int (nI (q))), some (.int (nI (p))), some (.int (nI (s))), some (.int (nI (l))), x6, x7] [] (lm_W ω.2.2 ad ((th, S, T, P, R, L, B, Kd, lt, C), (ra, rb, rl, fa), (aa, su), (cp, cl, cf, ck, cm, ct), (f, tr, re), (bh, so, br, rs, ce), (wh, wy))) := by
        intro hs j
        induction j with
        | zero => intro l f x6 x7 h1 h2; omega
        | succ j ih2 =>
          intro l f x6 x7 h1 h2 hk hbd hV hgs
          refine la_iload K dX5_serves_54 rfl ?_
          refine la_aload_n K dX5_serves_56 rfl ?_
          refine lm_g_L K q836 dX5_serves_57 ?_
          refine la_icmp_geN K 148 dX5_serves_60 rfl (by omega) (by omega) (fun h60 => ?_) (fun h60 => ?_)
          · refine la_iinc4 K dX5_serves_148 (la_inc_N _) rfl ?_
            refine la_goto K 32 dX5_serves_151 rfl ?_
            exact ih1 (s + 1) _ _ _ _ (by omega) (by omega) hk hbd (lp_SV_row (by rw [show l = L by omega] at hV; exact hV))
          · have h9 := hst s (by omega) (by rw [← hk (q + s) (by omega)]; omega)
            have hd1 : lp_dg s l < P := h9.2 l (by omega)
            have h11 := lp_mv_lt (s := s) (l := l) (p := p) (by omega) (by omega) (by omega)
            have hd2 : fa (6 * lp_dg s l + p) ≤ 100000000 := hfa _ (by omega)
            refine la_iload K dX5_serves_63 rfl ?_
            refine la_iload K dX5_serves_65 rfl ?_
            refine la_iload_n K dX5_serves_67 rfl ?_
            refine la_callSp K ok_X5_moved q1013 (lm_moved (by omega) (by omega) (by omega) _) rfl rfl rfl (Nat.le_of_ble_eq_true rfl) ⟨Nat.le_of_ble_eq_true rfl, Nat.le_of_ble_eq_true rfl⟩ ⟨Nat.zero_le _, Nat.zero_le _⟩ dX5_serves_68 ?_
            refine la_istore6 K dX5_serves_71 rfl ?_
            refine la_aload_n K dX5_serves_73 rfl ?_
            refine la_iload_n K dX5_serves_74 rfl ?_
            refine la_iload K dX5_serves_75 rfl ?_
            refine la_iaddN K dX5_serves_77 ?_
            refine lm_ld_le K (by omega) dX5_serves_78 ?_
            refine la_aload_n K dX5_serves_79 rfl ?_
            refine lm_g_fa K q835 dX5_serves_80 ?_
            refine la_bipush K dX5_serves_83 la_kb_6 ?_
            refine la_iload K dX5_serves_85 rfl ?_
            refine la_iconst K dX5_serves_87 la_ki_3 ?_
            refine la_iload K dX5_serves_88 rfl ?_
            refine la_imulN K dX5_serves_90 ?_
            refine la_ishrN K dX5_serves_91 (by omega) (by omega) ?_
            refine la_bipush K dX5_serves_92 la_kb_7 ?_
            refine la_iand7 K dX5_serves_94 (by have := Nat.div_le_self s (2 ^ (3 * l)); omega) ?_
            refine la_imulN K dX5_serves_95 ?_
            refine la_iload_n K dX5_serves_96 rfl ?_
            refine la_iaddN K dX5_serves_97 ?_
            refine lm_ld_fa K (by have h10 := hd1; unfold lp_dg at h10; omega) dX5_serves_98 ?_
            refine la_iaddN K dX5_serves_99 ?_
            refine la_istore7 K dX5_serves_100 rfl ?_
            refine la_aload_n K dX5_serves_102 rfl ?_
            refine la_iload_n K dX5_serves_103 rfl ?_
            refine la_sipush K dX5_serves_104 la_ks_512 ?_
            refine la_iaddN K dX5_serves_107 ?_
            refine la_iload K dX5_serves_108 rfl ?_
            refine la_iaddN K dX5_serves_110 ?_
            refine la_iload K dX5_serves_111 rfl ?_
            refine la_aload_n K dX5_serves_113 rfl ?_
            refine la_iload_n K dX5_serves_114 rfl ?_
            refine la_sipush K dX5_serves_115 la_ks_512 ?_
            refine la_iaddN K dX5_serves_118 ?_
            refine la_iload K dX5_serves_119 rfl ?_
            refine la_iaddN K dX5_serves_121 ?_
            refine lm_ld_le K (by omega) dX5_serves_122 ?_
            refine la_icmp_geN K 131 dX5_serves_123 rfl (by have := hbd (q + s); have h12 := hd2; unfold lp_dg at h12; omega) (by have := hbd (q + 512 + lp_mv s l p); omega) (fun h123 => ?_) (fun h123 => ?_)
            · refine la_aload_n K dX5_serves_131 rfl ?_
              refine la_iload_n K dX5_serves_132 rfl ?_
              refine la_sipush K dX5_serves_133 la_ks_512 ?_
              refine la_iaddN K dX5_serves_136 ?_
              refine la_iload K dX5_serves_137 rfl ?_
              refine la_iaddN K dX5_serves_139 ?_
              refine lm_ld_le K (by omega) dX5_serves_140 ?_
              refine lm_st_le K (by omega) dX5_serves_141 ?_
              refine la_iinc5 K dX5_serves_142 (la_inc_N _) rfl ?_
              refine la_goto K 54 dX5_serves_145 rfl ?_
              have hST : ∀ i, va_up f (q + 512 + lp_mv s l p) (f (q + 512 + lp_mv s l p)) i ≤ 100000000 := by
                intro i
                by_cases e : i = q + 512 + lp_mv s l p
                · subst e; rw [va_up_self]; have := hbd (q + 512 + lp_mv s l p); omega
                · rw [va_up_ne _ _ e]; exact hbd i
              exact ih2 (l + 1) _ _ _ (by omega) (by omega) (by intro i hi; rw [va_up_ne _ _ (by omega)]; exact hk i hi) hST (lp_SV_step hV (by omega) (by rw [← hk (q + s) (by omega)]; omega) (by rw [← hk (q + s) (by omega)]; unfold lp_dg; omega)) (by rw [va_up_ne _ _ (by omega)]; exact hgs)
            · refine la_iload K dX5_serves_126 rfl ?_
              refine la_goto K 141 dX5_serves_128 rfl ?_
              refine lm_st_le K (by omega) dX5_serves_141 ?_
              refine la_iinc5 K dX5_serves_142 (la_inc_N _) rfl ?_
              refine la_goto K 54 dX5_serves_145 rfl ?_
              have hST : ∀ i, va_up f (q + 512 + lp_mv s l p) (f (q + s) + fa (6 * (s / 2 ^ (3 * l) % 8) + p)) i ≤ 100000000 := by
                intro i
                by_cases e : i = q + 512 + lp_mv s l p
                · subst e; rw [va_up_self]; have := hbd (q + 512 + lp_mv s l p); omega
                · rw [va_up_ne _ _ e]; exact hbd i
              exact ih2 (l + 1) _ _ _ (by omega) (by omega) (by intro i hi; rw [va_up_ne _ _ (by omega)]; exact hk i hi) hST (lp_SV_step hV (by omega) (by rw [← hk (q + s) (by omega)]; omega) (by rw [← hk (q + s) (by omega)]; unfold lp_dg; omega)) (by rw [va_up_ne _ _ (by omega)]; exact hgs)
      refine la_iload K dX5_serves_32 rfl ?_
      refine la_sipush K dX5_serves_34 la_ks_512 ?_
      refine la_icmp_geN K 154 dX5_serves_37 rfl (by omega) (by omega) (fun h37 => ?_) (fun h37 => ?_)
      · exact hret _ _ _ dX5_serves_154 ⟨f, rfl, hk, hbd, lp_SV_end (by rw [show s = 512 by omega] at hV; exact hV)⟩
      · refine la_aload_n K dX5_serves_40 rfl ?_
        refine la_iload_n K dX5_serves_41 rfl ?_
        refine la_iload K dX5_serves_42 rfl ?_
        refine la_iaddN K dX5_serves_44 ?_
        refine lm_ld_le K (by omega) dX5_serves_45 ?_
        refine la_ldc K q953 la_kl_100000000 dX5_serves_46 ?_
        refine la_icmp_geN K 148 dX5_serves_48 rfl (by have := hbd (q + s); omega) (by omega) (fun h48 => ?_) (fun h48 => ?_)
        · refine la_iinc4 K dX5_serves_148 (la_inc_N _) rfl ?_
          refine la_goto K 32 dX5_serves_151 rfl ?_
          exact ih1 (s + 1) _ _ _ _ (by omega) (by omega) hk hbd (lp_SV_skip hV (by rw [← hk (q + s) (by omega)]; omega))
        · refine la_iconst K dX5_serves_51 la_ki_0 ?_
          refine la_istore5 K dX5_serves_52 rfl ?_
          exact l2 (by omega) (L + 1) 0 _ _ _ (by omega) (by omega) hk hbd hV h48
  have l0 : ∀ (j s : Nat) (f : Nat → Nat), s ≤ 512 → 512 < s + j → (∀ i, (i < q + 512 ∨ q + 1024 ≤ i) → f i = le i) → (∀ i, f i ≤ 100000000) → (∀ i, i < s → f (q + 512 + i) = 100000000) → la_At ω κ (0, 0) 3 [some (.ref (ad 0)), some (.ref (ad 13)), some (.int (nI (q))), some (.int (nI (p))), some (.int (nI (s))), none, none, none] [] (lm_W ω.2.2 ad ((th, S, T, P, R, L, B, Kd, lt, C), (ra, rb, rl, fa), (aa, su), (cp, cl, cf, ck, cm, ct), (f, tr, re), (bh, so, br, rs, ce), (wh, wy))) := by
    intro j
    induction j with
    | zero => intro s f h1 h2; omega
    | succ j ih0 =>
      intro s f h1 h2 hk hbd h0
      refine la_iload K dX5_serves_3 rfl ?_
      refine la_sipush K dX5_serves_5 la_ks_512 ?_
      refine la_icmp_geN K 29 dX5_serves_8 rfl (by omega) (by omega) (fun h8 => ?_) (fun h8 => ?_)
      · refine la_iconst K dX5_serves_29 la_ki_0 ?_
        refine la_istore4 K dX5_serves_30 rfl ?_
        exact l1 513 0 _ _ _ _ (by omega) (by omega) hk hbd (lp_SV_0 (fun t ht => h0 t (by omega)))
      · refine la_aload_n K dX5_serves_11 rfl ?_
        refine la_iload_n K dX5_serves_12 rfl ?_
        refine la_sipush K dX5_serves_13 la_ks_512 ?_
        refine la_iaddN K dX5_serves_16 ?_
        refine la_iload K dX5_serves_17 rfl ?_
        refine la_iaddN K dX5_serves_19 ?_
        refine la_ldc K q953 la_kl_100000000 dX5_serves_20 ?_
        refine lm_st_le K (by omega) dX5_serves_22 ?_
        refine la_iinc4 K dX5_serves_23 (la_inc_N _) rfl ?_
        refine la_goto K 3 dX5_serves_26 rfl ?_
        have hb2 : ∀ i, va_up f (q + 512 + s) 100000000 i ≤ 100000000 := by
          intro i
          by_cases e : i = q + 512 + s
          · subst e; rw [va_up_self]; omega
          · rw [va_up_ne _ _ e]; exact hbd i
        have h02 : ∀ i, i < s + 1 → va_up f (q + 512 + s) 100000000 (q + 512 + i) = 100000000 := by
          intro i hi
          by_cases e : i = s
          · subst e; rw [va_up_self]
          · rw [va_up_ne _ _ (by omega)]; exact h0 i (by omega)
        exact ih0 (s + 1) _ (by omega) (by omega) (by intro i hi; rw [va_up_ne _ _ (by omega)]; exact hk i hi) hb2 h02
  refine la_iconst K dX5_serves_0 la_ki_0 ?_
  refine la_istore4 K dX5_serves_1 rfl ?_
  exact l0 513 0 _ (by omega) (by omega) (fun i _ => rfl) hf (fun i hi => by omega)
theorem lm_startsT (hB : B < 512) : la_CV ω yX5_starts cX5_starts 3 none (la_rm 0) [.ref (ad 0), .ref (ad 14)] (lm_W ω.2.2 ad ((th, S, T, P, R, L, B, Kd, lt, C), (ra, rb, rl, fa), (aa, su), (cp, cl, cf, ck, cm, ct), (le, tr, re), (bh, so, br, rs, ce), (wh, wy))) (lm_W ω.2.2 ad) (fun u : lm_S => ∃ f, u = ((th, S, T, P, R, L, B, Kd, lt, C), (ra, rb, rl, fa), (aa, su), (cp, cl, cf, ck, cm, ct), (le, f, re), (bh, so, br, rs, ce), (wh, wy)) ∧ (∀ i, i < 512 → f i = if i = B then 0 else 100000000) ∧ (∀ i, 512 ≤ i → f i = tr i)) := by
  refine la_CV_of (by decide) [some (.ref (ad 0)), some (.ref (ad 14)), none] rfl rfl (Nat.le_of_ble_eq_true rfl) ?_
  intro κ K hret
  have lp : ∀ (j s : Nat) (f : Nat → Nat), s ≤ 512 → 512 < s + j → (∀ i, i < s → f i = if i = B then 0 else 100000000) → (∀ i, s ≤ i → f i = tr i) → la_At ω κ (0, 0) 2 [some (.ref (ad 0)), some (.ref (ad 14)), some (.int (nI (s)))] [] (lm_W ω.2.2 ad ((th, S, T, P, R, L, B, Kd, lt, C), (ra, rb, rl, fa), (aa, su), (cp, cl, cf, ck, cm, ct), (le, f, re), (bh, so, br, rs, ce), (wh, wy))) := by
    intro j
    induction j with
    | zero => intro s f h1 h2; omega
    | succ j ih =>
      intro s f h1 h2 hA hB
      refine la_iload_n K dX5_starts_2 rfl ?_
      refine la_sipush K dX5_starts_3 la_ks_512 ?_
      refine la_icmp_geN K 32 dX5_starts_6 rfl (by omega) (by omega) (fun h6 => ?_) (fun h6 => ?_)
      · exact hret _ _ _ dX5_starts_32 ⟨f, rfl, fun i hi => by rw [show s = 512 by omega] at hA; exact hA i hi, fun i hi => hB i (by omega)⟩
      · refine la_aload_n K dX5_starts_9 rfl ?_
        refine la_iload_n K dX5_starts_10 rfl ?_
        refine la_iload_n K dX5_starts_11 rfl ?_
        refine la_aload_n K dX5_starts_12 rfl ?_
        refine lm_g_B K q837 dX5_starts_13 ?_
        refine la_icmp_neN K 23 dX5_starts_16 rfl (by omega) (by omega) (fun h16 => ?_) (fun h16 => ?_)
        · refine la_ldc K q953 la_kl_100000000 dX5_starts_23 ?_
          refine lm_st_tr K (by omega) dX5_starts_25 ?_
          refine la_iinc2 K dX5_starts_26 (la_inc_N _) rfl ?_
          refine la_goto K 2 dX5_starts_29 rfl ?_
          have hA2 : ∀ i, i < s + 1 → va_up f s 100000000 i = if i = B then 0 else 100000000 := by
            intro i hi
            by_cases e : i = s
            · subst e; rw [va_up_self, if_neg h16]
            · rw [va_up_ne _ _ e]; exact hA i (by omega)
          exact ih (s + 1) _ (by omega) (by omega) hA2 (by intro i hi; rw [va_up_ne _ _ (by omega)]; exact hB i (by omega))
        · refine la_iconst K dX5_starts_19 la_ki_0 ?_
          refine la_goto K 25 dX5_starts_20 rfl ?_
          refine lm_st_tr K (by omega) dX5_starts_25 ?_
          refine la_iinc2 K dX5_starts_26 (la_inc_N _) rfl ?_
          refine la_goto K 2 dX5_starts_29 rfl ?_
          have hA2 : ∀ i, i < s + 1 → va_up f s 0 i = if i = B then 0 else 100000000 := by
            intro i hi
            by_cases e : i = s
            · subst e; rw [va_up_self, if_pos h16]
            · rw [va_up_ne _ _ e]; exact hA i (by omega)
          exact ih (s + 1) _ (by omega) (by omega) hA2 (by intro i hi; rw [va_up_ne _ _ (by omega)]; exact hB i (by omega))
  refine la_iconst K dX5_starts_0 la_ki_0 ?_
  refine la_istore2 K dX5_starts_1 rfl ?_
  exact lp 513 0 _ (by omega) (by omega) (fun i hi => by omega) (fun i _ => rfl)
theorem lm_leastOfT {q : Nat} (hq : q + 512 ≤ 2048) (hf : ∀ i, tr i ≤ 100000000) : la_CP ω yX5_leastOf cX5_leastOf 4 (some .int) (la_rm 0) [.ref (ad 14), .int (nI q)] (lm_W ω.2.2 ad ((th, S, T, P, R, L, B, Kd, lt, C), (ra, rb, rl, fa), (aa, su), (cp, cl, cf, ck, cm, ct), (le, tr, re), (bh, so, br, rs, ce), (wh, wy))) (nI (lp_min 100000000 (lp_LQ (fun s => tr (q + s)) 512))) := by
  refine la_CI_of (by decide) [some (.ref (ad 14)), some (.int (nI (q))), none, none] rfl rfl (Nat.le_of_ble_eq_true rfl) ?_
  intro κ K hret
  have lp : ∀ (j s : Nat) (v : Nat), s ≤ 512 → 512 < s + j → lp_mn 100000000 (lp_LQ (fun s => tr (q + s)) s) v → la_At ω κ (0, 0) 5 [some (.ref (ad 14)), some (.int (nI (q))), some (.int (nI (v))), some (.int (nI (s)))] [] (lm_W ω.2.2 ad ((th, S, T, P, R, L, B, Kd, lt, C), (ra, rb, rl, fa), (aa, su), (cp, cl, cf, ck, cm, ct), (le, tr, re), (bh, so, br, rs, ce), (wh, wy))) := by
    intro j
    induction j with
    | zero => intro s v h1 h2; omega
    | succ j ih =>
      intro s v h1 h2 hv
      refine la_iload_n K dX5_leastOf_5 rfl ?_
      refine la_sipush K dX5_leastOf_6 la_ks_512 ?_
      refine la_icmp_geN K 37 dX5_leastOf_9 rfl (by omega) (by omega) (fun h9 => ?_) (fun h9 => ?_)
      · refine la_iload_n K dX5_leastOf_37 rfl ?_
        exact hret _ _ _ () dX5_leastOf_38 (by rw [show s = 512 by omega] at hv; rw [lp_mn_min hv])
      · refine la_aload_n K dX5_leastOf_12 rfl ?_
        refine la_iload_n K dX5_leastOf_13 rfl ?_
        refine la_iload_n K dX5_leastOf_14 rfl ?_
        refine la_iaddN K dX5_leastOf_15 ?_
        refine lm_ld_tr K (by omega) dX5_leastOf_16 ?_
        refine la_iload_n K dX5_leastOf_17 rfl ?_
        refine la_icmp_geN K 29 dX5_leastOf_18 rfl (by have := hf (q + s); omega) (by have := hv.1; omega) (fun h18 => ?_) (fun h18 => ?_)
        · refine la_iload_n K dX5_leastOf_29 rfl ?_
          refine la_istore2 K dX5_leastOf_30 rfl ?_
          refine la_iinc3 K dX5_leastOf_31 (la_inc_N _) rfl ?_
          refine la_goto K 5 dX5_leastOf_34 rfl ?_
          exact ih (s + 1) _ (by omega) (by omega) (lp_LQ_step hv (by first | omega | (dsimp only; omega)))
        · refine la_aload_n K dX5_leastOf_21 rfl ?_
          refine la_iload_n K dX5_leastOf_22 rfl ?_
          refine la_iload_n K dX5_leastOf_23 rfl ?_
          refine la_iaddN K dX5_leastOf_24 ?_
          refine lm_ld_tr K (by omega) dX5_leastOf_25 ?_
          refine la_goto K 30 dX5_leastOf_26 rfl ?_
          refine la_istore2 K dX5_leastOf_30 rfl ?_
          refine la_iinc3 K dX5_leastOf_31 (la_inc_N _) rfl ?_
          refine la_goto K 5 dX5_leastOf_34 rfl ?_
          exact ih (s + 1) _ (by omega) (by omega) (lp_LQ_step hv (by first | omega | (dsimp only; omega)))
  refine la_ldc K q953 la_kl_100000000 dX5_leastOf_0 ?_
  refine la_istore2 K dX5_leastOf_2 rfl ?_
  refine la_iconst K dX5_leastOf_3 la_ki_0 ?_
  refine la_istore3 K dX5_leastOf_4 rfl ?_
  exact lp 513 0 _ (by omega) (by omega) lp_LQ_0
set_option maxHeartbeats 4000000 in
theorem lm_workOfT {q x : Nat} (hP : P ≤ 6) (hL1 : 1 ≤ L) (hL3 : L ≤ 3) (hfa : ∀ i, i < 36 → fa i ≤ 100000000) (hq : q + 512 ≤ 2048) (hf : ∀ i, tr i ≤ 100000000) (hst : ∀ s, s < 512 → tr (q + s) < 100000000 → lp_sd P L s) (hx : lp_sd P L x) : la_CP ω yX5_workOf cX5_workOf 7 (some .int) (la_rm 2) [.ref (ad 0), .ref (ad 14), .int (nI q), .int (nI x)] (lm_W ω.2.2 ad ((th, S, T, P, R, L, B, Kd, lt, C), (ra, rb, rl, fa), (aa, su), (cp, cl, cf, ck, cm, ct), (le, tr, re), (bh, so, br, rs, ce), (wh, wy))) (nI (lp_min 100000000 (lp_WQ L fa (fun s => tr (q + s)) x 512))) := by
  refine la_CI_of (by decide) [some (.ref (ad 0)), some (.ref (ad 14)), some (.int (nI (q))), some (.int (nI (x))), none, none, none] rfl rfl (Nat.le_of_ble_eq_true rfl) ?_
  intro κ K hret
  have lp : ∀ (j s : Nat) (v : Nat) (x6 : Option Value), s ≤ 512 → 512 < s + j → lp_mn 100000000 (lp_WQ L fa (fun s => tr (q + s)) x s) v → la_At ω κ (0, 0) 7 [some (.ref (ad 0)), some (.ref (ad 14)), some (.int (nI (q))), some (.int (nI (x))), some (.int (nI (v))), some (.int (nI (s))), x6] [] (lm_W ω.2.2 ad ((th, S, T, P, R, L, B, Kd, lt, C), (ra, rb, rl, fa), (aa, su), (cp, cl, cf, ck, cm, ct), (le, tr, re), (bh, so, br, rs, ce), (wh, wy))) := by
    intro j
    induction j with
    | zero => intro s v x6 h1 h2; omega
    | succ j ih =>
      intro s v x6 h1 h2 hv
      refine la_iload K dX5_workOf_7 rfl ?_
      refine la_sipush K dX5_workOf_9 la_ks_512 ?_
      refine la_icmp_geN K 64 dX5_workOf_12 rfl (by omega) (by omega) (fun h12 => ?_) (fun h12 => ?_)
      · refine la_iload K dX5_workOf_64 rfl ?_
        exact hret _ _ _ () dX5_workOf_66 (by rw [show s = 512 by omega] at hv; rw [lp_mn_min hv])
      · refine la_aload_n K dX5_workOf_15 rfl ?_
        refine la_iload_n K dX5_workOf_16 rfl ?_
        refine la_iload K dX5_workOf_17 rfl ?_
        refine la_iaddN K dX5_workOf_19 ?_
        refine lm_ld_tr K (by omega) dX5_workOf_20 ?_
        refine la_iload K dX5_workOf_21 rfl ?_
        refine la_icmp_geN K 58 dX5_workOf_23 rfl (by have := hf (q + s); omega) (by have := hv.1; omega) (fun h23 => ?_) (fun h23 => ?_)
        · refine la_iinc5 K dX5_workOf_58 (la_inc_N _) rfl ?_
          refine la_goto K 7 dX5_workOf_61 rfl ?_
          exact ih (s + 1) _ _ (by omega) (by omega) (lp_WQ_skip hv h23)
        · refine la_aload_n K dX5_workOf_26 rfl ?_
          refine la_iload_n K dX5_workOf_27 rfl ?_
          refine la_iload K dX5_workOf_28 rfl ?_
          refine la_iaddN K dX5_workOf_30 ?_
          refine lm_ld_tr K (by omega) dX5_workOf_31 ?_
          refine la_aload_n K dX5_workOf_32 rfl ?_
          refine la_iload K dX5_workOf_33 rfl ?_
          refine la_iload_n K dX5_workOf_35 rfl ?_
          refine la_callVp K ok_X5_movesOf q1020 (lm_movesOf hP hL1 hL3 hfa (hst s (by omega) (by have := hv.1; omega)) hx) 0 rfl rfl rfl rfl rfl (Nat.le_of_ble_eq_true rfl) ⟨Nat.le_of_ble_eq_true rfl, Nat.le_of_ble_eq_true rfl⟩ ⟨Nat.zero_le _, Nat.zero_le _⟩ dX5_workOf_36 ?_
          refine la_iaddN K dX5_workOf_39 ?_
          refine la_istore6 K dX5_workOf_40 rfl ?_
          refine la_iload K dX5_workOf_42 rfl ?_
          refine la_iload K dX5_workOf_44 rfl ?_
          refine la_icmp_geN K 54 dX5_workOf_46 rfl (by have := hf (q + s); have := lp_min_le 100000000 (lp_MQ L fa s x); omega) (by have := hv.1; omega) (fun h46 => ?_) (fun h46 => ?_)
          · refine la_iload K dX5_workOf_54 rfl ?_
            refine la_istore4 K dX5_workOf_56 rfl ?_
            refine la_iinc5 K dX5_workOf_58 (la_inc_N _) rfl ?_
            refine la_goto K 7 dX5_workOf_61 rfl ?_
            exact ih (s + 1) _ _ (by omega) (by omega) (lp_WQ_step hv (by have := hv.1; first | omega | (dsimp only; omega)) (by first | omega | (dsimp only; omega)))
          · refine la_iload K dX5_workOf_49 rfl ?_
            refine la_goto K 56 dX5_workOf_51 rfl ?_
            refine la_istore4 K dX5_workOf_56 rfl ?_
            refine la_iinc5 K dX5_workOf_58 (la_inc_N _) rfl ?_
            refine la_goto K 7 dX5_workOf_61 rfl ?_
            exact ih (s + 1) _ _ (by omega) (by omega) (lp_WQ_step hv (by have := hv.1; first | omega | (dsimp only; omega)) (by first | omega | (dsimp only; omega)))
  refine la_ldc K q953 la_kl_100000000 dX5_workOf_0 ?_
  refine la_istore4 K dX5_workOf_2 rfl ?_
  refine la_iconst K dX5_workOf_4 la_ki_0 ?_
  refine la_istore5 K dX5_workOf_5 rfl ?_
  exact lp 513 0 _ _ (by omega) (by omega) lp_WQ_0
set_option maxHeartbeats 4000000 in
theorem lm_servesT {q p : Nat} (hP : P ≤ 6) (hL3 : L ≤ 3) (hp : p < P) (hfa : ∀ i, i < 36 → fa i ≤ 100000000) (hq : q + 1024 ≤ 2048) (hf : ∀ i, tr i ≤ 100000000) (hst : ∀ s, s < 512 → tr (q + s) < 100000000 → lp_sd P L s) : la_CV ω yX5_serves cX5_serves 8 none (la_rm 1) [.ref (ad 0), .ref (ad 14), .int (nI q), .int (nI p)] (lm_W ω.2.2 ad ((th, S, T, P, R, L, B, Kd, lt, C), (ra, rb, rl, fa), (aa, su), (cp, cl, cf, ck, cm, ct), (le, tr, re), (bh, so, br, rs, ce), (wh, wy))) (lm_W ω.2.2 ad) (fun u : lm_S => ∃ f, u = ((th, S, T, P, R, L, B, Kd, lt, C), (ra, rb, rl, fa), (aa, su), (cp, cl, cf, ck, cm, ct), (le, f, re), (bh, so, br, rs, ce), (wh, wy)) ∧ (∀ i, (i < q + 512 ∨ q + 1024 ≤ i) → f i = tr i) ∧ (∀ i, f i ≤ 100000000) ∧ ∀ t, t < 512 → lp_mn 100000000 (lp_SQ L fa p (fun s => tr (q + s)) t) (f (q + 512 + t))) := by
  refine la_CV_of (by decide) [some (.ref (ad 0)), some (.ref (ad 14)), some (.int (nI (q))), some (.int (nI (p))), none, none, none, none] rfl rfl (Nat.le_of_ble_eq_true rfl) ?_
  intro κ K hret
  have l1 : ∀ (j s : Nat) (f : Nat → Nat) (x5 x6 x7 : Option Value), s ≤ 512 → 512 < s + j → (∀ i, (i < q + 512 ∨ q + 1024 ≤ i) → f i = tr i) → (∀ i, f i ≤ 100000000) → lp_SV L fa p (fun s => tr (q + s)) q s 0 f → la_At ω κ (0, 0) 32 [some (.ref (ad 0)), some (.ref (ad 14)), some (.int (nI (q))), some (.int (nI (p))), some (.int (nI (s))), x5, x6, x7] [] (lm_W ω.2.2 ad ((th, S, T, P, R, L, B, Kd, lt, C), (ra, rb, rl, fa), (aa, su), (cp, cl, cf, ck, cm, ct), (le, f, re), (bh, so, br, rs, ce), (wh, wy))) := by
    intro j
    induction j with
    | zero => intro s f x5 x6 x7 h1 h2; omega
    | succ j ih1 =>
      intro s f x5 x6 x7 h1 h2 hk hbd hV
      have l2 : s < 512 → ∀ (j l : Nat) (f : Nat → Nat) (x6 x7 : Option Value), l ≤ L → L < l + j → (∀ i, (i < q + 512 ∨ q + 1024 ≤ i) → f i = tr i) → (∀ i, f i ≤ 100000000) → lp_SV L fa p (fun s => tr (q + s)) q s l f → f (q + s) < 100000000 → la_At ω κ (0, 0) 54 [some (.ref (ad 0)), some (.ref (ad 14)), some (.int (nI (q))), some (.int (nI (p))), some (.int (nI (s))), some (.int (nI (l))), x6, x7] [] (lm_W ω.2.2 ad ((th, S, T, P, R, L, B, Kd, lt, C), (ra, rb, rl, fa), (aa, su), (cp, cl, cf, ck, cm, ct), (le, f, re), (bh, so, br, rs, ce), (wh, wy))) := by
        intro hs j
        induction j with
        | zero => intro l f x6 x7 h1 h2; omega
        | succ j ih2 =>
          intro l f x6 x7 h1 h2 hk hbd hV hgs
          refine la_iload K dX5_serves_54 rfl ?_
          refine la_aload_n K dX5_serves_56 rfl ?_
          refine lm_g_L K q836 dX5_serves_57 ?_
          refine la_icmp_geN K 148 dX5_serves_60 rfl (by omega) (by omega) (fun h60 => ?_) (fun h60 => ?_)
          · refine la_iinc4 K dX5_serves_148 (la_inc_N _) rfl ?_
            refine la_goto K 32 dX5_serves_151 rfl ?_
            exact ih1 (s + 1) _ _ _ _ (by omega) (by omega) hk hbd (lp_SV_row (by rw [show l = L by omega] at hV; exact hV))
          · have h9 := hst s (by omega) (by rw [← hk (q + s) (by omega)]; omega)
            have hd1 : lp_dg s l < P := h9.2 l (by omega)
            have h11 := lp_mv_lt (s := s) (l := l) (p := p) (by omega) (by omega) (by omega)
            have hd2 : fa (6 * lp_dg s l + p) ≤ 100000000 := hfa _ (by omega)
            refine la_iload K dX5_serves_63 rfl ?_
            refine la_iload K dX5_serves_65 rfl ?_
            refine la_iload_n K dX5_serves_67 rfl ?_
            refine la_callSp K ok_X5_moved q1013 (lm_moved (by omega) (by omega) (by omega) _) rfl rfl rfl (Nat.le_of_ble_eq_true rfl) ⟨Nat.le_of_ble_eq_true rfl, Nat.le_of_ble_eq_true rfl⟩ ⟨Nat.zero_le _, Nat.zero_le _⟩ dX5_serves_68 ?_
            refine la_istore6 K dX5_serves_71 rfl ?_
            refine la_aload_n K dX5_serves_73 rfl ?_
            refine la_iload_n K dX5_serves_74 rfl ?_
            refine la_iload K dX5_serves_75 rfl ?_
            refine la_iaddN K dX5_serves_77 ?_
            refine lm_ld_tr K (by omega) dX5_serves_78 ?_
            refine la_aload_n K dX5_serves_79 rfl ?_
            refine lm_g_fa K q835 dX5_serves_80 ?_
            refine la_bipush K dX5_serves_83 la_kb_6 ?_
            refine la_iload K dX5_serves_85 rfl ?_
            refine la_iconst K dX5_serves_87 la_ki_3 ?_
            refine la_iload K dX5_serves_88 rfl ?_
            refine la_imulN K dX5_serves_90 ?_
            refine la_ishrN K dX5_serves_91 (by omega) (by omega) ?_
            refine la_bipush K dX5_serves_92 la_kb_7 ?_
            refine la_iand7 K dX5_serves_94 (by have := Nat.div_le_self s (2 ^ (3 * l)); omega) ?_
            refine la_imulN K dX5_serves_95 ?_
            refine la_iload_n K dX5_serves_96 rfl ?_
            refine la_iaddN K dX5_serves_97 ?_
            refine lm_ld_fa K (by have h10 := hd1; unfold lp_dg at h10; omega) dX5_serves_98 ?_
            refine la_iaddN K dX5_serves_99 ?_
            refine la_istore7 K dX5_serves_100 rfl ?_
            refine la_aload_n K dX5_serves_102 rfl ?_
            refine la_iload_n K dX5_serves_103 rfl ?_
            refine la_sipush K dX5_serves_104 la_ks_512 ?_
            refine la_iaddN K dX5_serves_107 ?_
            refine la_iload K dX5_serves_108 rfl ?_
            refine la_iaddN K dX5_serves_110 ?_
            refine la_iload K dX5_serves_111 rfl ?_
            refine la_aload_n K dX5_serves_113 rfl ?_
            refine la_iload_n K dX5_serves_114 rfl ?_
            refine la_sipush K dX5_serves_115 la_ks_512 ?_
            refine la_iaddN K dX5_serves_118 ?_
            refine la_iload K dX5_serves_119 rfl ?_
            refine la_iaddN K dX5_serves_121 ?_
            refine lm_ld_tr K (by omega) dX5_serves_122 ?_
            refine la_icmp_geN K 131 dX5_serves_123 rfl (by have := hbd (q + s); have h12 := hd2; unfold lp_dg at h12; omega) (by have := hbd (q + 512 + lp_mv s l p); omega) (fun h123 => ?_) (fun h123 => ?_)
            · refine la_aload_n K dX5_serves_131 rfl ?_
              refine la_iload_n K dX5_serves_132 rfl ?_
              refine la_sipush K dX5_serves_133 la_ks_512 ?_
              refine la_iaddN K dX5_serves_136 ?_
              refine la_iload K dX5_serves_137 rfl ?_
              refine la_iaddN K dX5_serves_139 ?_
              refine lm_ld_tr K (by omega) dX5_serves_140 ?_
              refine lm_st_tr K (by omega) dX5_serves_141 ?_
              refine la_iinc5 K dX5_serves_142 (la_inc_N _) rfl ?_
              refine la_goto K 54 dX5_serves_145 rfl ?_
              have hST : ∀ i, va_up f (q + 512 + lp_mv s l p) (f (q + 512 + lp_mv s l p)) i ≤ 100000000 := by
                intro i
                by_cases e : i = q + 512 + lp_mv s l p
                · subst e; rw [va_up_self]; have := hbd (q + 512 + lp_mv s l p); omega
                · rw [va_up_ne _ _ e]; exact hbd i
              exact ih2 (l + 1) _ _ _ (by omega) (by omega) (by intro i hi; rw [va_up_ne _ _ (by omega)]; exact hk i hi) hST (lp_SV_step hV (by omega) (by rw [← hk (q + s) (by omega)]; omega) (by rw [← hk (q + s) (by omega)]; unfold lp_dg; omega)) (by rw [va_up_ne _ _ (by omega)]; exact hgs)
            · refine la_iload K dX5_serves_126 rfl ?_
              refine la_goto K 141 dX5_serves_128 rfl ?_
              refine lm_st_tr K (by omega) dX5_serves_141 ?_
              refine la_iinc5 K dX5_serves_142 (la_inc_N _) rfl ?_
              refine la_goto K 54 dX5_serves_145 rfl ?_
              have hST : ∀ i, va_up f (q + 512 + lp_mv s l p) (f (q + s) + fa (6 * (s / 2 ^ (3 * l) % 8) + p)) i ≤ 100000000 := by
                intro i
                by_cases e : i = q + 512 + lp_mv s l p
                · subst e; rw [va_up_self]; have := hbd (q + 512 + lp_mv s l p); omega
                · rw [va_up_ne _ _ e]; exact hbd i
              exact ih2 (l + 1) _ _ _ (by omega) (by omega) (by intro i hi; rw [va_up_ne _ _ (by omega)]; exact hk i hi) hST (lp_SV_step hV (by omega) (by rw [← hk (q + s) (by omega)]; omega) (by rw [← hk (q + s) (by omega)]; unfold lp_dg; omega)) (by rw [va_up_ne _ _ (by omega)]; exact hgs)
      refine la_iload K dX5_serves_32 rfl ?_
      refine la_sipush K dX5_serves_34 la_ks_512 ?_
      refine la_icmp_geN K 154 dX5_serves_37 rfl (by omega) (by omega) (fun h37 => ?_) (fun h37 => ?_)
      · exact hret _ _ _ dX5_serves_154 ⟨f, rfl, hk, hbd, lp_SV_end (by rw [show s = 512 by omega] at hV; exact hV)⟩
      · refine la_aload_n K dX5_serves_40 rfl ?_
        refine la_iload_n K dX5_serves_41 rfl ?_
        refine la_iload K dX5_serves_42 rfl ?_
        refine la_iaddN K dX5_serves_44 ?_
        refine lm_ld_tr K (by omega) dX5_serves_45 ?_
        refine la_ldc K q953 la_kl_100000000 dX5_serves_46 ?_
        refine la_icmp_geN K 148 dX5_serves_48 rfl (by have := hbd (q + s); omega) (by omega) (fun h48 => ?_) (fun h48 => ?_)
        · refine la_iinc4 K dX5_serves_148 (la_inc_N _) rfl ?_
          refine la_goto K 32 dX5_serves_151 rfl ?_
          exact ih1 (s + 1) _ _ _ _ (by omega) (by omega) hk hbd (lp_SV_skip hV (by rw [← hk (q + s) (by omega)]; omega))
        · refine la_iconst K dX5_serves_51 la_ki_0 ?_
          refine la_istore5 K dX5_serves_52 rfl ?_
          exact l2 (by omega) (L + 1) 0 _ _ _ (by omega) (by omega) hk hbd hV h48
  have l0 : ∀ (j s : Nat) (f : Nat → Nat), s ≤ 512 → 512 < s + j → (∀ i, (i < q + 512 ∨ q + 1024 ≤ i) → f i = tr i) → (∀ i, f i ≤ 100000000) → (∀ i, i < s → f (q + 512 + i) = 100000000) → la_At ω κ (0, 0) 3 [some (.ref (ad 0)), some (.ref (ad 14)), some (.int (nI (q))), some (.int (nI (p))), some (.int (nI (s))), none, none, none] [] (lm_W ω.2.2 ad ((th, S, T, P, R, L, B, Kd, lt, C), (ra, rb, rl, fa), (aa, su), (cp, cl, cf, ck, cm, ct), (le, f, re), (bh, so, br, rs, ce), (wh, wy))) := by
    intro j
    induction j with
    | zero => intro s f h1 h2; omega
    | succ j ih0 =>
      intro s f h1 h2 hk hbd h0
      refine la_iload K dX5_serves_3 rfl ?_
      refine la_sipush K dX5_serves_5 la_ks_512 ?_
      refine la_icmp_geN K 29 dX5_serves_8 rfl (by omega) (by omega) (fun h8 => ?_) (fun h8 => ?_)
      · refine la_iconst K dX5_serves_29 la_ki_0 ?_
        refine la_istore4 K dX5_serves_30 rfl ?_
        exact l1 513 0 _ _ _ _ (by omega) (by omega) hk hbd (lp_SV_0 (fun t ht => h0 t (by omega)))
      · refine la_aload_n K dX5_serves_11 rfl ?_
        refine la_iload_n K dX5_serves_12 rfl ?_
        refine la_sipush K dX5_serves_13 la_ks_512 ?_
        refine la_iaddN K dX5_serves_16 ?_
        refine la_iload K dX5_serves_17 rfl ?_
        refine la_iaddN K dX5_serves_19 ?_
        refine la_ldc K q953 la_kl_100000000 dX5_serves_20 ?_
        refine lm_st_tr K (by omega) dX5_serves_22 ?_
        refine la_iinc4 K dX5_serves_23 (la_inc_N _) rfl ?_
        refine la_goto K 3 dX5_serves_26 rfl ?_
        have hb2 : ∀ i, va_up f (q + 512 + s) 100000000 i ≤ 100000000 := by
          intro i
          by_cases e : i = q + 512 + s
          · subst e; rw [va_up_self]; omega
          · rw [va_up_ne _ _ e]; exact hbd i
        have h02 : ∀ i, i < s + 1 → va_up f (q + 512 + s) 100000000 (q + 512 + i) = 100000000 := by
          intro i hi
          by_cases e : i = s
          · subst e; rw [va_up_self]
          · rw [va_up_ne _ _ (by omega)]; exact h0 i (by omega)
        exact ih0 (s + 1) _ (by omega) (by omega) (by intro i hi; rw [va_up_ne _ _ (by omega)]; exact hk i hi) hb2 h02
  refine la_iconst K dX5_serves_0 la_ki_0 ?_
  refine la_istore4 K dX5_serves_1 rfl ?_
  exact l0 513 0 _ (by omega) (by omega) (fun i _ => rfl) hf (fun i hi => by omega)
end LM3
