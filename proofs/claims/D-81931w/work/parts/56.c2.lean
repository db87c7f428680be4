/-! THE COMPONENT's METHODS, part 2: stands, moving. Printed by c2.py. -/
section LC2
variable {ω : la_O} {ad : Nat → Nat} {S : Int32} {T : Int64} {P R L B Nw U C Kd : Nat} {fr to ln aw su ca we fa sb tb wk nw wo k0 k1 k2 k3 k4 k5 : Nat → Nat} {RE : Nat → Nat → Nat} {BF : Nat → Option Nat} {BK : va_W}
theorem lb_at {s l : Nat} (hs : s < 2 ^ 31) (hl : l < 10) (ws : va_W) : la_CP ω yX0_at cX0_at 2 (some .int) (la_rm 0) [.int (nI s), .int (nI l)] ws (nI (lp_dg s l)) := by
  refine la_CI_of (by decide) [some (.int (nI (s))), some (.int (nI (l)))] rfl rfl (Nat.le_of_ble_eq_true rfl) ?_
  intro κ K hret
  refine la_iload_n K dX0_at_0 rfl ?_
  refine la_iconst K dX0_at_1 la_ki_3 ?_
  refine la_iload_n K dX0_at_2 rfl ?_
  refine la_imulN K dX0_at_3 ?_
  refine la_ishrN K dX0_at_4 (by omega) (by omega) ?_
  refine la_bipush K dX0_at_5 la_kb_7 ?_
  refine la_iand7 K dX0_at_7 (by have := Nat.div_le_self s (2 ^ (3 * l)); omega) ?_
  exact hret _ _ _ () dX0_at_8 rfl
theorem lb_moved {s l p : Nat} (hs : s < 512) (hl : l < 3) (hp : p < 8) (ws : va_W) : la_CP ω yX0_moved cX0_moved 3 (some .int) (la_rm 0) [.int (nI s), .int (nI l), .int (nI p)] ws (nI (lp_mv s l p)) := by
  refine la_CI_of (by decide) [some (.int (nI (s))), some (.int (nI (l))), some (.int (nI (p)))] rfl rfl (Nat.le_of_ble_eq_true rfl) ?_
  intro κ K hret
  refine la_iload_n K dX0_moved_0 rfl ?_
  refine la_bipush K dX0_moved_1 la_kb_7 ?_
  refine la_iconst K dX0_moved_3 la_ki_3 ?_
  refine la_iload_n K dX0_moved_4 rfl ?_
  refine la_imulN K dX0_moved_5 ?_
  refine la_ishl K dX0_moved_6 ?_
  refine la_iconst K dX0_moved_7 la_ki_m1 ?_
  refine la_ixor K dX0_moved_8 ?_
  refine la_iand K dX0_moved_9 ?_
  refine la_iload_n K dX0_moved_10 rfl ?_
  refine la_iconst K dX0_moved_11 la_ki_3 ?_
  refine la_iload_n K dX0_moved_12 rfl ?_
  refine la_imulN K dX0_moved_13 ?_
  refine la_ishl K dX0_moved_14 ?_
  refine la_ior K dX0_moved_15 ?_
  exact hret _ _ _ () dX0_moved_16 (lp_mv_bits hs hl hp)
theorem lb_standMany (hL : L ≤ 3) : la_CP ω yX0_standMany cX0_standMany 1 (some .int) (la_rm 0) [.ref (ad 0)] (lb_W ω.2.2 ad ((P, R, T, S, L, B, Nw, U, C, Kd), (fr, to, ln, aw), (su, ca, we, fa, sb, tb), (wk, nw, wo), (k0, k1, k2, k3, k4, k5), RE, BF, BK)) (nI (2 ^ (3 * L))) := by
  refine la_CI_of (by decide) [some (.ref (ad 0))] rfl rfl (Nat.le_of_ble_eq_true rfl) ?_
  intro κ K hret
  refine la_iconst K dX0_standMany_0 la_ki_1 ?_
  refine la_iconst K dX0_standMany_1 la_ki_3 ?_
  refine la_aload_n K dX0_standMany_2 rfl ?_
  refine lb_g_L K q140 dX0_standMany_3 ?_
  refine la_imulN K dX0_standMany_6 ?_
  refine la_ishlN K dX0_standMany_7 (by omega) (by have := lp_pw hL; omega) ?_
  exact hret _ _ _ () dX0_standMany_8 (by rw [Nat.one_mul])
set_option maxHeartbeats 4000000 in
theorem lb_isStand (x : Int32) (hL : L ≤ 3) (hP : P ≤ 6) : la_CP ω yX0_isStand cX0_isStand 4 (some .boolean) (la_rm 2) [.ref (ad 0), .int x] (lb_W ω.2.2 ad ((P, R, T, S, L, B, Nw, U, C, Kd), (fr, to, ln, aw), (su, ca, we, fa, sb, tb), (wk, nw, wo), (k0, k1, k2, k3, k4, k5), RE, BF, BK)) (nI (lp_b (lp_st P L x))) := by
  refine la_CZ_of (by decide) [some (.ref (ad 0)), some (.int (x)), none, none] rfl rfl (Nat.le_of_ble_eq_true rfl) ?_
  intro κ K hret
  by_cases h0 : x < 0
  · skip
    have lp : ∀ (j i : Nat), i ≤ L → L < i + j → la_At ω κ (0, 0) 23 [some (.ref (ad 0)), some (.int (x)), some (.int (nI (0))), some (.int (nI (i)))] [] (lb_W ω.2.2 ad ((P, R, T, S, L, B, Nw, U, C, Kd), (fr, to, ln, aw), (su, ca, we, fa, sb, tb), (wk, nw, wo), (k0, k1, k2, k3, k4, k5), RE, BF, BK)) := by
      intro j
      induction j with
      | zero => intro i  h1 h2; omega
      | succ j ih =>
        intro i  h1 h2 
        refine la_iload_n K dX0_isStand_23 rfl ?_
        refine la_aload_n K dX0_isStand_24 rfl ?_
        refine lb_g_L K q140 dX0_isStand_25 ?_
        refine la_icmp_geN K 59 dX0_isStand_28 rfl (by omega) (by omega) (fun h28 => ?_) (fun h28 => ?_)
        · refine la_iload_n K dX0_isStand_59 rfl ?_
          exact hret _ _ _ () (by decide) dX0_isStand_60 (by rw [lp_b_f (lp_st_neg h0)])
        · refine la_iload_n K dX0_isStand_31 rfl ?_
          refine la_if_eqN K 51 dX0_isStand_32 rfl (by omega) (fun h32 => ?_) (fun h32 => absurd rfl h32)
          refine la_iconst K dX0_isStand_51 la_ki_0 ?_
          refine la_istore2 K dX0_isStand_52 rfl ?_
          refine la_iinc3 K dX0_isStand_53 (la_inc_N _) rfl ?_
          refine la_goto K 23 dX0_isStand_56 rfl ?_
          exact ih (i + 1) (by omega) (by omega)
    refine la_iload_n K dX0_isStand_0 rfl ?_
    refine la_if_lt K 19 dX0_isStand_1 rfl (fun h1 => ?_) (fun h1 => absurd h0 h1)
    refine la_iconst K dX0_isStand_19 la_ki_0 ?_
    refine la_istore2 K dX0_isStand_20 rfl ?_
    refine la_iconst K dX0_isStand_21 la_ki_0 ?_
    refine la_istore3 K dX0_isStand_22 rfl ?_
    exact lp (L + 1) 0 (by omega) (by omega)
  · obtain ⟨k, hk, rfl⟩ := nI_of h0
    have lp : ∀ (j i : Nat) (z : Nat), i ≤ L → L < i + j → z < 2 → (z = 1 ↔ (k < 2 ^ (3 * L) ∧ ∀ l, l < i → lp_dg k l < P)) → la_At ω κ (0, 0) 23 [some (.ref (ad 0)), some (.int (nI (k))), some (.int (nI (z))), some (.int (nI (i)))] [] (lb_W ω.2.2 ad ((P, R, T, S, L, B, Nw, U, C, Kd), (fr, to, ln, aw), (su, ca, we, fa, sb, tb), (wk, nw, wo), (k0, k1, k2, k3, k4, k5), RE, BF, BK)) := by
      intro j
      induction j with
      | zero => intro i z h1 h2; omega
      | succ j ih =>
        intro i z h1 h2 hz2 hz
        refine la_iload_n K dX0_isStand_23 rfl ?_
        refine la_aload_n K dX0_isStand_24 rfl ?_
        refine lb_g_L K q140 dX0_isStand_25 ?_
        refine la_icmp_geN K 59 dX0_isStand_28 rfl (by omega) (by omega) (fun h28 => ?_) (fun h28 => ?_)
        · refine la_iload_n K dX0_isStand_59 rfl ?_
          exact hret _ _ _ () (by omega) dX0_isStand_60 (by rw [show i = L by omega] at hz; rw [← lp_b_eq hz2 (hz.trans (lp_st_N (by omega)).symm)])
        · refine la_iload_n K dX0_isStand_31 rfl ?_
          refine la_if_eqN K 51 dX0_isStand_32 rfl (by omega) (fun h32 => ?_) (fun h32 => ?_)
          · refine la_iconst K dX0_isStand_51 la_ki_0 ?_
            refine la_istore2 K dX0_isStand_52 rfl ?_
            refine la_iinc3 K dX0_isStand_53 (la_inc_N _) rfl ?_
            refine la_goto K 23 dX0_isStand_56 rfl ?_
            exact ih (i + 1) _ (by omega) (by omega) (by omega) ⟨fun h => by omega, fun h => absurd (hz.mpr ⟨h.1, fun l hl => h.2 l (by omega)⟩) (by omega)⟩
          · refine la_aload_n K dX0_isStand_35 rfl ?_
            refine la_iload_n K dX0_isStand_36 rfl ?_
            refine la_iload_n K dX0_isStand_37 rfl ?_
            refine la_callSp K ok_X0_at q281 (lb_at (by omega) (by omega) _) rfl rfl rfl (Nat.le_of_ble_eq_true rfl) ⟨Nat.le_of_ble_eq_true rfl, Nat.le_of_ble_eq_true rfl⟩ ⟨Nat.zero_le _, Nat.zero_le _⟩ dX0_isStand_38 ?_
            refine la_callVp K ok_X0_isPlace q254 (lb_isPlace _ hP) 0 rfl rfl rfl rfl rfl (Nat.le_of_ble_eq_true rfl) ⟨Nat.le_of_ble_eq_true rfl, Nat.le_of_ble_eq_true rfl⟩ ⟨Nat.zero_le _, Nat.zero_le _⟩ dX0_isStand_41 ?_
            refine la_if_eqC K 51 dX0_isStand_44 rfl (fun h44 => ?_) (fun h44 => ?_)
            · refine la_iconst K dX0_isStand_51 la_ki_0 ?_
              refine la_istore2 K dX0_isStand_52 rfl ?_
              refine la_iinc3 K dX0_isStand_53 (la_inc_N _) rfl ?_
              refine la_goto K 23 dX0_isStand_56 rfl ?_
              exact ih (i + 1) _ (by omega) (by omega) (by omega) ⟨fun h => by omega, fun h => absurd ((lp_in_nI (by have := lp_dg_lt k i; omega)).mpr (h.2 i (by omega))) h44⟩
            · refine la_iconst K dX0_isStand_47 la_ki_1 ?_
              refine la_goto K 52 dX0_isStand_48 rfl ?_
              refine la_istore2 K dX0_isStand_52 rfl ?_
              refine la_iinc3 K dX0_isStand_53 (la_inc_N _) rfl ?_
              refine la_goto K 23 dX0_isStand_56 rfl ?_
              have hall : ∀ q, q < i + 1 → lp_dg k q < P := by
                intro q hq
                by_cases e : q = i
                · subst e; exact (lp_in_nI (by have := lp_dg_lt k q; omega)).mp h44
                · exact (hz.mp (by omega)).2 q (by omega)
              exact ih (i + 1) _ (by omega) (by omega) (by omega) ⟨fun _ => ⟨(hz.mp (by omega)).1, hall⟩, fun _ => rfl⟩
    refine la_iload_n K dX0_isStand_0 rfl ?_
    refine la_if_ltN K 19 dX0_isStand_1 rfl (by omega) ?_
    refine la_iload_n K dX0_isStand_4 rfl ?_
    refine la_iconst K dX0_isStand_5 la_ki_3 ?_
    refine la_aload_n K dX0_isStand_6 rfl ?_
    refine lb_g_L K q140 dX0_isStand_7 ?_
    refine la_imulN K dX0_isStand_10 ?_
    refine la_ishrN K dX0_isStand_11 (by omega) (by omega) ?_
    refine la_if_neN K 19 dX0_isStand_12 rfl (by have := Nat.div_le_self k (2 ^ (3 * L)); omega) (fun h12 => ?_) (fun h12 => ?_)
    · refine la_iconst K dX0_isStand_19 la_ki_0 ?_
      refine la_istore2 K dX0_isStand_20 rfl ?_
      refine la_iconst K dX0_isStand_21 la_ki_0 ?_
      refine la_istore3 K dX0_isStand_22 rfl ?_
      exact lp (L + 1) 0 _ (by omega) (by omega) (by omega) ⟨fun h => by omega, fun h => absurd (Nat.div_eq_of_lt h.1) h12⟩
    · refine la_iconst K dX0_isStand_15 la_ki_1 ?_
      refine la_goto K 20 dX0_isStand_16 rfl ?_
      refine la_istore2 K dX0_isStand_20 rfl ?_
      refine la_iconst K dX0_isStand_21 la_ki_0 ?_
      refine la_istore3 K dX0_isStand_22 rfl ?_
      exact lp (L + 1) 0 _ (by omega) (by omega) (by omega) ⟨fun _ => ⟨(Nat.div_eq_zero_iff.mp h12).resolve_left (by have := Nat.two_pow_pos (3 * L); omega), fun l hl => by omega⟩, fun _ => rfl⟩
set_option maxHeartbeats 4000000 in
theorem lb_moves0 {s t tk q : Nat} (hP : P ≤ 6) (hL1 : 1 ≤ L) (hL3 : L ≤ 3) (hd6 : ∀ a b, a < P → b < P → aw (6 * a + b) ≤ 6400) (hs : lp_sd P L s) (ht : lp_sd P L t) (hq : q = L) (htk : tk < 8) : la_CP ω yX0_movesOf cX0_movesOf 7 (some .int) (la_rm 1) [.ref (ad 0), .int (nI s), .int (nI t), .int (nI tk), .int (nI q)] (lb_W ω.2.2 ad ((P, R, T, S, L, B, Nw, U, C, Kd), (fr, to, ln, aw), (su, ca, we, fa, sb, tb), (wk, nw, wo), (k0, k1, k2, k3, k4, k5), RE, BF, BK)) (nI (lp_mo 1000000 L aw s t 0 tk q)) := by
  refine la_CI_of (by decide) [some (.ref (ad 0)), some (.int (nI (s))), some (.int (nI (t))), some (.int (nI (tk))), some (.int (nI (q))), none, none] rfl rfl (Nat.le_of_ble_eq_true rfl) ?_
  intro κ K hret
  refine la_iload K dX0_movesOf_0 rfl ?_
  refine la_aload_n K dX0_movesOf_2 rfl ?_
  refine lb_g_L K q140 dX0_movesOf_3 ?_
  refine la_icmp_neN K 11 dX0_movesOf_6 rfl (by omega) (by omega) (fun h6 => absurd hq h6) (fun h6 => ?_)
  refine la_iconst K dX0_movesOf_9 la_ki_0 ?_
  exact hret _ _ _ () dX0_movesOf_10 rfl
set_option maxHeartbeats 4000000 in
theorem lb_moves1 {s t tk q : Nat} (hP : P ≤ 6) (hL1 : 1 ≤ L) (hL3 : L ≤ 3) (hd6 : ∀ a b, a < P → b < P → aw (6 * a + b) ≤ 6400) (hs : lp_sd P L s) (ht : lp_sd P L t) (hq : q + 1 = L) (htk : tk < 8) : la_CP ω yX0_movesOf cX0_movesOf 7 (some .int) (la_rm 2) [.ref (ad 0), .int (nI s), .int (nI t), .int (nI tk), .int (nI q)] (lb_W ω.2.2 ad ((P, R, T, S, L, B, Nw, U, C, Kd), (fr, to, ln, aw), (su, ca, we, fa, sb, tb), (wk, nw, wo), (k0, k1, k2, k3, k4, k5), RE, BF, BK)) (nI (lp_mo 1000000 L aw s t 1 tk q)) := by
  refine la_CI_of (by decide) [some (.ref (ad 0)), some (.int (nI (s))), some (.int (nI (t))), some (.int (nI (tk))), some (.int (nI (q))), none, none] rfl rfl (Nat.le_of_ble_eq_true rfl) ?_
  intro κ K hret
  have hs5 := lp_sd_lt hs hL3
  have ht5 := lp_sd_lt ht hL3
  have lp : ∀ (j l : Nat) (v : Nat), l ≤ L → L < l + j → lp_mn 1000000 (lp_moQ 1000000 L aw s t 0 tk q l) v → la_At ω κ (0, 0) 18 [some (.ref (ad 0)), some (.int (nI (s))), some (.int (nI (t))), some (.int (nI (tk))), some (.int (nI (q))), some (.int (nI (v))), some (.int (nI (l)))] [] (lb_W ω.2.2 ad ((P, R, T, S, L, B, Nw, U, C, Kd), (fr, to, ln, aw), (su, ca, we, fa, sb, tb), (wk, nw, wo), (k0, k1, k2, k3, k4, k5), RE, BF, BK)) := by
    intro j
    induction j with
    | zero => intro l v h1 h2; omega
    | succ j ih =>
      intro l v h1 h2 hv
      refine la_iload K dX0_movesOf_18 rfl ?_
      refine la_aload_n K dX0_movesOf_20 rfl ?_
      refine lb_g_L K q140 dX0_movesOf_21 ?_
      refine la_icmp_geN K 82 dX0_movesOf_24 rfl (by omega) (by omega) (fun h24 => ?_) (fun h24 => ?_)
      · refine la_iload K dX0_movesOf_82 rfl ?_
        exact hret _ _ _ () dX0_movesOf_84 (by rw [show l = L by omega] at hv; rw [lp_moQ_end hv])
      · refine la_iload_n K dX0_movesOf_27 rfl ?_
        refine la_iload K dX0_movesOf_28 rfl ?_
        refine la_ishrN K dX0_movesOf_30 (by omega) (by omega) ?_
        refine la_iconst K dX0_movesOf_31 la_ki_1 ?_
        refine la_iand1 K dX0_movesOf_32 (by have := Nat.div_le_self tk (2 ^ l); omega) ?_
        refine la_if_neN K 76 dX0_movesOf_33 rfl (by omega) (fun h33 => ?_) (fun h33 => ?_)
        · refine la_iinc6 K dX0_movesOf_76 (la_inc_N _) rfl ?_
          refine la_goto K 18 dX0_movesOf_79 rfl ?_
          exact ih (l + 1) _ (by omega) (by omega) (lp_moQ_skip hv h33)
        · have hor := lp_or_bit htk (by omega : l < 3) h33
          have hdq := hs.2 q (by omega)
          have hdl := ht.2 l (by omega)
          refine la_iload K dX0_movesOf_36 rfl ?_
          refine la_aload_n K dX0_movesOf_38 rfl ?_
          refine la_iload_n K dX0_movesOf_39 rfl ?_
          refine la_iload K dX0_movesOf_40 rfl ?_
          refine la_callSp K ok_X0_at q281 (lb_at (by omega) (by omega) _) rfl rfl rfl (Nat.le_of_ble_eq_true rfl) ⟨Nat.le_of_ble_eq_true rfl, Nat.le_of_ble_eq_true rfl⟩ ⟨Nat.zero_le _, Nat.zero_le _⟩ dX0_movesOf_42 ?_
          refine la_iload_n K dX0_movesOf_45 rfl ?_
          refine la_iload K dX0_movesOf_46 rfl ?_
          refine la_callSp K ok_X0_at q281 (lb_at (by omega) (by omega) _) rfl rfl rfl (Nat.le_of_ble_eq_true rfl) ⟨Nat.le_of_ble_eq_true rfl, Nat.le_of_ble_eq_true rfl⟩ ⟨Nat.zero_le _, Nat.zero_le _⟩ dX0_movesOf_48 ?_
          refine la_callVp K ok_X0_distance q265 (lb_distance (by omega)) 0 rfl rfl rfl rfl rfl (Nat.le_of_ble_eq_true rfl) ⟨Nat.le_of_ble_eq_true rfl, Nat.le_of_ble_eq_true rfl⟩ ⟨Nat.zero_le _, Nat.zero_le _⟩ dX0_movesOf_51 ?_
          refine la_aload_n K dX0_movesOf_54 rfl ?_
          refine la_iload_n K dX0_movesOf_55 rfl ?_
          refine la_iload_n K dX0_movesOf_56 rfl ?_
          refine la_iload_n K dX0_movesOf_57 rfl ?_
          refine la_iconst K dX0_movesOf_58 la_ki_1 ?_
          refine la_iload K dX0_movesOf_59 rfl ?_
          refine la_ishlN K dX0_movesOf_61 (by omega) (by rw [Nat.one_mul]; have : 2 ^ l ≤ 2 ^ 3 := Nat.pow_le_pow_right (by decide) (by omega); omega) ?_
          refine la_ior K dX0_movesOf_62 ?_
          refine la_top hor.1 ?_
          refine la_iload K dX0_movesOf_63 rfl ?_
          refine la_iconst K dX0_movesOf_65 la_ki_1 ?_
          refine la_iaddN K dX0_movesOf_66 ?_
          refine la_callVp K ok_X0_movesOf q380 (lb_moves0 (tk := tk + 2 ^ l) (q := q + 1) hP hL1 hL3 hd6 hs ht (by omega) hor.2) 0 rfl rfl rfl rfl rfl (Nat.le_of_ble_eq_true rfl) ⟨Nat.le_of_ble_eq_true rfl, Nat.le_of_ble_eq_true rfl⟩ ⟨Nat.zero_le _, Nat.zero_le _⟩ dX0_movesOf_67 ?_
          refine la_iaddN K dX0_movesOf_70 ?_
          refine la_minN K (by have := hv.1; omega) (by have := lp_mo_le (I := 1000000) (L := L) (d := aw) (s := s) (t := t) (f := 0) (tk := tk + 2 ^ l) (q := q + 1); have := hd6 _ _ (hs.2 q (by omega)) (ht.2 l (by omega)); omega) q243 rfl (by decide) (Nat.le_of_ble_eq_true rfl) ⟨Nat.zero_le _, Nat.zero_le _⟩ dX0_movesOf_71 ?_
          refine la_istore5 K dX0_movesOf_74 rfl ?_
          refine la_iinc6 K dX0_movesOf_76 (la_inc_N _) rfl ?_
          refine la_goto K 18 dX0_movesOf_79 rfl ?_
          exact ih (l + 1) _ (by omega) (by omega) (lp_moQ_step hv h33 rfl)
  refine la_iload K dX0_movesOf_0 rfl ?_
  refine la_aload_n K dX0_movesOf_2 rfl ?_
  refine lb_g_L K q140 dX0_movesOf_3 ?_
  refine la_icmp_neN K 11 dX0_movesOf_6 rfl (by omega) (by omega) (fun h6 => ?_) (fun h6 => absurd h6 (by omega))
  refine la_ldc K q242 la_kl_1000000 dX0_movesOf_11 ?_
  refine la_istore5 K dX0_movesOf_13 rfl ?_
  refine la_iconst K dX0_movesOf_15 la_ki_0 ?_
  refine la_istore6 K dX0_movesOf_16 rfl ?_
  exact lp (L + 1) 0 _ (by omega) (by omega) lp_moQ_0
set_option maxHeartbeats 4000000 in
theorem lb_moves2 {s t tk q : Nat} (hP : P ≤ 6) (hL1 : 1 ≤ L) (hL3 : L ≤ 3) (hd6 : ∀ a b, a < P → b < P → aw (6 * a + b) ≤ 6400) (hs : lp_sd P L s) (ht : lp_sd P L t) (hq : q + 2 = L) (htk : tk < 8) : la_CP ω yX0_movesOf cX0_movesOf 7 (some .int) (la_rm 3) [.ref (ad 0), .int (nI s), .int (nI t), .int (nI tk), .int (nI q)] (lb_W ω.2.2 ad ((P, R, T, S, L, B, Nw, U, C, Kd), (fr, to, ln, aw), (su, ca, we, fa, sb, tb), (wk, nw, wo), (k0, k1, k2, k3, k4, k5), RE, BF, BK)) (nI (lp_mo 1000000 L aw s t 2 tk q)) := by
  refine la_CI_of (by decide) [some (.ref (ad 0)), some (.int (nI (s))), some (.int (nI (t))), some (.int (nI (tk))), some (.int (nI (q))), none, none] rfl rfl (Nat.le_of_ble_eq_true rfl) ?_
  intro κ K hret
  have hs5 := lp_sd_lt hs hL3
  have ht5 := lp_sd_lt ht hL3
  have lp : ∀ (j l : Nat) (v : Nat), l ≤ L → L < l + j → lp_mn 1000000 (lp_moQ 1000000 L aw s t 1 tk q l) v → la_At ω κ (0, 0) 18 [some (.ref (ad 0)), some (.int (nI (s))), some (.int (nI (t))), some (.int (nI (tk))), some (.int (nI (q))), some (.int (nI (v))), some (.int (nI (l)))] [] (lb_W ω.2.2 ad ((P, R, T, S, L, B, Nw, U, C, Kd), (fr, to, ln, aw), (su, ca, we, fa, sb, tb), (wk, nw, wo), (k0, k1, k2, k3, k4, k5), RE, BF, BK)) := by
    intro j
    induction j with
    | zero => intro l v h1 h2; omega
    | succ j ih =>
      intro l v h1 h2 hv
      refine la_iload K dX0_movesOf_18 rfl ?_
      refine la_aload_n K dX0_movesOf_20 rfl ?_
      refine lb_g_L K q140 dX0_movesOf_21 ?_
      refine la_icmp_geN K 82 dX0_movesOf_24 rfl (by omega) (by omega) (fun h24 => ?_) (fun h24 => ?_)
      · refine la_iload K dX0_movesOf_82 rfl ?_
        exact hret _ _ _ () dX0_movesOf_84 (by rw [show l = L by omega] at hv; rw [lp_moQ_end hv])
      · refine la_iload_n K dX0_movesOf_27 rfl ?_
        refine la_iload K dX0_movesOf_28 rfl ?_
        refine la_ishrN K dX0_movesOf_30 (by omega) (by omega) ?_
        refine la_iconst K dX0_movesOf_31 la_ki_1 ?_
        refine la_iand1 K dX0_movesOf_32 (by have := Nat.div_le_self tk (2 ^ l); omega) ?_
        refine la_if_neN K 76 dX0_movesOf_33 rfl (by omega) (fun h33 => ?_) (fun h33 => ?_)
        · refine la_iinc6 K dX0_movesOf_76 (la_inc_N _) rfl ?_
          refine la_goto K 18 dX0_movesOf_79 rfl ?_
          exact ih (l + 1) _ (by omega) (by omega) (lp_moQ_skip hv h33)
        · have hor := lp_or_bit htk (by omega : l < 3) h33
          have hdq := hs.2 q (by omega)
          have hdl := ht.2 l (by omega)
          refine la_iload K dX0_movesOf_36 rfl ?_
          refine la_aload_n K dX0_movesOf_38 rfl ?_
          refine la_iload_n K dX0_movesOf_39 rfl ?_
          refine la_iload K dX0_movesOf_40 rfl ?_
          refine la_callSp K ok_X0_at q281 (lb_at (by omega) (by omega) _) rfl rfl rfl (Nat.le_of_ble_eq_true rfl) ⟨Nat.le_of_ble_eq_true rfl, Nat.le_of_ble_eq_true rfl⟩ ⟨Nat.zero_le _, Nat.zero_le _⟩ dX0_movesOf_42 ?_
          refine la_iload_n K dX0_movesOf_45 rfl ?_
          refine la_iload K dX0_movesOf_46 rfl ?_
          refine la_callSp K ok_X0_at q281 (lb_at (by omega) (by omega) _) rfl rfl rfl (Nat.le_of_ble_eq_true rfl) ⟨Nat.le_of_ble_eq_true rfl, Nat.le_of_ble_eq_true rfl⟩ ⟨Nat.zero_le _, Nat.zero_le _⟩ dX0_movesOf_48 ?_
          refine la_callVp K ok_X0_distance q265 (lb_distance (by omega)) 0 rfl rfl rfl rfl rfl (Nat.le_of_ble_eq_true rfl) ⟨Nat.le_of_ble_eq_true rfl, Nat.le_of_ble_eq_true rfl⟩ ⟨Nat.zero_le _, Nat.zero_le _⟩ dX0_movesOf_51 ?_
          refine la_aload_n K dX0_movesOf_54 rfl ?_
          refine la_iload_n K dX0_movesOf_55 rfl ?_
          refine la_iload_n K dX0_movesOf_56 rfl ?_
          refine la_iload_n K dX0_movesOf_57 rfl ?_
          refine la_iconst K dX0_movesOf_58 la_ki_1 ?_
          refine la_iload K dX0_movesOf_59 rfl ?_
          refine la_ishlN K dX0_movesOf_61 (by omega) (by rw [Nat.one_mul]; have : 2 ^ l ≤ 2 ^ 3 := Nat.pow_le_pow_right (by decide) (by omega); omega) ?_
          refine la_ior K dX0_movesOf_62 ?_
          refine la_top hor.1 ?_
          refine la_iload K dX0_movesOf_63 rfl ?_
          refine la_iconst K dX0_movesOf_65 la_ki_1 ?_
          refine la_iaddN K dX0_movesOf_66 ?_
          refine la_callVp K ok_X0_movesOf q380 (lb_moves1 (tk := tk + 2 ^ l) (q := q + 1) hP hL1 hL3 hd6 hs ht (by omega) hor.2) 0 rfl rfl rfl rfl rfl (Nat.le_of_ble_eq_true rfl) ⟨Nat.le_of_ble_eq_true rfl, Nat.le_of_ble_eq_true rfl⟩ ⟨Nat.zero_le _, Nat.zero_le _⟩ dX0_movesOf_67 ?_
          refine la_iaddN K dX0_movesOf_70 ?_
          refine la_minN K (by have := hv.1; omega) (by have := lp_mo_le (I := 1000000) (L := L) (d := aw) (s := s) (t := t) (f := 1) (tk := tk + 2 ^ l) (q := q + 1); have := hd6 _ _ (hs.2 q (by omega)) (ht.2 l (by omega)); omega) q243 rfl (by decide) (Nat.le_of_ble_eq_true rfl) ⟨Nat.zero_le _, Nat.zero_le _⟩ dX0_movesOf_71 ?_
          refine la_istore5 K dX0_movesOf_74 rfl ?_
          refine la_iinc6 K dX0_movesOf_76 (la_inc_N _) rfl ?_
          refine la_goto K 18 dX0_movesOf_79 rfl ?_
          exact ih (l + 1) _ (by omega) (by omega) (lp_moQ_step hv h33 rfl)
  refine la_iload K dX0_movesOf_0 rfl ?_
  refine la_aload_n K dX0_movesOf_2 rfl ?_
  refine lb_g_L K q140 dX0_movesOf_3 ?_
  refine la_icmp_neN K 11 dX0_movesOf_6 rfl (by omega) (by omega) (fun h6 => ?_) (fun h6 => absurd h6 (by omega))
  refine la_ldc K q242 la_kl_1000000 dX0_movesOf_11 ?_
  refine la_istore5 K dX0_movesOf_13 rfl ?_
  refine la_iconst K dX0_movesOf_15 la_ki_0 ?_
  refine la_istore6 K dX0_movesOf_16 rfl ?_
  exact lp (L + 1) 0 _ (by omega) (by omega) lp_moQ_0
set_option maxHeartbeats 4000000 in
theorem lb_moves3 {s t tk q : Nat} (hP : P ≤ 6) (hL1 : 1 ≤ L) (hL3 : L ≤ 3) (hd6 : ∀ a b, a < P → b < P → aw (6 * a + b) ≤ 6400) (hs : lp_sd P L s) (ht : lp_sd P L t) (hq : q + 3 = L) (htk : tk < 8) : la_CP ω yX0_movesOf cX0_movesOf 7 (some .int) (la_rm 4) [.ref (ad 0), .int (nI s), .int (nI t), .int (nI tk), .int (nI q)] (lb_W ω.2.2 ad ((P, R, T, S, L, B, Nw, U, C, Kd), (fr, to, ln, aw), (su, ca, we, fa, sb, tb), (wk, nw, wo), (k0, k1, k2, k3, k4, k5), RE, BF, BK)) (nI (lp_mo 1000000 L aw s t 3 tk q)) := by
  refine la_CI_of (by decide) [some (.ref (ad 0)), some (.int (nI (s))), some (.int (nI (t))), some (.int (nI (tk))), some (.int (nI (q))), none, none] rfl rfl (Nat.le_of_ble_eq_true rfl) ?_
  intro κ K hret
  have hs5 := lp_sd_lt hs hL3
  have ht5 := lp_sd_lt ht hL3
  have lp : ∀ (j l : Nat) (v : Nat), l ≤ L → L < l + j → lp_mn 1000000 (lp_moQ 1000000 L aw s t 2 tk q l) v → la_At ω κ (0, 0) 18 [some (.ref (ad 0)), some (.int (nI (s))), some (.int (nI (t))), some (.int (nI (tk))), some (.int (nI (q))), some (.int (nI (v))), some (.int (nI (l)))] [] (lb_W ω.2.2 ad ((P, R, T, S, L, B, Nw, U, C, Kd), (fr, to, ln, aw), (su, ca, we, fa, sb, tb), (wk, nw, wo), (k0, k1, k2, k3, k4, k5), RE, BF, BK)) := by
    intro j
    induction j with
    | zero => intro l v h1 h2; omega
    | succ j ih =>
      intro l v h1 h2 hv
      refine la_iload K dX0_movesOf_18 rfl ?_
      refine la_aload_n K dX0_movesOf_20 rfl ?_
      refine lb_g_L K q140 dX0_movesOf_21 ?_
      refine la_icmp_geN K 82 dX0_movesOf_24 rfl (by omega) (by omega) (fun h24 => ?_) (fun h24 => ?_)
      · refine la_iload K dX0_movesOf_82 rfl ?_
        exact hret _ _ _ () dX0_movesOf_84 (by rw [show l = L by omega] at hv; rw [lp_moQ_end hv])
      · refine la_iload_n K dX0_movesOf_27 rfl ?_
        refine la_iload K dX0_movesOf_28 rfl ?_
        refine la_ishrN K dX0_movesOf_30 (by omega) (by omega) ?_
        refine la_iconst K dX0_movesOf_31 la_ki_1 ?_
        refine la_iand1 K dX0_movesOf_32 (by have := Nat.div_le_self tk (2 ^ l); omega) ?_
        refine la_if_neN K 76 dX0_movesOf_33 rfl (by omega) (fun h33 => ?_) (fun h33 => ?_)
        · refine la_iinc6 K dX0_movesOf_76 (la_inc_N _) rfl ?_
          refine la_goto K 18 dX0_movesOf_79 rfl ?_
          exact ih (l + 1) _ (by omega) (by omega) (lp_moQ_skip hv h33)
        · have hor := lp_or_bit htk (by omega : l < 3) h33
          have hdq := hs.2 q (by omega)
          have hdl := ht.2 l (by omega)
          refine la_iload K dX0_movesOf_36 rfl ?_
          refine la_aload_n K dX0_movesOf_38 rfl ?_
          refine la_iload_n K dX0_movesOf_39 rfl ?_
          refine la_iload K dX0_movesOf_40 rfl ?_
          refine la_callSp K ok_X0_at q281 (lb_at (by omega) (by omega) _) rfl rfl rfl (Nat.le_of_ble_eq_true rfl) ⟨Nat.le_of_ble_eq_true rfl, Nat.le_of_ble_eq_true rfl⟩ ⟨Nat.zero_le _, Nat.zero_le _⟩ dX0_movesOf_42 ?_
          refine la_iload_n K dX0_movesOf_45 rfl ?_
          refine la_iload K dX0_movesOf_46 rfl ?_
          refine la_callSp K ok_X0_at q281 (lb_at (by omega) (by omega) _) rfl rfl rfl (Nat.le_of_ble_eq_true rfl) ⟨Nat.le_of_ble_eq_true rfl, Nat.le_of_ble_eq_true rfl⟩ ⟨Nat.zero_le _, Nat.zero_le _⟩ dX0_movesOf_48 ?_
          refine la_callVp K ok_X0_distance q265 (lb_distance (by omega)) 0 rfl rfl rfl rfl rfl (Nat.le_of_ble_eq_true rfl) ⟨Nat.le_of_ble_eq_true rfl, Nat.le_of_ble_eq_true rfl⟩ ⟨Nat.zero_le _, Nat.zero_le _⟩ dX0_movesOf_51 ?_
          refine la_aload_n K dX0_movesOf_54 rfl ?_
          refine la_iload_n K dX0_movesOf_55 rfl ?_
          refine la_iload_n K dX0_movesOf_56 rfl ?_
          refine la_iload_n K dX0_movesOf_57 rfl ?_
          refine la_iconst K dX0_movesOf_58 la_ki_1 ?_
          refine la_iload K dX0_movesOf_59 rfl ?_
          refine la_ishlN K dX0_movesOf_61 (by omega) (by rw [Nat.one_mul]; have : 2 ^ l ≤ 2 ^ 3 := Nat.pow_le_pow_right (by decide) (by omega); omega) ?_
          refine la_ior K dX0_movesOf_62 ?_
          refine la_top hor.1 ?_
          refine la_iload K dX0_movesOf_63 rfl ?_
          refine la_iconst K dX0_movesOf_65 la_ki_1 ?_
          refine la_iaddN K dX0_movesOf_66 ?_
          refine la_callVp K ok_X0_movesOf q380 (lb_moves2 (tk := tk + 2 ^ l) (q := q + 1) hP hL1 hL3 hd6 hs ht (by omega) hor.2) 0 rfl rfl rfl rfl rfl (Nat.le_of_ble_eq_true rfl) ⟨Nat.le_of_ble_eq_true rfl, Nat.le_of_ble_eq_true rfl⟩ ⟨Nat.zero_le _, Nat.zero_le _⟩ dX0_movesOf_67 ?_
          refine la_iaddN K dX0_movesOf_70 ?_
          refine la_minN K (by have := hv.1; omega) (by have := lp_mo_le (I := 1000000) (L := L) (d := aw) (s := s) (t := t) (f := 2) (tk := tk + 2 ^ l) (q := q + 1); have := hd6 _ _ (hs.2 q (by omega)) (ht.2 l (by omega)); omega) q243 rfl (by decide) (Nat.le_of_ble_eq_true rfl) ⟨Nat.zero_le _, Nat.zero_le _⟩ dX0_movesOf_71 ?_
          refine la_istore5 K dX0_movesOf_74 rfl ?_
          refine la_iinc6 K dX0_movesOf_76 (la_inc_N _) rfl ?_
          refine la_goto K 18 dX0_movesOf_79 rfl ?_
          exact ih (l + 1) _ (by omega) (by omega) (lp_moQ_step hv h33 rfl)
  refine la_iload K dX0_movesOf_0 rfl ?_
  refine la_aload_n K dX0_movesOf_2 rfl ?_
  refine lb_g_L K q140 dX0_movesOf_3 ?_
  refine la_icmp_neN K 11 dX0_movesOf_6 rfl (by omega) (by omega) (fun h6 => ?_) (fun h6 => absurd h6 (by omega))
  refine la_ldc K q242 la_kl_1000000 dX0_movesOf_11 ?_
  refine la_istore5 K dX0_movesOf_13 rfl ?_
  refine la_iconst K dX0_movesOf_15 la_ki_0 ?_
  refine la_istore6 K dX0_movesOf_16 rfl ?_
  exact lp (L + 1) 0 _ (by omega) (by omega) lp_moQ_0
set_option maxHeartbeats 4000000 in
theorem lb_movesT1 {s t tk q : Nat} (hP : P ≤ 6) (hL1 : 1 ≤ L) (hL3 : L ≤ 3) (hd6 : ∀ a b, a < P → b < P → aw (6 * a + b) ≤ 6400) (hs : lp_sd P L s) (ht : lp_sd P L t) (hq : q + 1 = L) (htk : tk < 8) : la_CP ω yX0_movesOf cX0_movesOf 7 (some .int) (la_rm 4) [.ref (ad 0), .int (nI s), .int (nI t), .int (nI tk), .int (nI q)] (lb_W ω.2.2 ad ((P, R, T, S, L, B, Nw, U, C, Kd), (fr, to, ln, aw), (su, ca, we, fa, sb, tb), (wk, nw, wo), (k0, k1, k2, k3, k4, k5), RE, BF, BK)) (nI (lp_mo 1000000 L aw s t 1 tk q)) := by
  refine la_CI_of (by decide) [some (.ref (ad 0)), some (.int (nI (s))), some (.int (nI (t))), some (.int (nI (tk))), some (.int (nI (q))), none, none] rfl rfl (Nat.le_of_ble_eq_true rfl) ?_
  intro κ K hret
  have hs5 := lp_sd_lt hs hL3
  have ht5 := lp_sd_lt ht hL3
  have lp : ∀ (j l : Nat) (v : Nat), l ≤ L → L < l + j → lp_mn 1000000 (lp_moQ 1000000 L aw s t 0 tk q l) v → la_At ω κ (0, 0) 18 [some (.ref (ad 0)), some (.int (nI (s))), some (.int (nI (t))), some (.int (nI (tk))), some (.int (nI (q))), some (.int (nI (v))), some (.int (nI (l)))] [] (lb_W ω.2.2 ad ((P, R, T, S, L, B, Nw, U, C, Kd), (fr, to, ln, aw), (su, ca, we, fa, sb, tb), (wk, nw, wo), (k0, k1, k2, k3, k4, k5), RE, BF, BK)) := by
    intro j
    induction j with
    | zero => intro l v h1 h2; omega
    | succ j ih =>
      intro l v h1 h2 hv
      refine la_iload K dX0_movesOf_18 rfl ?_
      refine la_aload_n K dX0_movesOf_20 rfl ?_
      refine lb_g_L K q140 dX0_movesOf_21 ?_
      refine la_icmp_geN K 82 dX0_movesOf_24 rfl (by omega) (by omega) (fun h24 => ?_) (fun h24 => ?_)
      · refine la_iload K dX0_movesOf_82 rfl ?_
        exact hret _ _ _ () dX0_movesOf_84 (by rw [show l = L by omega] at hv; rw [lp_moQ_end hv])
      · refine la_iload_n K dX0_movesOf_27 rfl ?_
        refine la_iload K dX0_movesOf_28 rfl ?_
        refine la_ishrN K dX0_movesOf_30 (by omega) (by omega) ?_
        refine la_iconst K dX0_movesOf_31 la_ki_1 ?_
        refine la_iand1 K dX0_movesOf_32 (by have := Nat.div_le_self tk (2 ^ l); omega) ?_
        refine la_if_neN K 76 dX0_movesOf_33 rfl (by omega) (fun h33 => ?_) (fun h33 => ?_)
        · refine la_iinc6 K dX0_movesOf_76 (la_inc_N _) rfl ?_
          refine la_goto K 18 dX0_movesOf_79 rfl ?_
          exact ih (l + 1) _ (by omega) (by omega) (lp_moQ_skip hv h33)
        · have hor := lp_or_bit htk (by omega : l < 3) h33
          have hdq := hs.2 q (by omega)
          have hdl := ht.2 l (by omega)
          refine la_iload K dX0_movesOf_36 rfl ?_
          refine la_aload_n K dX0_movesOf_38 rfl ?_
          refine la_iload_n K dX0_movesOf_39 rfl ?_
          refine la_iload K dX0_movesOf_40 rfl ?_
          refine la_callSp K ok_X0_at q281 (lb_at (by omega) (by omega) _) rfl rfl rfl (Nat.le_of_ble_eq_true rfl) ⟨Nat.le_of_ble_eq_true rfl, Nat.le_of_ble_eq_true rfl⟩ ⟨Nat.zero_le _, Nat.zero_le _⟩ dX0_movesOf_42 ?_
          refine la_iload_n K dX0_movesOf_45 rfl ?_
          refine la_iload K dX0_movesOf_46 rfl ?_
          refine la_callSp K ok_X0_at q281 (lb_at (by omega) (by omega) _) rfl rfl rfl (Nat.le_of_ble_eq_true rfl) ⟨Nat.le_of_ble_eq_true rfl, Nat.le_of_ble_eq_true rfl⟩ ⟨Nat.zero_le _, Nat.zero_le _⟩ dX0_movesOf_48 ?_
          refine la_callVp K ok_X0_distance q265 (lb_distance (by omega)) 0 rfl rfl rfl rfl rfl (Nat.le_of_ble_eq_true rfl) ⟨Nat.le_of_ble_eq_true rfl, Nat.le_of_ble_eq_true rfl⟩ ⟨Nat.zero_le _, Nat.zero_le _⟩ dX0_movesOf_51 ?_
          refine la_aload_n K dX0_movesOf_54 rfl ?_
          refine la_iload_n K dX0_movesOf_55 rfl ?_
          refine la_iload_n K dX0_movesOf_56 rfl ?_
          refine la_iload_n K dX0_movesOf_57 rfl ?_
          refine la_iconst K dX0_movesOf_58 la_ki_1 ?_
          refine la_iload K dX0_movesOf_59 rfl ?_
          refine la_ishlN K dX0_movesOf_61 (by omega) (by rw [Nat.one_mul]; have : 2 ^ l ≤ 2 ^ 3 := Nat.pow_le_pow_right (by decide) (by omega); omega) ?_
          refine la_ior K dX0_movesOf_62 ?_
          refine la_top hor.1 ?_
          refine la_iload K dX0_movesOf_63 rfl ?_
          refine la_iconst K dX0_movesOf_65 la_ki_1 ?_
          refine la_iaddN K dX0_movesOf_66 ?_
          refine la_callVp K ok_X0_movesOf q380 (lb_moves0 (tk := tk + 2 ^ l) (q := q + 1) hP hL1 hL3 hd6 hs ht (by omega) hor.2) 0 rfl rfl rfl rfl rfl (Nat.le_of_ble_eq_true rfl) ⟨Nat.le_of_ble_eq_true rfl, Nat.le_of_ble_eq_true rfl⟩ ⟨Nat.zero_le _, Nat.zero_le _⟩ dX0_movesOf_67 ?_
          refine la_iaddN K dX0_movesOf_70 ?_
          refine la_minN K (by have := hv.1; omega) (by have := lp_mo_le (I := 1000000) (L := L) (d := aw) (s := s) (t := t) (f := 0) (tk := tk + 2 ^ l) (q := q + 1); have := hd6 _ _ (hs.2 q (by omega)) (ht.2 l (by omega)); omega) q243 rfl (by decide) (Nat.le_of_ble_eq_true rfl) ⟨Nat.zero_le _, Nat.zero_le _⟩ dX0_movesOf_71 ?_
          refine la_istore5 K dX0_movesOf_74 rfl ?_
          refine la_iinc6 K dX0_movesOf_76 (la_inc_N _) rfl ?_
          refine la_goto K 18 dX0_movesOf_79 rfl ?_
          exact ih (l + 1) _ (by omega) (by omega) (lp_moQ_step hv h33 rfl)
  refine la_iload K dX0_movesOf_0 rfl ?_
  refine la_aload_n K dX0_movesOf_2 rfl ?_
  refine lb_g_L K q140 dX0_movesOf_3 ?_
  refine la_icmp_neN K 11 dX0_movesOf_6 rfl (by omega) (by omega) (fun h6 => ?_) (fun h6 => absurd h6 (by omega))
  refine la_ldc K q242 la_kl_1000000 dX0_movesOf_11 ?_
  refine la_istore5 K dX0_movesOf_13 rfl ?_
  refine la_iconst K dX0_movesOf_15 la_ki_0 ?_
  refine la_istore6 K dX0_movesOf_16 rfl ?_
  exact lp (L + 1) 0 _ (by omega) (by omega) lp_moQ_0
set_option maxHeartbeats 4000000 in
theorem lb_movesT2 {s t tk q : Nat} (hP : P ≤ 6) (hL1 : 1 ≤ L) (hL3 : L ≤ 3) (hd6 : ∀ a b, a < P → b < P → aw (6 * a + b) ≤ 6400) (hs : lp_sd P L s) (ht : lp_sd P L t) (hq : q + 2 = L) (htk : tk < 8) : la_CP ω yX0_movesOf cX0_movesOf 7 (some .int) (la_rm 4) [.ref (ad 0), .int (nI s), .int (nI t), .int (nI tk), .int (nI q)] (lb_W ω.2.2 ad ((P, R, T, S, L, B, Nw, U, C, Kd), (fr, to, ln, aw), (su, ca, we, fa, sb, tb), (wk, nw, wo), (k0, k1, k2, k3, k4, k5), RE, BF, BK)) (nI (lp_mo 1000000 L aw s t 2 tk q)) := by
  refine la_CI_of (by decide) [some (.ref (ad 0)), some (.int (nI (s))), some (.int (nI (t))), some (.int (nI (tk))), some (.int (nI (q))), none, none] rfl rfl (Nat.le_of_ble_eq_true rfl) ?_
  intro κ K hret
  have hs5 := lp_sd_lt hs hL3
  have ht5 := lp_sd_lt ht hL3
  have lp : ∀ (j l : Nat) (v : Nat), l ≤ L → L < l + j → lp_mn 1000000 (lp_moQ 1000000 L aw s t 1 tk q l) v → la_At ω κ (0, 0) 18 [some (.ref (ad 0)), some (.int (nI (s))), some (.int (nI (t))), some (.int (nI (tk))), some (.int (nI (q))), some (.int (nI (v))), some (.int (nI (l)))] [] (lb_W ω.2.2 ad ((P, R, T, S, L, B, Nw, U, C, Kd), (fr, to, ln, aw), (su, ca, we, fa, sb, tb), (wk, nw, wo), (k0, k1, k2, k3, k4, k5), RE, BF, BK)) := by
    intro j
    induction j with
    | zero => intro l v h1 h2; omega
    | succ j ih =>
      intro l v h1 h2 hv
      refine la_iload K dX0_movesOf_18 rfl ?_
      refine la_aload_n K dX0_movesOf_20 rfl ?_
      refine lb_g_L K q140 dX0_movesOf_21 ?_
      refine la_icmp_geN K 82 dX0_movesOf_24 rfl (by omega) (by omega) (fun h24 => ?_) (fun h24 => ?_)
      · refine la_iload K dX0_movesOf_82 rfl ?_
        exact hret _ _ _ () dX0_movesOf_84 (by rw [show l = L by omega] at hv; rw [lp_moQ_end hv])
      · refine la_iload_n K dX0_movesOf_27 rfl ?_
        refine la_iload K dX0_movesOf_28 rfl ?_
        refine la_ishrN K dX0_movesOf_30 (by omega) (by omega) ?_
        refine la_iconst K dX0_movesOf_31 la_ki_1 ?_
        refine la_iand1 K dX0_movesOf_32 (by have := Nat.div_le_self tk (2 ^ l); omega) ?_
        refine la_if_neN K 76 dX0_movesOf_33 rfl (by omega) (fun h33 => ?_) (fun h33 => ?_)
        · refine la_iinc6 K dX0_movesOf_76 (la_inc_N _) rfl ?_
          refine la_goto K 18 dX0_movesOf_79 rfl ?_
          exact ih (l + 1) _ (by omega) (by omega) (lp_moQ_skip hv h33)
        · have hor := lp_or_bit htk (by omega : l < 3) h33
          have hdq := hs.2 q (by omega)
          have hdl := ht.2 l (by omega)
          refine la_iload K dX0_movesOf_36 rfl ?_
          refine la_aload_n K dX0_movesOf_38 rfl ?_
          refine la_iload_n K dX0_movesOf_39 rfl ?_
          refine la_iload K dX0_movesOf_40 rfl ?_
          refine la_callSp K ok_X0_at q281 (lb_at (by omega) (by omega) _) rfl rfl rfl (Nat.le_of_ble_eq_true rfl) ⟨Nat.le_of_ble_eq_true rfl, Nat.le_of_ble_eq_true rfl⟩ ⟨Nat.zero_le _, Nat.zero_le _⟩ dX0_movesOf_42 ?_
          refine la_iload_n K dX0_movesOf_45 rfl ?_
          refine la_iload K dX0_movesOf_46 rfl ?_
          refine la_callSp K ok_X0_at q281 (lb_at (by omega) (by omega) _) rfl rfl rfl (Nat.le_of_ble_eq_true rfl) ⟨Nat.le_of_ble_eq_true rfl, Nat.le_of_ble_eq_true rfl⟩ ⟨Nat.zero_le _, Nat.zero_le _⟩ dX0_movesOf_48 ?_
          refine la_callVp K ok_X0_distance q265 (lb_distance (by omega)) 0 rfl rfl rfl rfl rfl (Nat.le_of_ble_eq_true rfl) ⟨Nat.le_of_ble_eq_true rfl, Nat.le_of_ble_eq_true rfl⟩ ⟨Nat.zero_le _, Nat.zero_le _⟩ dX0_movesOf_51 ?_
          refine la_aload_n K dX0_movesOf_54 rfl ?_
          refine la_iload_n K dX0_movesOf_55 rfl ?_
          refine la_iload_n K dX0_movesOf_56 rfl ?_
          refine la_iload_n K dX0_movesOf_57 rfl ?_
          refine la_iconst K dX0_movesOf_58 la_ki_1 ?_
          refine la_iload K dX0_movesOf_59 rfl ?_
          refine la_ishlN K dX0_movesOf_61 (by omega) (by rw [Nat.one_mul]; have : 2 ^ l ≤ 2 ^ 3 := Nat.pow_le_pow_right (by decide) (by omega); omega) ?_
          refine la_ior K dX0_movesOf_62 ?_
          refine la_top hor.1 ?_
          refine la_iload K dX0_movesOf_63 rfl ?_
          refine la_iconst K dX0_movesOf_65 la_ki_1 ?_
          refine la_iaddN K dX0_movesOf_66 ?_
          refine la_callVp K ok_X0_movesOf q380 (lb_moves1 (tk := tk + 2 ^ l) (q := q + 1) hP hL1 hL3 hd6 hs ht (by omega) hor.2) 0 rfl rfl rfl rfl rfl (Nat.le_of_ble_eq_true rfl) ⟨Nat.le_of_ble_eq_true rfl, Nat.le_of_ble_eq_true rfl⟩ ⟨Nat.zero_le _, Nat.zero_le _⟩ dX0_movesOf_67 ?_
          refine la_iaddN K dX0_movesOf_70 ?_
          refine la_minN K (by have := hv.1; omega) (by have := lp_mo_le (I := 1000000) (L := L) (d := aw) (s := s) (t := t) (f := 1) (tk := tk + 2 ^ l) (q := q + 1); have := hd6 _ _ (hs.2 q (by omega)) (ht.2 l (by omega)); omega) q243 rfl (by decide) (Nat.le_of_ble_eq_true rfl) ⟨Nat.zero_le _, Nat.zero_le _⟩ dX0_movesOf_71 ?_
          refine la_istore5 K dX0_movesOf_74 rfl ?_
          refine la_iinc6 K dX0_movesOf_76 (la_inc_N _) rfl ?_
          refine la_goto K 18 dX0_movesOf_79 rfl ?_
          exact ih (l + 1) _ (by omega) (by omega) (lp_moQ_step hv h33 rfl)
  refine la_iload K dX0_movesOf_0 rfl ?_
  refine la_aload_n K dX0_movesOf_2 rfl ?_
  refine lb_g_L K q140 dX0_movesOf_3 ?_
  refine la_icmp_neN K 11 dX0_movesOf_6 rfl (by omega) (by omega) (fun h6 => ?_) (fun h6 => absurd h6 (by omega))
  refine la_ldc K q242 la_kl_1000000 dX0_movesOf_11 ?_
  refine la_istore5 K dX0_movesOf_13 rfl ?_
  refine la_iconst K dX0_movesOf_15 la_ki_0 ?_
  refine la_istore6 K dX0_movesOf_16 rfl ?_
  exact lp (L + 1) 0 _ (by omega) (by omega) lp_moQ_0
theorem lb_movesOf {s t : Nat} (hP : P ≤ 6) (hL1 : 1 ≤ L) (hL3 : L ≤ 3) (hd6 : ∀ a b, a < P → b < P → aw (6 * a + b) ≤ 6400) (hs : lp_sd P L s) (ht : lp_sd P L t) : la_CP ω yX0_movesOf cX0_movesOf 7 (some .int) (la_rm 4) [.ref (ad 0), .int (nI s), .int (nI t), .int (nI 0), .int (nI 0)] (lb_W ω.2.2 ad ((P, R, T, S, L, B, Nw, U, C, Kd), (fr, to, ln, aw), (su, ca, we, fa, sb, tb), (wk, nw, wo), (k0, k1, k2, k3, k4, k5), RE, BF, BK)) (nI (lp_mo 1000000 L aw s t L 0 0)) := by
  have h : L = 1 ∨ L = 2 ∨ L = 3 := by omega
  rcases h with rfl | rfl | rfl
  · exact lb_movesT1 hP hL1 hL3 hd6 hs ht rfl (by decide)
  · exact lb_movesT2 hP hL1 hL3 hd6 hs ht rfl (by decide)
  · exact lb_moves3 hP hL1 hL3 hd6 hs ht rfl (by decide)
end LC2
