/-! THE COMPONENT's METHODS, part 7: the rules. Printed by c7.py. -/
section LBOUT
variable {ω : la_O} {κ : la_K} {cc : ByteArray} {nL : Nat} {own : String} {R0 : Room} {n : Nat × Nat} {pc : Nat} {lv : List (Option Value)} {st : List Value} {ad : Nat → Nat}
theorem lb_near_this0 (K : la_Cx ω κ cc nL own R0) {i j : Nat} {σ : lb_S} (hl : Cond.fieldLink own i "LadderCalls$Near" "this$0" "LLadderCalls;" ∈ lw_all) (hd : decode cc pc = .ok (.getfield i, 3)) (kk : la_At ω κ n (pc + 3) lv (.ref (ad 0) :: st) (lb_W ω.2.2 ad σ)) (hj : j < 4 := by omega) : la_At ω κ n pc lv (.ref (ad (21 + j)) :: st) (lb_W ω.2.2 ad σ) := by
  have h4 : j = 0 ∨ j = 1 ∨ j = 2 ∨ j = 3 := by omega
  rcases h4 with rfl | rfl | rfl | rfl
  · exact la_getf K in_X1 21 0 rfl rfl (by decide) hl rfl rfl hd kk
  · exact la_getf K in_X2 22 0 rfl rfl (by decide) hl rfl rfl hd kk
  · exact la_getf K in_X3 23 0 rfl rfl (by decide) hl rfl rfl hd kk
  · exact la_getf K in_X4 24 0 rfl rfl (by decide) hl rfl rfl hd kk
theorem lb_even_this0 (K : la_Cx ω κ cc nL own R0) {i j : Nat} {σ : lb_S} (hl : Cond.fieldLink own i "LadderCalls$Even" "this$0" "LLadderCalls;" ∈ lw_all) (hd : decode cc pc = .ok (.getfield i, 3)) (kk : la_At ω κ n (pc + 3) lv (.ref (ad 0) :: st) (lb_W ω.2.2 ad σ)) (hj : j = 1 ∨ j = 3 := by omega) : la_At ω κ n pc lv (.ref (ad (21 + j)) :: st) (lb_W ω.2.2 ad σ) := by
  rcases hj with rfl | rfl
  · exact la_getf K in_X2 22 1 rfl rfl (by decide) hl rfl rfl hd kk
  · exact la_getf K in_X4 24 1 rfl rfl (by decide) hl rfl rfl hd kk
theorem lb_turn_this0 (K : la_Cx ω κ cc nL own R0) {i : Nat} {σ : lb_S} (hl : Cond.fieldLink own i "LadderCalls$Turn" "this$0" "LLadderCalls;" ∈ lw_all) (hd : decode cc pc = .ok (.getfield i, 3)) (kk : la_At ω κ n (pc + 3) lv (.ref (ad 0) :: st) (lb_W ω.2.2 ad σ)) : la_At ω κ n pc lv (.ref (ad 23) :: st) (lb_W ω.2.2 ad σ) := la_getf K in_X3 23 1 rfl rfl (by decide) hl rfl rfl hd kk
theorem lb_ahead_this0 (K : la_Cx ω κ cc nL own R0) {i : Nat} {σ : lb_S} (hl : Cond.fieldLink own i "LadderCalls$Ahead" "this$0" "LLadderCalls;" ∈ lw_all) (hd : decode cc pc = .ok (.getfield i, 3)) (kk : la_At ω κ n (pc + 3) lv (.ref (ad 0) :: st) (lb_W ω.2.2 ad σ)) : la_At ω κ n pc lv (.ref (ad 24) :: st) (lb_W ω.2.2 ad σ) := la_getf K in_X4 24 3 rfl rfl (by decide) hl rfl rfl hd kk
theorem lb_ahead_works (K : la_Cx ω κ cc nL own R0) {i : Nat} {σ : lb_S} (hl : Cond.fieldLink own i "LadderCalls$Ahead" "works" "[I" ∈ lw_all) (hd : decode cc pc = .ok (.getfield i, 3)) (kk : la_At ω κ n (pc + 3) lv (.ref (ad 19) :: st) (lb_W ω.2.2 ad σ)) : la_At ω κ n pc lv (.ref (ad 24) :: st) (lb_W ω.2.2 ad σ) := la_getf K in_X4 24 2 rfl rfl (by decide) hl rfl rfl hd kk
end LBOUT
section LC7
variable {ω : la_O} {ad : Nat → Nat} {S : Int32} {T : Int64} {P R L B Nw U C Kd : Nat} {fr to ln aw su ca we fa sb tb wk nw wo k0 k1 k2 k3 k4 k5 : Nat → Nat} {RE : Nat → Nat → Nat} {BF : Nat → Option Nat} {BK : va_W}
set_option maxHeartbeats 4000000 in
theorem lb_leastN {p j0 : Nat} (hj0 : j0 < 4) (hP : P ≤ 6) (hL1 : 1 ≤ L) (hL3 : L ≤ 3) (hp : p < P) (hNw : Nw < 512) (hdg : ∀ k, k < L → lp_dg Nw k < P) (hd6 : ∀ a b, a < P → b < P → aw (6 * a + b) ≤ 1000000) : la_CP ω yX1_least cX1_least 7 (some .int) (la_rm 1) [.ref (ad (21 + j0)), .int (nI p), .null] (lb_W ω.2.2 ad ((P, R, T, S, L, B, Nw, U, C, Kd), (fr, to, ln, aw), (su, ca, we, fa, sb, tb), (wk, nw, wo), (k0, k1, k2, k3, k4, k5), RE, BF, BK)) (nI (lp_ag (fun k => aw (6 * lp_dg Nw k + p) + 0) L)) := by
  refine la_CI_of (by decide) [some (.ref (ad (21 + j0))), some (.int (nI (p))), some .null, none, none, none, none] rfl rfl (Nat.le_of_ble_eq_true rfl) ?_
  intro κ K hret
  have lp : ∀ (j k : Nat) (l : Nat) (x5 x6 : Option Value), k ≤ L → L < k + j → 1 ≤ k → l = lp_ag (fun k => aw (6 * lp_dg Nw k + p) + 0) k → la_At ω κ (0, 0) 5 [some (.ref (ad (21 + j0))), some (.int (nI (p))), some .null, some (.int (nI (l))), some (.int (nI (k))), x5, x6] [] (lb_W ω.2.2 ad ((P, R, T, S, L, B, Nw, U, C, Kd), (fr, to, ln, aw), (su, ca, we, fa, sb, tb), (wk, nw, wo), (k0, k1, k2, k3, k4, k5), RE, BF, BK)) := by
    intro j
    induction j with
    | zero => intro k l x5 x6 h1 h2; omega
    | succ j ih =>
      intro k l x5 x6 h1 h2 hk1 hl
      refine la_iload K dX1_least_5 rfl ?_
      refine la_aload_n K dX1_least_7 rfl ?_
      refine lb_near_this0 K q78 dX1_least_8 ?_
      refine lb_gN_L K q136 dX1_least_11 ?_
      refine la_icmp_geN K 105 dX1_least_14 rfl (by omega) (by omega) (fun h14 => ?_) (fun h14 => ?_)
      · refine la_iload_n K dX1_least_105 rfl ?_
        exact hret _ _ _ () dX1_least_106 (by rw [hl, show k = L by omega])
      · have hlk : l < k := by rw [hl]; exact lp_ag_lt (by omega)
        have g1 := hdg k (by omega)
        have g2 := hdg l (by omega)
        have hst := lp_ag_step hl
        refine la_aload_n K dX1_least_17 rfl ?_
        refine lb_near_this0 K q78 dX1_least_18 ?_
        refine la_aload_n K dX1_least_21 rfl ?_
        refine lb_near_this0 K q78 dX1_least_22 ?_
        refine lb_gN_Nw K q145 dX1_least_25 ?_
        refine la_iload K dX1_least_28 rfl ?_
        refine la_callSNp K ok_X0_at q356 (lb_at (by omega) (by omega) _) rfl rfl rfl (Nat.le_of_ble_eq_true rfl) ⟨Nat.le_of_ble_eq_true rfl, Nat.le_of_ble_eq_true rfl⟩ ⟨Nat.zero_le _, Nat.zero_le _⟩ dX1_least_30 ?_
        refine la_iload_n K dX1_least_33 rfl ?_
        refine la_callVNp K ok_X0_distance q357 (lb_distance (by omega)) 0 rfl rfl rfl rfl rfl (Nat.le_of_ble_eq_true rfl) ⟨Nat.le_of_ble_eq_true rfl, Nat.le_of_ble_eq_true rfl⟩ ⟨Nat.zero_le _, Nat.zero_le _⟩ dX1_least_34 ?_
        refine la_aload_n0 K dX1_least_37 rfl ?_
        refine la_ifnonnull0 K dX1_least_38 ?_
        refine la_iconst K dX1_least_41 la_ki_0 ?_
        refine la_goto K 49 dX1_least_42 rfl ?_
        refine la_iaddN K dX1_least_49 ?_
        refine la_istore5 K dX1_least_50 rfl ?_
        refine la_aload_n K dX1_least_52 rfl ?_
        refine lb_near_this0 K q78 dX1_least_53 ?_
        refine la_aload_n K dX1_least_56 rfl ?_
        refine lb_near_this0 K q78 dX1_least_57 ?_
        refine lb_gN_Nw K q145 dX1_least_60 ?_
        refine la_iload_n K dX1_least_63 rfl ?_
        refine la_callSNp K ok_X0_at q356 (lb_at (by omega) (by omega) _) rfl rfl rfl (Nat.le_of_ble_eq_true rfl) ⟨Nat.le_of_ble_eq_true rfl, Nat.le_of_ble_eq_true rfl⟩ ⟨Nat.zero_le _, Nat.zero_le _⟩ dX1_least_64 ?_
        refine la_iload_n K dX1_least_67 rfl ?_
        refine la_callVNp K ok_X0_distance q357 (lb_distance (by omega)) 0 rfl rfl rfl rfl rfl (Nat.le_of_ble_eq_true rfl) ⟨Nat.le_of_ble_eq_true rfl, Nat.le_of_ble_eq_true rfl⟩ ⟨Nat.zero_le _, Nat.zero_le _⟩ dX1_least_68 ?_
        refine la_aload_n0 K dX1_least_71 rfl ?_
        refine la_ifnonnull0 K dX1_least_72 ?_
        refine la_iconst K dX1_least_75 la_ki_0 ?_
        refine la_goto K 82 dX1_least_76 rfl ?_
        refine la_iaddN K dX1_least_82 ?_
        refine la_istore6 K dX1_least_83 rfl ?_
        refine la_iload K dX1_least_85 rfl ?_
        refine la_iload K dX1_least_87 rfl ?_
        refine la_icmp_geN K 97 dX1_least_89 rfl (by have := hd6 _ _ (hdg k (by omega)) hp; omega) (by have := hd6 _ _ (hdg l (by omega)) hp; omega) (fun h89 => ?_) (fun h89 => ?_)
        · refine la_iload_n K dX1_least_97 rfl ?_
          refine la_istore3 K dX1_least_98 rfl ?_
          refine la_iinc4 K dX1_least_99 (la_inc_N _) rfl ?_
          refine la_goto K 5 dX1_least_102 rfl ?_
          exact ih (k + 1) _ _ _ (by omega) (by omega) (by omega) (by rw [← hst, if_neg (by show ¬ (_ < _); omega)])
        · refine la_iload K dX1_least_92 rfl ?_
          refine la_goto K 98 dX1_least_94 rfl ?_
          refine la_istore3 K dX1_least_98 rfl ?_
          refine la_iinc4 K dX1_least_99 (la_inc_N _) rfl ?_
          refine la_goto K 5 dX1_least_102 rfl ?_
          exact ih (k + 1) _ _ _ (by omega) (by omega) (by omega) (by rw [← hst, if_pos (by show _ < _; omega)])
  refine la_iconst K dX1_least_0 la_ki_0 ?_
  refine la_istore3 K dX1_least_1 rfl ?_
  refine la_iconst K dX1_least_2 la_ki_1 ?_
  refine la_istore4 K dX1_least_3 rfl ?_
  exact lp (L + 1) 1 _ _ _ (by omega) (by omega) (by omega) (lp_ag_1 _).symm
set_option maxHeartbeats 4000000 in
theorem lb_leastS {p j0 : Nat} (hj0 : j0 < 4) (hP : P ≤ 6) (hL1 : 1 ≤ L) (hL3 : L ≤ 3) (hp : p < P) (hNw : Nw < 512) (hdg : ∀ k, k < L → lp_dg Nw k < P) (hd6 : ∀ a b, a < P → b < P → aw (6 * a + b) ≤ 1000000) (hw : ∀ k, k < L → su k ≤ 1000000) : la_CP ω yX1_least cX1_least 7 (some .int) (la_rm 1) [.ref (ad (21 + j0)), .int (nI p), (.ref (ad 5))] (lb_W ω.2.2 ad ((P, R, T, S, L, B, Nw, U, C, Kd), (fr, to, ln, aw), (su, ca, we, fa, sb, tb), (wk, nw, wo), (k0, k1, k2, k3, k4, k5), RE, BF, BK)) (nI (lp_ag (fun k => aw (6 * lp_dg Nw k + p) + su k) L)) := by
  refine la_CI_of (by decide) [some (.ref (ad (21 + j0))), some (.int (nI (p))), some (.ref (ad 5)), none, none, none, none] rfl rfl (Nat.le_of_ble_eq_true rfl) ?_
  intro κ K hret
  have lp : ∀ (j k : Nat) (l : Nat) (x5 x6 : Option Value), k ≤ L → L < k + j → 1 ≤ k → l = lp_ag (fun k => aw (6 * lp_dg Nw k + p) + su k) k → la_At ω κ (0, 0) 5 [some (.ref (ad (21 + j0))), some (.int (nI (p))), some (.ref (ad 5)), some (.int (nI (l))), some (.int (nI (k))), x5, x6] [] (lb_W ω.2.2 ad ((P, R, T, S, L, B, Nw, U, C, Kd), (fr, to, ln, aw), (su, ca, we, fa, sb, tb), (wk, nw, wo), (k0, k1, k2, k3, k4, k5), RE, BF, BK)) := by
    intro j
    induction j with
    | zero => intro k l x5 x6 h1 h2; omega
    | succ j ih =>
      intro k l x5 x6 h1 h2 hk1 hl
      refine la_iload K dX1_least_5 rfl ?_
      refine la_aload_n K dX1_least_7 rfl ?_
      refine lb_near_this0 K q78 dX1_least_8 ?_
      refine lb_gN_L K q136 dX1_least_11 ?_
      refine la_icmp_geN K 105 dX1_least_14 rfl (by omega) (by omega) (fun h14 => ?_) (fun h14 => ?_)
      · refine la_iload_n K dX1_least_105 rfl ?_
        exact hret _ _ _ () dX1_least_106 (by rw [hl, show k = L by omega])
      · have hlk : l < k := by rw [hl]; exact lp_ag_lt (by omega)
        have g1 := hdg k (by omega)
        have g2 := hdg l (by omega)
        have hst := lp_ag_step hl
        refine la_aload_n K dX1_least_17 rfl ?_
        refine lb_near_this0 K q78 dX1_least_18 ?_
        refine la_aload_n K dX1_least_21 rfl ?_
        refine lb_near_this0 K q78 dX1_least_22 ?_
        refine lb_gN_Nw K q145 dX1_least_25 ?_
        refine la_iload K dX1_least_28 rfl ?_
        refine la_callSNp K ok_X0_at q356 (lb_at (by omega) (by omega) _) rfl rfl rfl (Nat.le_of_ble_eq_true rfl) ⟨Nat.le_of_ble_eq_true rfl, Nat.le_of_ble_eq_true rfl⟩ ⟨Nat.zero_le _, Nat.zero_le _⟩ dX1_least_30 ?_
        refine la_iload_n K dX1_least_33 rfl ?_
        refine la_callVNp K ok_X0_distance q357 (lb_distance (by omega)) 0 rfl rfl rfl rfl rfl (Nat.le_of_ble_eq_true rfl) ⟨Nat.le_of_ble_eq_true rfl, Nat.le_of_ble_eq_true rfl⟩ ⟨Nat.zero_le _, Nat.zero_le _⟩ dX1_least_34 ?_
        refine la_aload_n K dX1_least_37 rfl ?_
        refine la_ifnonnull K 45 dX1_least_38 rfl ?_
        refine la_aload_n K dX1_least_45 rfl ?_
        refine la_iload K dX1_least_46 rfl ?_
        refine lb_ld_su K (by omega) dX1_least_48 ?_
        refine la_iaddN K dX1_least_49 ?_
        refine la_istore5 K dX1_least_50 rfl ?_
        refine la_aload_n K dX1_least_52 rfl ?_
        refine lb_near_this0 K q78 dX1_least_53 ?_
        refine la_aload_n K dX1_least_56 rfl ?_
        refine lb_near_this0 K q78 dX1_least_57 ?_
        refine lb_gN_Nw K q145 dX1_least_60 ?_
        refine la_iload_n K dX1_least_63 rfl ?_
        refine la_callSNp K ok_X0_at q356 (lb_at (by omega) (by omega) _) rfl rfl rfl (Nat.le_of_ble_eq_true rfl) ⟨Nat.le_of_ble_eq_true rfl, Nat.le_of_ble_eq_true rfl⟩ ⟨Nat.zero_le _, Nat.zero_le _⟩ dX1_least_64 ?_
        refine la_iload_n K dX1_least_67 rfl ?_
        refine la_callVNp K ok_X0_distance q357 (lb_distance (by omega)) 0 rfl rfl rfl rfl rfl (Nat.le_of_ble_eq_true rfl) ⟨Nat.le_of_ble_eq_true rfl, Nat.le_of_ble_eq_true rfl⟩ ⟨Nat.zero_le _, Nat.zero_le _⟩ dX1_least_68 ?_
        refine la_aload_n K dX1_least_71 rfl ?_
        refine la_ifnonnull K 79 dX1_least_72 rfl ?_
        refine la_aload_n K dX1_least_79 rfl ?_
        refine la_iload_n K dX1_least_80 rfl ?_
        refine lb_ld_su K (by omega) dX1_least_81 ?_
        refine la_iaddN K dX1_least_82 ?_
        refine la_istore6 K dX1_least_83 rfl ?_
        refine la_iload K dX1_least_85 rfl ?_
        refine la_iload K dX1_least_87 rfl ?_
        refine la_icmp_geN K 97 dX1_least_89 rfl (by have := hd6 _ _ (hdg k (by omega)) hp; have wk := hw k (by omega); omega) (by have := hd6 _ _ (hdg l (by omega)) hp; have wl := hw l (by omega); omega) (fun h89 => ?_) (fun h89 => ?_)
        · refine la_iload_n K dX1_least_97 rfl ?_
          refine la_istore3 K dX1_least_98 rfl ?_
          refine la_iinc4 K dX1_least_99 (la_inc_N _) rfl ?_
          refine la_goto K 5 dX1_least_102 rfl ?_
          exact ih (k + 1) _ _ _ (by omega) (by omega) (by omega) (by rw [← hst, if_neg (by show ¬ (_ < _); omega)])
        · refine la_iload K dX1_least_92 rfl ?_
          refine la_goto K 98 dX1_least_94 rfl ?_
          refine la_istore3 K dX1_least_98 rfl ?_
          refine la_iinc4 K dX1_least_99 (la_inc_N _) rfl ?_
          refine la_goto K 5 dX1_least_102 rfl ?_
          exact ih (k + 1) _ _ _ (by omega) (by omega) (by omega) (by rw [← hst, if_pos (by show _ < _; omega)])
  refine la_iconst K dX1_least_0 la_ki_0 ?_
  refine la_istore3 K dX1_least_1 rfl ?_
  refine la_iconst K dX1_least_2 la_ki_1 ?_
  refine la_istore4 K dX1_least_3 rfl ?_
  exact lp (L + 1) 1 _ _ _ (by omega) (by omega) (by omega) (lp_ag_1 _).symm
set_option maxHeartbeats 4000000 in
theorem lb_leastW {p j0 : Nat} (hj0 : j0 < 4) (hP : P ≤ 6) (hL1 : 1 ≤ L) (hL3 : L ≤ 3) (hp : p < P) (hNw : Nw < 512) (hdg : ∀ k, k < L → lp_dg Nw k < P) (hd6 : ∀ a b, a < P → b < P → aw (6 * a + b) ≤ 1000000) (hw : ∀ k, k < L → wo k ≤ 1000000) : la_CP ω yX1_least cX1_least 7 (some .int) (la_rm 1) [.ref (ad (21 + j0)), .int (nI p), (.ref (ad 19))] (lb_W ω.2.2 ad ((P, R, T, S, L, B, Nw, U, C, Kd), (fr, to, ln, aw), (su, ca, we, fa, sb, tb), (wk, nw, wo), (k0, k1, k2, k3, k4, k5), RE, BF, BK)) (nI (lp_ag (fun k => aw (6 * lp_dg Nw k + p) + wo k) L)) := by
  refine la_CI_of (by decide) [some (.ref (ad (21 + j0))), some (.int (nI (p))), some (.ref (ad 19)), none, none, none, none] rfl rfl (Nat.le_of_ble_eq_true rfl) ?_
  intro κ K hret
  have lp : ∀ (j k : Nat) (l : Nat) (x5 x6 : Option Value), k ≤ L → L < k + j → 1 ≤ k → l = lp_ag (fun k => aw (6 * lp_dg Nw k + p) + wo k) k → la_At ω κ (0, 0) 5 [some (.ref (ad (21 + j0))), some (.int (nI (p))), some (.ref (ad 19)), some (.int (nI (l))), some (.int (nI (k))), x5, x6] [] (lb_W ω.2.2 ad ((P, R, T, S, L, B, Nw, U, C, Kd), (fr, to, ln, aw), (su, ca, we, fa, sb, tb), (wk, nw, wo), (k0, k1, k2, k3, k4, k5), RE, BF, BK)) := by
    intro j
    induction j with
    | zero => intro k l x5 x6 h1 h2; omega
    | succ j ih =>
      intro k l x5 x6 h1 h2 hk1 hl
      refine la_iload K dX1_least_5 rfl ?_
      refine la_aload_n K dX1_least_7 rfl ?_
      refine lb_near_this0 K q78 dX1_least_8 ?_
      refine lb_gN_L K q136 dX1_least_11 ?_
      refine la_icmp_geN K 105 dX1_least_14 rfl (by omega) (by omega) (fun h14 => ?_) (fun h14 => ?_)
      · refine la_iload_n K dX1_least_105 rfl ?_
        exact hret _ _ _ () dX1_least_106 (by rw [hl, show k = L by omega])
      · have hlk : l < k := by rw [hl]; exact lp_ag_lt (by omega)
        have g1 := hdg k (by omega)
        have g2 := hdg l (by omega)
        have hst := lp_ag_step hl
        refine la_aload_n K dX1_least_17 rfl ?_
        refine lb_near_this0 K q78 dX1_least_18 ?_
        refine la_aload_n K dX1_least_21 rfl ?_
        refine lb_near_this0 K q78 dX1_least_22 ?_
        refine lb_gN_Nw K q145 dX1_least_25 ?_
        refine la_iload K dX1_least_28 rfl ?_
        refine la_callSNp K ok_X0_at q356 (lb_at (by omega) (by omega) _) rfl rfl rfl (Nat.le_of_ble_eq_true rfl) ⟨Nat.le_of_ble_eq_true rfl, Nat.le_of_ble_eq_true rfl⟩ ⟨Nat.zero_le _, Nat.zero_le _⟩ dX1_least_30 ?_
        refine la_iload_n K dX1_least_33 rfl ?_
        refine la_callVNp K ok_X0_distance q357 (lb_distance (by omega)) 0 rfl rfl rfl rfl rfl (Nat.le_of_ble_eq_true rfl) ⟨Nat.le_of_ble_eq_true rfl, Nat.le_of_ble_eq_true rfl⟩ ⟨Nat.zero_le _, Nat.zero_le _⟩ dX1_least_34 ?_
        refine la_aload_n K dX1_least_37 rfl ?_
        refine la_ifnonnull K 45 dX1_least_38 rfl ?_
        refine la_aload_n K dX1_least_45 rfl ?_
        refine la_iload K dX1_least_46 rfl ?_
        refine lb_ld_wo K (by omega) dX1_least_48 ?_
        refine la_iaddN K dX1_least_49 ?_
        refine la_istore5 K dX1_least_50 rfl ?_
        refine la_aload_n K dX1_least_52 rfl ?_
        refine lb_near_this0 K q78 dX1_least_53 ?_
        refine la_aload_n K dX1_least_56 rfl ?_
        refine lb_near_this0 K q78 dX1_least_57 ?_
        refine lb_gN_Nw K q145 dX1_least_60 ?_
        refine la_iload_n K dX1_least_63 rfl ?_
        refine la_callSNp K ok_X0_at q356 (lb_at (by omega) (by omega) _) rfl rfl rfl (Nat.le_of_ble_eq_true rfl) ⟨Nat.le_of_ble_eq_true rfl, Nat.le_of_ble_eq_true rfl⟩ ⟨Nat.zero_le _, Nat.zero_le _⟩ dX1_least_64 ?_
        refine la_iload_n K dX1_least_67 rfl ?_
        refine la_callVNp K ok_X0_distance q357 (lb_distance (by omega)) 0 rfl rfl rfl rfl rfl (Nat.le_of_ble_eq_true rfl) ⟨Nat.le_of_ble_eq_true rfl, Nat.le_of_ble_eq_true rfl⟩ ⟨Nat.zero_le _, Nat.zero_le _⟩ dX1_least_68 ?_
        refine la_aload_n K dX1_least_71 rfl ?_
        refine la_ifnonnull K 79 dX1_least_72 rfl ?_
        refine la_aload_n K dX1_least_79 rfl ?_
        refine la_iload_n K dX1_least_80 rfl ?_
        refine lb_ld_wo K (by omega) dX1_least_81 ?_
        refine la_iaddN K dX1_least_82 ?_
        refine la_istore6 K dX1_least_83 rfl ?_
        refine la_iload K dX1_least_85 rfl ?_
        refine la_iload K dX1_least_87 rfl ?_
        refine la_icmp_geN K 97 dX1_least_89 rfl (by have := hd6 _ _ (hdg k (by omega)) hp; have wk := hw k (by omega); omega) (by have := hd6 _ _ (hdg l (by omega)) hp; have wl := hw l (by omega); omega) (fun h89 => ?_) (fun h89 => ?_)
        · refine la_iload_n K dX1_least_97 rfl ?_
          refine la_istore3 K dX1_least_98 rfl ?_
          refine la_iinc4 K dX1_least_99 (la_inc_N _) rfl ?_
          refine la_goto K 5 dX1_least_102 rfl ?_
          exact ih (k + 1) _ _ _ (by omega) (by omega) (by omega) (by rw [← hst, if_neg (by show ¬ (_ < _); omega)])
        · refine la_iload K dX1_least_92 rfl ?_
          refine la_goto K 98 dX1_least_94 rfl ?_
          refine la_istore3 K dX1_least_98 rfl ?_
          refine la_iinc4 K dX1_least_99 (la_inc_N _) rfl ?_
          refine la_goto K 5 dX1_least_102 rfl ?_
          exact ih (k + 1) _ _ _ (by omega) (by omega) (by omega) (by rw [← hst, if_pos (by show _ < _; omega)])
  refine la_iconst K dX1_least_0 la_ki_0 ?_
  refine la_istore3 K dX1_least_1 rfl ?_
  refine la_iconst K dX1_least_2 la_ki_1 ?_
  refine la_istore4 K dX1_least_3 rfl ?_
  exact lp (L + 1) 1 _ _ _ (by omega) (by omega) (by omega) (lp_ag_1 _).symm
end LC7
