/-! THE COMPONENT's METHODS, part 8: nearest, went. Printed by c8.py. -/
section LC8
variable {ω : la_O} {ad : Nat → Nat} {S : Int32} {T : Int64} {P R L B Nw U C Kd : Nat} {fr to ln aw su ca we fa sb tb wk nw wo k0 k1 k2 k3 k4 k5 : Nat → Nat} {RE : Nat → Nat → Nat} {BF : Nat → Option Nat} {BK : va_W}
theorem lb_r_leastN {κ : la_K} {cc : ByteArray} {nL : Nat} {own : String} {R0 : Room} {n : Nat × Nat} {pc i : Nat} {lv : List (Option Value)} {st : List Value} (K : la_Cx ω κ cc nL own R0) {p j : Nat} (hj : j < 4) (hP : P ≤ 6) (hL1 : 1 ≤ L) (hL3 : L ≤ 3) (hp : p < P) (hNw : Nw < 512) (hdg : ∀ k, k < L → lp_dg Nw k < P) (hd6 : ∀ a b, a < P → b < P → aw (6 * a + b) ≤ 1000000) (hlink : Cond.methodLink own i ⟨"LadderCalls$Near", "least", "(I[I)I"⟩ ∈ lw_all) (hlv : lv.length = nL) (hw : (st.map fun v => v.category).sum ≤ 8) (hR : (la_rm 1).frames + 1 ≤ R0.frames ∧ 8 + (7 + 11) + (la_rm 1).locals ≤ R0.locals) (hf : n.1 ≤ R0.cells ∧ n.2 ≤ R0.slots) (hd : decode cc pc = .ok (.invokevirtual i, 3)) (kk : la_At ω κ n (pc + 3) lv (.int (nI (lp_ag (fun k => aw (6 * lp_dg Nw k + p) + 0) L)) :: st) (lb_W ω.2.2 ad ((P, R, T, S, L, B, Nw, U, C, Kd), (fr, to, ln, aw), (su, ca, we, fa, sb, tb), (wk, nw, wo), (k0, k1, k2, k3, k4, k5), RE, BF, BK))) : la_At ω κ n pc lv (.null :: .int (nI p) :: .ref (ad (21 + j)) :: st) (lb_W ω.2.2 ad ((P, R, T, S, L, B, Nw, U, C, Kd), (fr, to, ln, aw), (su, ca, we, fa, sb, tb), (wk, nw, wo), (k0, k1, k2, k3, k4, k5), RE, BF, BK)) := by
  have h4 : j = 0 ∨ j = 1 ∨ j = 2 ∨ j = 3 := by omega
  rcases h4 with rfl | rfl | rfl | rfl
  · exact la_callOp K oo_least_0 hlink (As := [.int (nI p), .null]) (lb_leastN (j0 := 0) (by omega) hP hL1 hL3 hp hNw hdg hd6) 21 rfl rfl rfl hlv rfl hw hR hf hd kk
  · exact la_callOp K oo_least_1 hlink (As := [.int (nI p), .null]) (lb_leastN (j0 := 1) (by omega) hP hL1 hL3 hp hNw hdg hd6) 22 rfl rfl rfl hlv rfl hw hR hf hd kk
  · exact la_callOp K oo_least_2 hlink (As := [.int (nI p), .null]) (lb_leastN (j0 := 2) (by omega) hP hL1 hL3 hp hNw hdg hd6) 23 rfl rfl rfl hlv rfl hw hR hf hd kk
  · exact la_callOp K oo_least_3 hlink (As := [.int (nI p), .null]) (lb_leastN (j0 := 3) (by omega) hP hL1 hL3 hp hNw hdg hd6) 24 rfl rfl rfl hlv rfl hw hR hf hd kk
set_option maxHeartbeats 4000000 in
theorem lb_nearest {p j0 : Nat} (hj0 : j0 < 4) (hP : P ≤ 6) (hL1 : 1 ≤ L) (hL3 : L ≤ 3) (hp : p < P) (hNw : Nw < 512) (hdg : ∀ k, k < L → lp_dg Nw k < P) (hd6 : ∀ a b, a < P → b < P → aw (6 * a + b) ≤ 1000000) : la_CI ω yX1_nearest cX1_nearest 2 (some .int) (la_rm 2) [.ref (ad (21 + j0)), .int (nI p)] (lb_W ω.2.2 ad ((P, R, T, S, L, B, Nw, U, C, Kd), (fr, to, ln, aw), (su, ca, we, fa, sb, tb), (wk, nw, wo), (k0, k1, k2, k3, k4, k5), RE, BF, BK)) (lb_W ω.2.2 ad) (fun (r : Int32) (u : lb_S) => r = nI (lp_ag (fun k => aw (6 * lp_dg Nw k + p) + 0) L) ∧ u = ((P, R, T + lN 1, S, L, B, Nw, U, C, Kd), (fr, to, ln, aw), (su, ca, we, fa, sb, tb), (wk, nw, wo), (k0, k1, k2, k3, k4, k5), RE, BF, BK)) := by
  refine la_CI_of (by decide) [some (.ref (ad (21 + j0))), some (.int (nI (p)))] rfl rfl (Nat.le_of_ble_eq_true rfl) ?_
  intro κ K hret
  refine la_aload_n K dX1_nearest_0 rfl ?_
  refine lb_near_this0 K q78 dX1_nearest_1 ?_
  refine la_dup K dX1_nearest_4 rfl ?_
  refine lb_gN_T K q133 dX1_nearest_5 ?_
  refine la_lconst K dX1_nearest_8 la_kn_1 ?_
  refine la_ladd K dX1_nearest_9 ?_
  refine lb_pN_T K q133 dX1_nearest_10 ?_
  refine la_aload_n K dX1_nearest_13 rfl ?_
  refine la_iload_n K dX1_nearest_14 rfl ?_
  refine la_null K dX1_nearest_15 ?_
  refine lb_r_leastN K hj0 hP hL1 hL3 hp hNw hdg hd6 q348 rfl (Nat.le_of_ble_eq_true rfl) ⟨Nat.le_of_ble_eq_true rfl, Nat.le_of_ble_eq_true rfl⟩ ⟨Nat.zero_le _, Nat.zero_le _⟩ dX1_nearest_16 ?_
  exact hret _ _ _ _ dX1_nearest_19 ⟨rfl, rfl⟩
theorem lb_r_nearest {κ : la_K} {cc : ByteArray} {nL : Nat} {own : String} {R0 : Room} {n : Nat × Nat} {pc i : Nat} {lv : List (Option Value)} {st : List Value} (K : la_Cx ω κ cc nL own R0) {p j : Nat} (hj : j < 4) (hP : P ≤ 6) (hL1 : 1 ≤ L) (hL3 : L ≤ 3) (hp : p < P) (hNw : Nw < 512) (hdg : ∀ k, k < L → lp_dg Nw k < P) (hd6 : ∀ a b, a < P → b < P → aw (6 * a + b) ≤ 1000000) (hlink : Cond.methodLink own i ⟨"LadderCalls$Near", "nearest", "(I)I"⟩ ∈ lw_all) (hlv : lv.length = nL) (hw : (st.map fun v => v.category).sum ≤ 8) (hR : (la_rm 2).frames + 1 ≤ R0.frames ∧ 8 + (2 + 11) + (la_rm 2).locals ≤ R0.locals) (hf : n.1 ≤ R0.cells ∧ n.2 ≤ R0.slots) (hd : decode cc pc = .ok (.invokevirtual i, 3)) (kk : la_At ω κ n (pc + 3) lv (.int (nI (lp_ag (fun k => aw (6 * lp_dg Nw k + p) + 0) L)) :: st) (lb_W ω.2.2 ad ((P, R, T + lN 1, S, L, B, Nw, U, C, Kd), (fr, to, ln, aw), (su, ca, we, fa, sb, tb), (wk, nw, wo), (k0, k1, k2, k3, k4, k5), RE, BF, BK))) : la_At ω κ n pc lv (.int (nI p) :: .ref (ad (21 + j)) :: st) (lb_W ω.2.2 ad ((P, R, T, S, L, B, Nw, U, C, Kd), (fr, to, ln, aw), (su, ca, we, fa, sb, tb), (wk, nw, wo), (k0, k1, k2, k3, k4, k5), RE, BF, BK)) := by
  have h4 : j = 0 ∨ j = 1 ∨ j = 2 ∨ j = 3 := by omega
  rcases h4 with rfl | rfl | rfl | rfl
  · exact la_callOi0 K oo_nearest_0 hlink (As := [.int (nI p)]) (lb_nearest (j0 := 0) (by omega) hP hL1 hL3 hp hNw hdg hd6) 21 rfl rfl rfl hlv rfl hw hR hf hd (fun r u h => by obtain ⟨rfl, rfl⟩ := h; exact kk)
  · exact la_callOi0 K oo_nearest_1 hlink (As := [.int (nI p)]) (lb_nearest (j0 := 1) (by omega) hP hL1 hL3 hp hNw hdg hd6) 22 rfl rfl rfl hlv rfl hw hR hf hd (fun r u h => by obtain ⟨rfl, rfl⟩ := h; exact kk)
  · exact la_callOi0 K oo_nearest_2 hlink (As := [.int (nI p)]) (lb_nearest (j0 := 2) (by omega) hP hL1 hL3 hp hNw hdg hd6) 23 rfl rfl rfl hlv rfl hw hR hf hd (fun r u h => by obtain ⟨rfl, rfl⟩ := h; exact kk)
  · exact la_callOi0 K oo_nearest_3 hlink (As := [.int (nI p)]) (lb_nearest (j0 := 3) (by omega) hP hL1 hL3 hp hNw hdg hd6) 24 rfl rfl rfl hlv rfl hw hR hf hd (fun r u h => by obtain ⟨rfl, rfl⟩ := h; exact kk)
set_option maxHeartbeats 4000000 in
theorem lb_sends0 {p j0 : Nat} (hj0 : j0 < 4) (hP : P ≤ 6) (hL1 : 1 ≤ L) (hL3 : L ≤ 3) (hp : p < P) (hNw : Nw < 512) (hdg : ∀ k, k < L → lp_dg Nw k < P) (hd6 : ∀ a b, a < P → b < P → aw (6 * a + b) ≤ 1000000) : la_CI ω yX1_sends cX1_sends 2 (some .int) (la_rm 3) [.ref (ad (21 + j0)), .int (nI p)] (lb_W ω.2.2 ad ((P, R, T, S, L, B, Nw, U, C, Kd), (fr, to, ln, aw), (su, ca, we, fa, sb, tb), (wk, nw, wo), (k0, k1, k2, k3, k4, k5), RE, BF, BK)) (lb_W ω.2.2 ad) (fun (r : Int32) (u : lb_S) => r = nI (lp_ag (fun k => aw (6 * lp_dg Nw k + p) + 0) L) ∧ u = ((P, R, T + lN 1, S, L, B, Nw, U, C, Kd), (fr, to, ln, aw), (su, ca, we, fa, sb, tb), (wk, nw, wo), (k0, k1, k2, k3, k4, k5), RE, BF, BK)) := by
  refine la_CI_of (by decide) [some (.ref (ad (21 + j0))), some (.int (nI (p)))] rfl rfl (Nat.le_of_ble_eq_true rfl) ?_
  intro κ K hret
  refine la_aload_n K dX1_sends_0 rfl ?_
  refine la_iload_n K dX1_sends_1 rfl ?_
  refine lb_r_nearest K hj0 hP hL1 hL3 hp hNw hdg hd6 q366 rfl (Nat.le_of_ble_eq_true rfl) ⟨Nat.le_of_ble_eq_true rfl, Nat.le_of_ble_eq_true rfl⟩ ⟨Nat.zero_le _, Nat.zero_le _⟩ dX1_sends_2 ?_
  exact hret _ _ _ _ dX1_sends_5 ⟨rfl, rfl⟩
theorem lb_went0 {a l z : Nat} : la_CV ω yX1_went cX1_went 3 none (la_rm 0) [.ref a, .int (nI l), .int (nI z)] (lb_W ω.2.2 ad ((P, R, T, S, L, B, Nw, U, C, Kd), (fr, to, ln, aw), (su, ca, we, fa, sb, tb), (wk, nw, wo), (k0, k1, k2, k3, k4, k5), RE, BF, BK)) (lb_W ω.2.2 ad) (fun u : lb_S => u = ((P, R, T, S, L, B, Nw, U, C, Kd), (fr, to, ln, aw), (su, ca, we, fa, sb, tb), (wk, nw, wo), (k0, k1, k2, k3, k4, k5), RE, BF, BK)) := by
  refine la_CV_of (by decide) [some (.ref a), some (.int (nI (l))), some (.int (nI (z)))] rfl rfl (Nat.le_of_ble_eq_true rfl) ?_
  intro κ K hret
  exact hret _ _ _ dX1_went_0 rfl
set_option maxHeartbeats 4000000 in
theorem lb_went2 {l : Nat} {q : Prop} (hL1 : 1 ≤ L) (hL3 : L ≤ 3) (hl : l < L) : la_CV ω yX3_went cX3_went 3 none (la_rm 0) [.ref (ad 23), .int (nI l), .int (nI (lp_b q))] (lb_W ω.2.2 ad ((P, R, T, S, L, B, Nw, U, C, Kd), (fr, to, ln, aw), (su, ca, we, fa, sb, tb), (wk, nw, wo), (k0, k1, k2, k3, k4, k5), RE, BF, BK)) (lb_W ω.2.2 ad) (fun u : lb_S => u = ((P, R, T, S, L, B, Nw, (if lp_b q = 1 then U else (l + 1) % L), C, Kd), (fr, to, ln, aw), (su, ca, we, fa, sb, tb), (wk, nw, wo), (k0, k1, k2, k3, k4, k5), RE, BF, BK)) := by
  refine la_CV_of (by decide) [some (.ref (ad 23)), some (.int (nI (l))), some (.int (nI (lp_b q)))] rfl rfl (Nat.le_of_ble_eq_true rfl) ?_
  intro κ K hret
  refine la_aload_n K dX3_went_0 rfl ?_
  refine lb_turn_this0 K q100 dX3_went_1 ?_
  refine la_iload_n K dX3_went_4 rfl ?_
  refine la_if_eqB K 18 dX3_went_5 rfl (fun h5 => ?_) (fun h5 => ?_)
  · refine la_iload_n K dX3_went_18 rfl ?_
    refine la_iconst K dX3_went_19 la_ki_1 ?_
    refine la_iaddN K dX3_went_20 ?_
    refine la_aload_n K dX3_went_21 rfl ?_
    refine lb_turn_this0 K q100 dX3_went_22 ?_
    refine lb_gN_L K q139 dX3_went_25 ?_
    refine la_iremN K dX3_went_28 (by omega) (by omega) (by omega) ?_
    refine lb_pN_U K q149 dX3_went_29 ?_
    exact hret _ _ _ dX3_went_32 (by rw [lp_b_f h5]; rfl)
  · refine la_aload_n K dX3_went_8 rfl ?_
    refine lb_turn_this0 K q100 dX3_went_9 ?_
    refine lb_gN_U K q149 dX3_went_12 ?_
    refine la_goto K 29 dX3_went_15 rfl ?_
    refine lb_pN_U K q149 dX3_went_29 ?_
    exact hret _ _ _ dX3_went_32 (by rw [lp_b_t h5]; rfl)
end LC8
