/-! THE COMPONENT's METHODS, part 12: sends of all rules. Printed by c12.py. -/
section LC12
variable {ω : la_O} {ad : Nat → Nat} {S : Int32} {T : Int64} {P R L B Nw U C Kd : Nat} {fr to ln aw su ca we fa sb tb wk nw wo k0 k1 k2 k3 k4 k5 : Nat → Nat} {RE : Nat → Nat → Nat} {BF : Nat → Option Nat} {BK : va_W}
theorem lb_r_hasNear {κ : la_K} {cc : ByteArray} {nL : Nat} {R0 : Room} {n : Nat × Nat} {pc : Nat} {lv : List (Option Value)} {st : List Value} (K : la_Cx ω κ cc nL "LadderCalls" R0) {p j : Nat} (hj : j < 4) (hL3 : L ≤ 3) (hp : p < 8) (hNw : Nw < 512) (hlv : lv.length = nL) (hw : (st.map fun v => v.category).sum ≤ 8) (hR : (la_rm 0).frames + 1 ≤ R0.frames ∧ 8 + (6 + 11) + (la_rm 0).locals ≤ R0.locals) (hf : n.1 ≤ R0.cells ∧ n.2 ≤ R0.slots) (hd : decode cc pc = .ok (.invokevirtual 200, 3)) (kk : la_At ω κ n (pc + 3) lv (.int (nI (lp_b (lp_there L (fun k => lp_dg Nw k) p))) :: st) (lb_W ω.2.2 ad ((P, R, T, S, L, B, Nw, U, C, Kd), (fr, to, ln, aw), (su, ca, we, fa, sb, tb), (wk, nw, wo), (k0, k1, k2, k3, k4, k5), RE, BF, BK))) : la_At ω κ n pc lv (.int (nI p) :: .int (nI L) :: .int (nI Nw) :: .ref (ad (21 + j)) :: st) (lb_W ω.2.2 ad ((P, R, T, S, L, B, Nw, U, C, Kd), (fr, to, ln, aw), (su, ca, we, fa, sb, tb), (wk, nw, wo), (k0, k1, k2, k3, k4, k5), RE, BF, BK)) := by
  have h4 : j = 0 ∨ j = 1 ∨ j = 2 ∨ j = 3 := by omega
  rcases h4 with rfl | rfl | rfl | rfl
  · exact lt_atP K (lb_has hNw hL3 hp) (by decide) (ld_codeH K) (ld_invV K (As := [.int (nI Nw), .int (nI L), .int (nI p)]) 21 rfl rfl ld_lk_Near ld_sm_Near ld_in_Near_0 rfl hd) hd hlv hw hR hf kk
  · exact lt_atP K (lb_has hNw hL3 hp) (by decide) (ld_codeH K) (ld_invV K (As := [.int (nI Nw), .int (nI L), .int (nI p)]) 22 rfl rfl ld_lk_Near ld_sm_Near ld_in_Near_1 rfl hd) hd hlv hw hR hf kk
  · exact lt_atP K (lb_has hNw hL3 hp) (by decide) (ld_codeH K) (ld_invV K (As := [.int (nI Nw), .int (nI L), .int (nI p)]) 23 rfl rfl ld_lk_Near ld_sm_Near ld_in_Near_2 rfl hd) hd hlv hw hR hf kk
  · exact lt_atP K (lb_has hNw hL3 hp) (by decide) (ld_codeH K) (ld_invV K (As := [.int (nI Nw), .int (nI L), .int (nI p)]) 24 rfl rfl ld_lk_Near ld_sm_Near ld_in_Near_3 rfl hd) hd hlv hw hR hf kk
theorem lb_r_hasEven {κ : la_K} {cc : ByteArray} {nL : Nat} {R0 : Room} {n : Nat × Nat} {pc : Nat} {lv : List (Option Value)} {st : List Value} (K : la_Cx ω κ cc nL "LadderCalls$Even" R0) {p j : Nat} (hj : j = 1 ∨ j = 3) (hL3 : L ≤ 3) (hp : p < 8) (hNw : Nw < 512) (hlv : lv.length = nL) (hw : (st.map fun v => v.category).sum ≤ 8) (hR : (la_rm 0).frames + 1 ≤ R0.frames ∧ 8 + (6 + 11) + (la_rm 0).locals ≤ R0.locals) (hf : n.1 ≤ R0.cells ∧ n.2 ≤ R0.slots) (hd : decode cc pc = .ok (.invokevirtual 28, 3)) (kk : la_At ω κ n (pc + 3) lv (.int (nI (lp_b (lp_there L (fun k => lp_dg Nw k) p))) :: st) (lb_W ω.2.2 ad ((P, R, T, S, L, B, Nw, U, C, Kd), (fr, to, ln, aw), (su, ca, we, fa, sb, tb), (wk, nw, wo), (k0, k1, k2, k3, k4, k5), RE, BF, BK))) : la_At ω κ n pc lv (.int (nI p) :: .int (nI L) :: .int (nI Nw) :: .ref (ad (21 + j)) :: st) (lb_W ω.2.2 ad ((P, R, T, S, L, B, Nw, U, C, Kd), (fr, to, ln, aw), (su, ca, we, fa, sb, tb), (wk, nw, wo), (k0, k1, k2, k3, k4, k5), RE, BF, BK)) := by
  have h4 : j = 1 ∨ j = 3 := by omega
  rcases h4 with rfl | rfl
  · exact lt_atP K (lb_has hNw hL3 hp) (by decide) (ld_codeH K) (ld_invV K (As := [.int (nI Nw), .int (nI L), .int (nI p)]) 22 rfl rfl ld_lk_Even ld_sm_Even ld_in_Even_1 rfl hd) hd hlv hw hR hf kk
  · exact lt_atP K (lb_has hNw hL3 hp) (by decide) (ld_codeH K) (ld_invV K (As := [.int (nI Nw), .int (nI L), .int (nI p)]) 24 rfl rfl ld_lk_Even ld_sm_Even ld_in_Even_3 rfl hd) hd hlv hw hR hf kk
theorem lb_r_hasTurn {κ : la_K} {cc : ByteArray} {nL : Nat} {R0 : Room} {n : Nat × Nat} {pc : Nat} {lv : List (Option Value)} {st : List Value} (K : la_Cx ω κ cc nL "LadderCalls$Turn" R0) {p j : Nat} (hj : j = 2) (hL3 : L ≤ 3) (hp : p < 8) (hNw : Nw < 512) (hlv : lv.length = nL) (hw : (st.map fun v => v.category).sum ≤ 8) (hR : (la_rm 0).frames + 1 ≤ R0.frames ∧ 8 + (6 + 11) + (la_rm 0).locals ≤ R0.locals) (hf : n.1 ≤ R0.cells ∧ n.2 ≤ R0.slots) (hd : decode cc pc = .ok (.invokevirtual 28, 3)) (kk : la_At ω κ n (pc + 3) lv (.int (nI (lp_b (lp_there L (fun k => lp_dg Nw k) p))) :: st) (lb_W ω.2.2 ad ((P, R, T, S, L, B, Nw, U, C, Kd), (fr, to, ln, aw), (su, ca, we, fa, sb, tb), (wk, nw, wo), (k0, k1, k2, k3, k4, k5), RE, BF, BK))) : la_At ω κ n pc lv (.int (nI p) :: .int (nI L) :: .int (nI Nw) :: .ref (ad (21 + j)) :: st) (lb_W ω.2.2 ad ((P, R, T, S, L, B, Nw, U, C, Kd), (fr, to, ln, aw), (su, ca, we, fa, sb, tb), (wk, nw, wo), (k0, k1, k2, k3, k4, k5), RE, BF, BK)) := by
  have h4 : j = 2 := by omega
  rcases h4 with rfl
  · exact lt_atP K (lb_has hNw hL3 hp) (by decide) (ld_codeH K) (ld_invV K (As := [.int (nI Nw), .int (nI L), .int (nI p)]) 23 rfl rfl ld_lk_Turn ld_sm_Turn ld_in_Turn_2 rfl hd) hd hlv hw hR hf kk
theorem lb_r_hasAhead {κ : la_K} {cc : ByteArray} {nL : Nat} {R0 : Room} {n : Nat × Nat} {pc : Nat} {lv : List (Option Value)} {st : List Value} (K : la_Cx ω κ cc nL "LadderCalls$Ahead" R0) {p j : Nat} (hj : j = 3) (hL3 : L ≤ 3) (hp : p < 8) (hNw : Nw < 512) (hlv : lv.length = nL) (hw : (st.map fun v => v.category).sum ≤ 8) (hR : (la_rm 0).frames + 1 ≤ R0.frames ∧ 8 + (6 + 11) + (la_rm 0).locals ≤ R0.locals) (hf : n.1 ≤ R0.cells ∧ n.2 ≤ R0.slots) (hd : decode cc pc = .ok (.invokevirtual 32, 3)) (kk : la_At ω κ n (pc + 3) lv (.int (nI (lp_b (lp_there L (fun k => lp_dg Nw k) p))) :: st) (lb_W ω.2.2 ad ((P, R, T, S, L, B, Nw, U, C, Kd), (fr, to, ln, aw), (su, ca, we, fa, sb, tb), (wk, nw, wo), (k0, k1, k2, k3, k4, k5), RE, BF, BK))) : la_At ω κ n pc lv (.int (nI p) :: .int (nI L) :: .int (nI Nw) :: .ref (ad (21 + j)) :: st) (lb_W ω.2.2 ad ((P, R, T, S, L, B, Nw, U, C, Kd), (fr, to, ln, aw), (su, ca, we, fa, sb, tb), (wk, nw, wo), (k0, k1, k2, k3, k4, k5), RE, BF, BK)) := by
  have h4 : j = 3 := by omega
  rcases h4 with rfl
  · exact lt_atP K (lb_has hNw hL3 hp) (by decide) (ld_codeH K) (ld_invV K (As := [.int (nI Nw), .int (nI L), .int (nI p)]) 24 rfl rfl ld_lk_Ahead ld_sm_Ahead ld_in_Ahead_3 rfl hd) hd hlv hw hR hf kk
theorem lb_r_hasSends {κ : la_K} {cc : ByteArray} {nL : Nat} {R0 : Room} {n : Nat × Nat} {pc : Nat} {lv : List (Option Value)} {st : List Value} (K : la_Cx ω κ cc nL "LadderCalls" R0) {p j : Nat} (hj : j < 4) (hL3 : L ≤ 3) (hp : p < 8) (hNw : Nw < 512) (hlv : lv.length = nL) (hw : (st.map fun v => v.category).sum ≤ 8) (hR : (la_rm 0).frames + 1 ≤ R0.frames ∧ 8 + (6 + 11) + (la_rm 0).locals ≤ R0.locals) (hf : n.1 ≤ R0.cells ∧ n.2 ≤ R0.slots) (hd : decode cc pc = .ok (.invokeinterface 188 4, 5)) (kk : la_At ω κ n (pc + 5) lv (.int (nI (lp_b (lp_there L (fun k => lp_dg Nw k) p))) :: st) (lb_W ω.2.2 ad ((P, R, T, S, L, B, Nw, U, C, Kd), (fr, to, ln, aw), (su, ca, we, fa, sb, tb), (wk, nw, wo), (k0, k1, k2, k3, k4, k5), RE, BF, BK))) : la_At ω κ n pc lv (.int (nI p) :: .int (nI L) :: .int (nI Nw) :: .ref (ad (21 + j)) :: st) (lb_W ω.2.2 ad ((P, R, T, S, L, B, Nw, U, C, Kd), (fr, to, ln, aw), (su, ca, we, fa, sb, tb), (wk, nw, wo), (k0, k1, k2, k3, k4, k5), RE, BF, BK)) := by
  have h4 : j = 0 ∨ j = 1 ∨ j = 2 ∨ j = 3 := by omega
  rcases h4 with rfl | rfl | rfl | rfl
  · exact lt_atP K (lb_has hNw hL3 hp) (by decide) (ld_codeH K) (ld_invF K (As := [.int (nI Nw), .int (nI L), .int (nI p)]) 21 rfl rfl q412 q398 ld_in_Sends_0 rfl hd) hd hlv hw hR hf kk
  · exact lt_atP K (lb_has hNw hL3 hp) (by decide) (ld_codeH K) (ld_invF K (As := [.int (nI Nw), .int (nI L), .int (nI p)]) 22 rfl rfl q412 q394 ld_in_Sends_1 rfl hd) hd hlv hw hR hf kk
  · exact lt_atP K (lb_has hNw hL3 hp) (by decide) (ld_codeH K) (ld_invF K (As := [.int (nI Nw), .int (nI L), .int (nI p)]) 23 rfl rfl q412 q402 ld_in_Sends_2 rfl hd) hd hlv hw hR hf kk
  · exact lt_atP K (lb_has hNw hL3 hp) (by decide) (ld_codeH K) (ld_invF K (As := [.int (nI Nw), .int (nI L), .int (nI p)]) 24 rfl rfl q412 q330 ld_in_Sends_3 rfl hd) hd hlv hw hR hf kk
theorem lb_r_superE {κ : la_K} {cc : ByteArray} {nL : Nat} {R0 : Room} {n : Nat × Nat} {pc i : Nat} {lv : List (Option Value)} {st : List Value} (K : la_Cx ω κ cc nL "LadderCalls$Even" R0) {p j : Nat} (hj : j = 1 ∨ j = 3) (hP : P ≤ 6) (hL1 : 1 ≤ L) (hL3 : L ≤ 3) (hp : p < P) (hNw : Nw < 512) (hdg : ∀ k, k < L → lp_dg Nw k < P) (hd6 : ∀ a b, a < P → b < P → aw (6 * a + b) ≤ 1000000) (hlink : Cond.methodLink "LadderCalls$Even" i ⟨"LadderCalls$Near", "sends", "(I)I"⟩ ∈ lw_all) (hlv : lv.length = nL) (hw : (st.map fun v => v.category).sum ≤ 8) (hR : (la_rm 3).frames + 1 ≤ R0.frames ∧ 8 + (2 + 11) + (la_rm 3).locals ≤ R0.locals) (hf : n.1 ≤ R0.cells ∧ n.2 ≤ R0.slots) (hd : decode cc pc = .ok (.invokespecial i, 3)) (kk : la_At ω κ n (pc + 3) lv (.int (nI (lp_ag (fun k => aw (6 * lp_dg Nw k + p) + 0) L)) :: st) (lb_W ω.2.2 ad ((P, R, T + lN 1, S, L, B, Nw, U, C, Kd), (fr, to, ln, aw), (su, ca, we, fa, sb, tb), (wk, nw, wo), (k0, k1, k2, k3, k4, k5), RE, BF, BK))) : la_At ω κ n pc lv (.int (nI p) :: .ref (ad (21 + j)) :: st) (lb_W ω.2.2 ad ((P, R, T, S, L, B, Nw, U, C, Kd), (fr, to, ln, aw), (su, ca, we, fa, sb, tb), (wk, nw, wo), (k0, k1, k2, k3, k4, k5), RE, BF, BK)) := by
  rcases hj with rfl | rfl
  · exact la_callUi0 K ou_Even_sends hlink (As := [.int (nI p)]) (lb_sends0 (j0 := 1) (by omega) hP hL1 hL3 hp hNw hdg hd6) 22 rfl rfl rfl hlv rfl hw hR hf hd (fun r u h => by obtain ⟨rfl, rfl⟩ := h; exact kk)
  · exact la_callUi0 K ou_Even_sends hlink (As := [.int (nI p)]) (lb_sends0 (j0 := 3) (by omega) hP hL1 hL3 hp hNw hdg hd6) 24 rfl rfl rfl hlv rfl hw hR hf hd (fun r u h => by obtain ⟨rfl, rfl⟩ := h; exact kk)
theorem lb_r_leastE {κ : la_K} {cc : ByteArray} {nL : Nat} {own : String} {R0 : Room} {n : Nat × Nat} {pc i : Nat} {lv : List (Option Value)} {st : List Value} (K : la_Cx ω κ cc nL own R0) {p j : Nat} (hj : j = 1 ∨ j = 3) (hP : P ≤ 6) (hL1 : 1 ≤ L) (hL3 : L ≤ 3) (hp : p < P) (hNw : Nw < 512) (hdg : ∀ k, k < L → lp_dg Nw k < P) (hd6 : ∀ a b, a < P → b < P → aw (6 * a + b) ≤ 1000000) (hsu : ∀ k, k < L → su k ≤ 1000000) (hlink : Cond.methodLink own i ⟨"LadderCalls$Even", "least", "(I[I)I"⟩ ∈ lw_all) (hlv : lv.length = nL) (hw : (st.map fun v => v.category).sum ≤ 8) (hR : (la_rm 1).frames + 1 ≤ R0.frames ∧ 8 + (7 + 11) + (la_rm 1).locals ≤ R0.locals) (hf : n.1 ≤ R0.cells ∧ n.2 ≤ R0.slots) (hd : decode cc pc = .ok (.invokevirtual i, 3)) (kk : la_At ω κ n (pc + 3) lv (.int (nI (lp_ag (fun k => aw (6 * lp_dg Nw k + p) + su k) L)) :: st) (lb_W ω.2.2 ad ((P, R, T, S, L, B, Nw, U, C, Kd), (fr, to, ln, aw), (su, ca, we, fa, sb, tb), (wk, nw, wo), (k0, k1, k2, k3, k4, k5), RE, BF, BK))) : la_At ω κ n pc lv (.ref (ad 5) :: .int (nI p) :: .ref (ad (21 + j)) :: st) (lb_W ω.2.2 ad ((P, R, T, S, L, B, Nw, U, C, Kd), (fr, to, ln, aw), (su, ca, we, fa, sb, tb), (wk, nw, wo), (k0, k1, k2, k3, k4, k5), RE, BF, BK)) := by
  rcases hj with rfl | rfl
  · exact la_callOp K oo_Even_least_1 hlink (As := [.int (nI p), .ref (ad 5)]) (lb_leastS (j0 := 1) (by omega) hP hL1 hL3 hp hNw hdg hd6 hsu) 22 rfl rfl rfl hlv rfl hw hR hf hd kk
  · exact la_callOp K oo_Even_least_3 hlink (As := [.int (nI p), .ref (ad 5)]) (lb_leastS (j0 := 3) (by omega) hP hL1 hL3 hp hNw hdg hd6 hsu) 24 rfl rfl rfl hlv rfl hw hR hf hd kk
set_option maxHeartbeats 4000000 in
theorem lb_sends1 {p j0 : Nat} (hj0 : j0 = 1 ∨ j0 = 3) (hP : P ≤ 6) (hL1 : 1 ≤ L) (hL3 : L ≤ 3) (hp : p < P) (hNw : Nw < 512) (hdg : ∀ k, k < L → lp_dg Nw k < P) (hd6 : ∀ a b, a < P → b < P → aw (6 * a + b) ≤ 1000000) (hsu : ∀ k, k < L → su k ≤ 1000000) : la_CI ω yX2_sends cX2_sends 2 (some .int) (la_rm 4) [.ref (ad (21 + j0)), .int (nI p)] (lb_W ω.2.2 ad ((P, R, T, S, L, B, Nw, U, C, Kd), (fr, to, ln, aw), (su, ca, we, fa, sb, tb), (wk, nw, wo), (k0, k1, k2, k3, k4, k5), RE, BF, BK)) (lb_W ω.2.2 ad) (fun (r : Int32) (u : lb_S) => r = nI (@ite _ (lp_there L (fun k => lp_dg Nw k) p) (Classical.propDecidable _) (lp_ag (fun k => aw (6 * lp_dg Nw k + p) + 0) L) (lp_ag (fun k => aw (6 * lp_dg Nw k + p) + su k) L)) ∧ u = ((P, R, (@ite _ (lp_there L (fun k => lp_dg Nw k) p) (Classical.propDecidable _) (T + lN 10 + lN 1) (T + lN 10)), S, L, B, Nw, U, C, Kd), (fr, to, ln, aw), (su, ca, we, fa, sb, tb), (wk, nw, wo), (k0, k1, k2, k3, k4, k5), RE, BF, BK)) := by
  refine la_CI_of (by decide) [some (.ref (ad (21 + j0))), some (.int (nI (p)))] rfl rfl (Nat.le_of_ble_eq_true rfl) ?_
  intro κ K hret
  refine la_aload_n K dX2_sends_0 rfl ?_
  refine lb_even_this0 K q89 dX2_sends_1 ?_
  refine la_dup K dX2_sends_4 rfl ?_
  refine lb_gN_T K q131 dX2_sends_5 ?_
  refine la_ldc2 K q361 la_kL_10 dX2_sends_8 ?_
  refine la_ladd K dX2_sends_11 ?_
  refine lb_pN_T K q131 dX2_sends_12 ?_
  refine la_aload_n K dX2_sends_15 rfl ?_
  refine la_aload_n K dX2_sends_16 rfl ?_
  refine lb_even_this0 K q89 dX2_sends_17 ?_
  refine lb_gN_Nw K q143 dX2_sends_20 ?_
  refine la_aload_n K dX2_sends_23 rfl ?_
  refine lb_even_this0 K q89 dX2_sends_24 ?_
  refine lb_gN_L K q138 dX2_sends_27 ?_
  refine la_iload_n K dX2_sends_30 rfl ?_
  refine lb_r_hasEven K (j := j0) (by omega) hL3 (by omega) hNw rfl (Nat.le_of_ble_eq_true rfl) ⟨Nat.le_of_ble_eq_true rfl, Nat.le_of_ble_eq_true rfl⟩ ⟨Nat.zero_le _, Nat.zero_le _⟩ dX2_sends_31 ?_
  refine la_if_eqB K 45 dX2_sends_34 rfl (fun h34 => ?_) (fun h34 => ?_)
  · refine la_aload_n K dX2_sends_45 rfl ?_
    refine la_iload_n K dX2_sends_46 rfl ?_
    refine la_aload_n K dX2_sends_47 rfl ?_
    refine lb_even_this0 K q89 dX2_sends_48 ?_
    refine lb_gN_su K q148 dX2_sends_51 ?_
    refine lb_r_leastE K hj0 hP hL1 hL3 hp hNw hdg hd6 hsu q367 rfl (Nat.le_of_ble_eq_true rfl) ⟨Nat.le_of_ble_eq_true rfl, Nat.le_of_ble_eq_true rfl⟩ ⟨Nat.zero_le _, Nat.zero_le _⟩ dX2_sends_54 ?_
    exact hret _ _ _ _ dX2_sends_57 ⟨by rw [if_neg h34], by rw [if_neg h34]⟩
  · refine la_aload_n K dX2_sends_37 rfl ?_
    refine la_iload_n K dX2_sends_38 rfl ?_
    refine lb_r_superE K hj0 hP hL1 hL3 hp hNw hdg hd6 q363 rfl (Nat.le_of_ble_eq_true rfl) ⟨Nat.le_of_ble_eq_true rfl, Nat.le_of_ble_eq_true rfl⟩ ⟨Nat.zero_le _, Nat.zero_le _⟩ dX2_sends_39 ?_
    refine la_goto K 57 dX2_sends_42 rfl ?_
    exact hret _ _ _ _ dX2_sends_57 ⟨by rw [if_pos h34], by rw [if_pos h34]⟩
theorem lb_r_superT {κ : la_K} {cc : ByteArray} {nL : Nat} {R0 : Room} {n : Nat × Nat} {pc i : Nat} {lv : List (Option Value)} {st : List Value} (K : la_Cx ω κ cc nL "LadderCalls$Turn" R0) {p : Nat} (hP : P ≤ 6) (hL1 : 1 ≤ L) (hL3 : L ≤ 3) (hp : p < P) (hNw : Nw < 512) (hdg : ∀ k, k < L → lp_dg Nw k < P) (hd6 : ∀ a b, a < P → b < P → aw (6 * a + b) ≤ 1000000) (hlink : Cond.methodLink "LadderCalls$Turn" i ⟨"LadderCalls$Near", "sends", "(I)I"⟩ ∈ lw_all) (hlv : lv.length = nL) (hw : (st.map fun v => v.category).sum ≤ 8) (hR : (la_rm 3).frames + 1 ≤ R0.frames ∧ 8 + (2 + 11) + (la_rm 3).locals ≤ R0.locals) (hf : n.1 ≤ R0.cells ∧ n.2 ≤ R0.slots) (hd : decode cc pc = .ok (.invokespecial i, 3)) (kk : la_At ω κ n (pc + 3) lv (.int (nI (lp_ag (fun k => aw (6 * lp_dg Nw k + p) + 0) L)) :: st) (lb_W ω.2.2 ad ((P, R, T + lN 1, S, L, B, Nw, U, C, Kd), (fr, to, ln, aw), (su, ca, we, fa, sb, tb), (wk, nw, wo), (k0, k1, k2, k3, k4, k5), RE, BF, BK))) : la_At ω κ n pc lv (.int (nI p) :: .ref (ad 23) :: st) (lb_W ω.2.2 ad ((P, R, T, S, L, B, Nw, U, C, Kd), (fr, to, ln, aw), (su, ca, we, fa, sb, tb), (wk, nw, wo), (k0, k1, k2, k3, k4, k5), RE, BF, BK)) :=
  la_callUi0 K ou_Turn_sends hlink (As := [.int (nI p)]) (lb_sends0 (j0 := 2) (by omega) hP hL1 hL3 hp hNw hdg hd6) 23 rfl rfl rfl hlv rfl hw hR hf hd (fun r u h => by obtain ⟨rfl, rfl⟩ := h; exact kk)
set_option maxHeartbeats 4000000 in
theorem lb_sends2 {p : Nat} (hP : P ≤ 6) (hL1 : 1 ≤ L) (hL3 : L ≤ 3) (hp : p < P) (hNw : Nw < 512) (hdg : ∀ k, k < L → lp_dg Nw k < P) (hd6 : ∀ a b, a < P → b < P → aw (6 * a + b) ≤ 1000000) : la_CI ω yX3_sends cX3_sends 2 (some .int) (la_rm 4) [.ref (ad 23), .int (nI p)] (lb_W ω.2.2 ad ((P, R, T, S, L, B, Nw, U, C, Kd), (fr, to, ln, aw), (su, ca, we, fa, sb, tb), (wk, nw, wo), (k0, k1, k2, k3, k4, k5), RE, BF, BK)) (lb_W ω.2.2 ad) (fun (r : Int32) (u : lb_S) => r = nI (@ite _ (lp_there L (fun k => lp_dg Nw k) p) (Classical.propDecidable _) (lp_ag (fun k => aw (6 * lp_dg Nw k + p) + 0) L) (U)) ∧ u = ((P, R, (@ite _ (lp_there L (fun k => lp_dg Nw k) p) (Classical.propDecidable _) (T + lN 100 + lN 1) (T + lN 100)), S, L, B, Nw, U, C, Kd), (fr, to, ln, aw), (su, ca, we, fa, sb, tb), (wk, nw, wo), (k0, k1, k2, k3, k4, k5), RE, BF, BK)) := by
  refine la_CI_of (by decide) [some (.ref (ad 23)), some (.int (nI (p)))] rfl rfl (Nat.le_of_ble_eq_true rfl) ?_
  intro κ K hret
  refine la_aload_n K dX3_sends_0 rfl ?_
  refine lb_turn_this0 K q100 dX3_sends_1 ?_
  refine la_dup K dX3_sends_4 rfl ?_
  refine lb_gN_T K q132 dX3_sends_5 ?_
  refine la_ldc2 K q408 la_kL_100 dX3_sends_8 ?_
  refine la_ladd K dX3_sends_11 ?_
  refine lb_pN_T K q132 dX3_sends_12 ?_
  refine la_aload_n K dX3_sends_15 rfl ?_
  refine la_aload_n K dX3_sends_16 rfl ?_
  refine lb_turn_this0 K q100 dX3_sends_17 ?_
  refine lb_gN_Nw K q144 dX3_sends_20 ?_
  refine la_aload_n K dX3_sends_23 rfl ?_
  refine lb_turn_this0 K q100 dX3_sends_24 ?_
  refine lb_gN_L K q139 dX3_sends_27 ?_
  refine la_iload_n K dX3_sends_30 rfl ?_
  refine lb_r_hasTurn K (j := 2) (by omega) hL3 (by omega) hNw rfl (Nat.le_of_ble_eq_true rfl) ⟨Nat.le_of_ble_eq_true rfl, Nat.le_of_ble_eq_true rfl⟩ ⟨Nat.zero_le _, Nat.zero_le _⟩ dX3_sends_31 ?_
  refine la_if_eqB K 45 dX3_sends_34 rfl (fun h34 => ?_) (fun h34 => ?_)
  · refine la_aload_n K dX3_sends_45 rfl ?_
    refine lb_turn_this0 K q100 dX3_sends_46 ?_
    refine lb_gN_U K q149 dX3_sends_49 ?_
    exact hret _ _ _ _ dX3_sends_52 ⟨by rw [if_neg h34], by rw [if_neg h34]⟩
  · refine la_aload_n K dX3_sends_37 rfl ?_
    refine la_iload_n K dX3_sends_38 rfl ?_
    refine lb_r_superT K hP hL1 hL3 hp hNw hdg hd6 q410 rfl (Nat.le_of_ble_eq_true rfl) ⟨Nat.le_of_ble_eq_true rfl, Nat.le_of_ble_eq_true rfl⟩ ⟨Nat.zero_le _, Nat.zero_le _⟩ dX3_sends_39 ?_
    refine la_goto K 52 dX3_sends_42 rfl ?_
    exact hret _ _ _ _ dX3_sends_52 ⟨by rw [if_pos h34], by rw [if_pos h34]⟩
theorem lb_r_superA {κ : la_K} {cc : ByteArray} {nL : Nat} {R0 : Room} {n : Nat × Nat} {pc i : Nat} {lv : List (Option Value)} {st : List Value} (K : la_Cx ω κ cc nL "LadderCalls$Ahead" R0) {p : Nat} (hP : P ≤ 6) (hL1 : 1 ≤ L) (hL3 : L ≤ 3) (hp : p < P) (hNw : Nw < 512) (hdg : ∀ k, k < L → lp_dg Nw k < P) (hd6 : ∀ a b, a < P → b < P → aw (6 * a + b) ≤ 1000000) (hsu : ∀ k, k < L → su k ≤ 1000000) (hlink : Cond.methodLink "LadderCalls$Ahead" i ⟨"LadderCalls$Even", "sends", "(I)I"⟩ ∈ lw_all) (hlv : lv.length = nL) (hw : (st.map fun v => v.category).sum ≤ 8) (hR : (la_rm 4).frames + 1 ≤ R0.frames ∧ 8 + (2 + 11) + (la_rm 4).locals ≤ R0.locals) (hf : n.1 ≤ R0.cells ∧ n.2 ≤ R0.slots) (hd : decode cc pc = .ok (.invokespecial i, 3)) (kk : la_At ω κ n (pc + 3) lv (.int (nI (@ite _ (lp_there L (fun k => lp_dg Nw k) p) (Classical.propDecidable _) (lp_ag (fun k => aw (6 * lp_dg Nw k + p) + 0) L) (lp_ag (fun k => aw (6 * lp_dg Nw k + p) + su k) L))) :: st) (lb_W ω.2.2 ad ((P, R, (@ite _ (lp_there L (fun k => lp_dg Nw k) p) (Classical.propDecidable _) (T + lN 10 + lN 1) (T + lN 10)), S, L, B, Nw, U, C, Kd), (fr, to, ln, aw), (su, ca, we, fa, sb, tb), (wk, nw, wo), (k0, k1, k2, k3, k4, k5), RE, BF, BK))) : la_At ω κ n pc lv (.int (nI p) :: .ref (ad 24) :: st) (lb_W ω.2.2 ad ((P, R, T, S, L, B, Nw, U, C, Kd), (fr, to, ln, aw), (su, ca, we, fa, sb, tb), (wk, nw, wo), (k0, k1, k2, k3, k4, k5), RE, BF, BK)) :=
  la_callUi0 K ou_Ahead_sends hlink (As := [.int (nI p)]) (lb_sends1 (j0 := 3) (Or.inr rfl) hP hL1 hL3 hp hNw hdg hd6 hsu) 24 rfl rfl rfl hlv rfl hw hR hf hd (fun r u h => by obtain ⟨rfl, rfl⟩ := h; exact kk)
theorem lb_r_nearestA {κ : la_K} {cc : ByteArray} {nL : Nat} {own : String} {R0 : Room} {n : Nat × Nat} {pc i : Nat} {lv : List (Option Value)} {st : List Value} (K : la_Cx ω κ cc nL own R0) {p : Nat} (hP : P ≤ 6) (hL1 : 1 ≤ L) (hL3 : L ≤ 3) (hp : p < P) (hNw : Nw < 512) (hdg : ∀ k, k < L → lp_dg Nw k < P) (hd6 : ∀ a b, a < P → b < P → aw (6 * a + b) ≤ 1000000) (hlink : Cond.methodLink own i ⟨"LadderCalls$Ahead", "nearest", "(I)I"⟩ ∈ lw_all) (hlv : lv.length = nL) (hw : (st.map fun v => v.category).sum ≤ 8) (hR : (la_rm 2).frames + 1 ≤ R0.frames ∧ 8 + (2 + 11) + (la_rm 2).locals ≤ R0.locals) (hf : n.1 ≤ R0.cells ∧ n.2 ≤ R0.slots) (hd : decode cc pc = .ok (.invokevirtual i, 3)) (kk : la_At ω κ n (pc + 3) lv (.int (nI (lp_ag (fun k => aw (6 * lp_dg Nw k + p) + 0) L)) :: st) (lb_W ω.2.2 ad ((P, R, T + lN 1, S, L, B, Nw, U, C, Kd), (fr, to, ln, aw), (su, ca, we, fa, sb, tb), (wk, nw, wo), (k0, k1, k2, k3, k4, k5), RE, BF, BK))) : la_At ω κ n pc lv (.int (nI p) :: .ref (ad 24) :: st) (lb_W ω.2.2 ad ((P, R, T, S, L, B, Nw, U, C, Kd), (fr, to, ln, aw), (su, ca, we, fa, sb, tb), (wk, nw, wo), (k0, k1, k2, k3, k4, k5), RE, BF, BK)) :=
  la_callOi0 K oo_Ahead_nearest_3 hlink (As := [.int (nI p)]) (lb_nearest (j0 := 3) (by omega) hP hL1 hL3 hp hNw hdg hd6) 24 rfl rfl rfl hlv rfl hw hR hf hd (fun r u h => by obtain ⟨rfl, rfl⟩ := h; exact kk)
theorem lb_r_leastA {κ : la_K} {cc : ByteArray} {nL : Nat} {own : String} {R0 : Room} {n : Nat × Nat} {pc i : Nat} {lv : List (Option Value)} {st : List Value} (K : la_Cx ω κ cc nL own R0) {p : Nat} (hP : P ≤ 6) (hL1 : 1 ≤ L) (hL3 : L ≤ 3) (hp : p < P) (hNw : Nw < 512) (hdg : ∀ k, k < L → lp_dg Nw k < P) (hd6 : ∀ a b, a < P → b < P → aw (6 * a + b) ≤ 1000000) (hwo : ∀ k, k < L → wo k ≤ 1000000) (hlink : Cond.methodLink own i ⟨"LadderCalls$Ahead", "least", "(I[I)I"⟩ ∈ lw_all) (hlv : lv.length = nL) (hw : (st.map fun v => v.category).sum ≤ 8) (hR : (la_rm 1).frames + 1 ≤ R0.frames ∧ 8 + (7 + 11) + (la_rm 1).locals ≤ R0.locals) (hf : n.1 ≤ R0.cells ∧ n.2 ≤ R0.slots) (hd : decode cc pc = .ok (.invokevirtual i, 3)) (kk : la_At ω κ n (pc + 3) lv (.int (nI (lp_ag (fun k => aw (6 * lp_dg Nw k + p) + wo k) L)) :: st) (lb_W ω.2.2 ad ((P, R, T, S, L, B, Nw, U, C, Kd), (fr, to, ln, aw), (su, ca, we, fa, sb, tb), (wk, nw, wo), (k0, k1, k2, k3, k4, k5), RE, BF, BK))) : la_At ω κ n pc lv (.ref (ad 19) :: .int (nI p) :: .ref (ad 24) :: st) (lb_W ω.2.2 ad ((P, R, T, S, L, B, Nw, U, C, Kd), (fr, to, ln, aw), (su, ca, we, fa, sb, tb), (wk, nw, wo), (k0, k1, k2, k3, k4, k5), RE, BF, BK)) :=
  la_callOp K oo_Ahead_least_3 hlink (As := [.int (nI p), .ref (ad 19)]) (lb_leastW (j0 := 3) (by omega) hP hL1 hL3 hp hNw hdg hd6 hwo) 24 rfl rfl rfl hlv rfl hw hR hf hd kk
set_option maxHeartbeats 4000000 in
theorem lb_sends3 {p : Nat} (hC : C < 12 ∨ lp_there L (fun k => lp_dg Nw k) p ∨ L = 1) (hP : P ≤ 6) (hL1 : 1 ≤ L) (hL3 : L ≤ 3) (hp : p < P) (hNw : Nw < 512) (hdg : ∀ k, k < L → lp_dg Nw k < P) (hd6 : ∀ a b, a < P → b < P → aw (6 * a + b) ≤ 1000000) (hd64 : ∀ a b, a < P → b < P → aw (6 * a + b) ≤ 6400) (hB : lp_sd P L B) (hN : lp_sd P L Nw) (hca : ∀ i, i < C → ca i < P) (hsu : ∀ k, k < L → su k ≤ 1000000) : la_CI ω yX4_sends cX4_sends 4 (some .int) (la_rm 6) [.ref (ad 24), .int (nI p)] (lb_W ω.2.2 ad ((P, R, T, S, L, B, Nw, U, C, Kd), (fr, to, ln, aw), (su, ca, we, fa, sb, tb), (wk, nw, wo), (k0, k1, k2, k3, k4, k5), RE, BF, BK)) (lb_W ω.2.2 ad) (fun (r : Int32) (u : lb_S) => r = nI (@ite _ (lp_there L (fun k => lp_dg Nw k) p) (Classical.propDecidable _) (lp_ag (fun k => aw (6 * lp_dg Nw k + p) + 0) L) (if L = 1 then lp_ag (fun k => aw (6 * lp_dg Nw k + p) + su k) L else lp_ag (fun k => aw (6 * lp_dg Nw k + p) + lp_wc P L aw B (va_up ca C p) (C + 1) (lp_mv Nw k p)) L)) ∧ ∃ ca' wk' nw' wo', u = ((P, R, (@ite _ (lp_there L (fun k => lp_dg Nw k) p) (Classical.propDecidable _) (T + lN 1000 + lN 1) (if L = 1 then T + lN 1000 + lN 10 else T + lN 1000)), S, L, B, Nw, U, C, Kd), (fr, to, ln, aw), (su, ca', we, fa, sb, tb), (wk', nw', wo'), (k0, k1, k2, k3, k4, k5), RE, BF, BK) ∧ ∀ i, i ≠ C → ca' i = ca i) := by
  refine la_CI_of (by decide) [some (.ref (ad 24)), some (.int (nI (p))), none, none] rfl rfl (Nat.le_of_ble_eq_true rfl) ?_
  intro κ K hret
  refine la_aload_n K dX4_sends_0 rfl ?_
  refine lb_ahead_this0 K q112 dX4_sends_1 ?_
  refine la_dup K dX4_sends_4 rfl ?_
  refine lb_gN_T K q130 dX4_sends_5 ?_
  refine la_ldc2 K q336 la_kL_1000 dX4_sends_8 ?_
  refine la_ladd K dX4_sends_11 ?_
  refine lb_pN_T K q130 dX4_sends_12 ?_
  refine la_aload_n K dX4_sends_15 rfl ?_
  refine la_aload_n K dX4_sends_16 rfl ?_
  refine lb_ahead_this0 K q112 dX4_sends_17 ?_
  refine lb_gN_Nw K q142 dX4_sends_20 ?_
  refine la_aload_n K dX4_sends_23 rfl ?_
  refine lb_ahead_this0 K q112 dX4_sends_24 ?_
  refine lb_gN_L K q137 dX4_sends_27 ?_
  refine la_iload_n K dX4_sends_30 rfl ?_
  refine lb_r_hasAhead K (j := 3) (by omega) hL3 (by omega) hNw rfl (Nat.le_of_ble_eq_true rfl) ⟨Nat.le_of_ble_eq_true rfl, Nat.le_of_ble_eq_true rfl⟩ ⟨Nat.zero_le _, Nat.zero_le _⟩ dX4_sends_31 ?_
  refine la_if_eqB K 43 dX4_sends_34 rfl (fun h34 => ?_) (fun h34 => ?_)
  · refine la_aload_n K dX4_sends_43 rfl ?_
    refine lb_ahead_this0 K q112 dX4_sends_44 ?_
    refine lb_gN_L K q137 dX4_sends_47 ?_
    refine la_iconst K dX4_sends_50 la_ki_1 ?_
    refine la_icmp_neN K 60 dX4_sends_51 rfl (by omega) (by omega) (fun h51 => ?_) (fun h51 => ?_)
    · have hC : C < 12 := by rcases hC with h | h | h; (· exact h); (· exact absurd h h34); exact absurd h h51
      refine la_aload_n K dX4_sends_60 rfl ?_
      refine lb_ahead_this0 K q112 dX4_sends_61 ?_
      refine lb_gN_ca K q154 dX4_sends_64 ?_
      refine la_aload_n K dX4_sends_67 rfl ?_
      refine lb_ahead_this0 K q112 dX4_sends_68 ?_
      refine lb_gN_C K q151 dX4_sends_71 ?_
      refine la_iload_n K dX4_sends_74 rfl ?_
      refine lb_st_ca K (by omega) dX4_sends_75 ?_
      refine la_aload_n K dX4_sends_76 rfl ?_
      refine lb_ahead_this0 K q112 dX4_sends_77 ?_
      refine la_aload_n K dX4_sends_80 rfl ?_
      refine lb_ahead_this0 K q112 dX4_sends_81 ?_
      refine lb_gN_C K q151 dX4_sends_84 ?_
      refine la_iconst K dX4_sends_87 la_ki_1 ?_
      refine la_iaddN K dX4_sends_88 ?_
      refine la_callVNr0 K ok_X0_workOf q372 (lb_workOf (n := C + 1) hP hL1 hL3 hd64 hB (by omega) (fun i hi => by by_cases e : i = C; (· subst e; rw [va_up_self]; exact hp); rw [va_up_ne _ _ e]; exact hca i (by omega))) 0 rfl rfl rfl rfl rfl (Nat.le_of_ble_eq_true rfl) ⟨Nat.le_of_ble_eq_true rfl, Nat.le_of_ble_eq_true rfl⟩ ⟨Nat.zero_le _, Nat.zero_le _⟩ dX4_sends_89 (fun u89 p89 => ?_)
      obtain ⟨wk1, nw1, rfl, hwk⟩ := p89
      refine la_astore2 K dX4_sends_92 rfl ?_
      have lp : ∀ (j l : Nat) (f : Nat → Nat), l ≤ L → L < l + j → (∀ k, k < l → f k = lp_wc P L aw B (va_up ca C p) (C + 1) (lp_mv Nw k p)) → la_At ω κ (0, 0) 95 [some (.ref (ad 24)), some (.int (nI (p))), some (.ref (ad 11)), some (.int (nI (l)))] [] (lb_W ω.2.2 ad ((P, R, (T + lN 1000), S, L, B, Nw, U, C, Kd), (fr, to, ln, aw), (su, (va_up ca C p), we, fa, sb, tb), (wk1, nw1, f), (k0, k1, k2, k3, k4, k5), RE, BF, BK)) := by
        intro j
        induction j with
        | zero => intro l f h1 h2; omega
        | succ j ih =>
          intro l f h1 h2 hf
          refine la_iload_n K dX4_sends_95 rfl ?_
          refine la_aload_n K dX4_sends_96 rfl ?_
          refine lb_ahead_this0 K q112 dX4_sends_97 ?_
          refine lb_gN_L K q137 dX4_sends_100 ?_
          refine la_icmp_geN K 132 dX4_sends_103 rfl (by omega) (by omega) (fun h103 => ?_) (fun h103 => ?_)
          · have hv : ∀ k, k < L → f k = lp_wc P L aw B (va_up ca C p) (C + 1) (lp_mv Nw k p) := fun k hk => hf k (by omega)
            refine la_aload_n K dX4_sends_132 rfl ?_
            refine la_iload_n K dX4_sends_133 rfl ?_
            refine la_aload_n K dX4_sends_134 rfl ?_
            refine lb_ahead_works K q111 dX4_sends_135 ?_
            refine lb_r_leastA K hP hL1 hL3 hp hNw hdg hd6 (fun k hk => by rw [hv k hk]; exact lp_wc_le) q391 rfl (Nat.le_of_ble_eq_true rfl) ⟨Nat.le_of_ble_eq_true rfl, Nat.le_of_ble_eq_true rfl⟩ ⟨Nat.zero_le _, Nat.zero_le _⟩ dX4_sends_138 ?_
            exact hret _ _ _ _ dX4_sends_141 ⟨by rw [if_neg h34, if_neg h51]; exact congrArg nI (lp_ag_congr L (fun k hk => congrArg (fun z => aw (6 * lp_dg Nw k + p) + z) (hv k hk))), _, _, _, _, by rw [if_neg h34, if_neg h51], fun i hi => va_up_ne _ _ hi⟩
          · refine la_aload_n K dX4_sends_106 rfl ?_
            refine lb_ahead_works K q111 dX4_sends_107 ?_
            refine la_iload_n K dX4_sends_110 rfl ?_
            refine la_aload_n K dX4_sends_111 rfl ?_
            refine la_aload_n K dX4_sends_112 rfl ?_
            refine lb_ahead_this0 K q112 dX4_sends_113 ?_
            refine lb_gN_Nw K q142 dX4_sends_116 ?_
            refine la_iload_n K dX4_sends_119 rfl ?_
            refine la_iload_n K dX4_sends_120 rfl ?_
            refine la_callSNp K ok_X0_moved q390 (lb_moved (by omega) (by omega) (by omega) _) rfl rfl rfl (Nat.le_of_ble_eq_true rfl) ⟨Nat.le_of_ble_eq_true rfl, Nat.le_of_ble_eq_true rfl⟩ ⟨Nat.zero_le _, Nat.zero_le _⟩ dX4_sends_121 ?_
            refine lb_ld_wk K (by have := lp_pw hL3; have := lp_mv_small hL3 hN.1 h103 (show p < 8 by omega); omega) dX4_sends_124 ?_
            refine lb_st_wo K (by omega) dX4_sends_125 ?_
            refine la_iinc3 K dX4_sends_126 (la_inc_N _) rfl ?_
            refine la_goto K 95 dX4_sends_129 rfl ?_
            exact ih (l + 1) _ (by omega) (by omega) (fun k hk => by by_cases e : k = l; (· subst e; rw [va_up_self]; exact hwk _ (lp_mv_small hL3 hN.1 h103 (by omega))); rw [va_up_ne _ _ e]; exact hf k (by omega))
      refine la_iconst K dX4_sends_93 la_ki_0 ?_
      refine la_istore3 K dX4_sends_94 rfl ?_
      exact lp (L + 1) 0 wo (by omega) (by omega) (fun k hk => by omega)
    · refine la_aload_n K dX4_sends_54 rfl ?_
      refine la_iload_n K dX4_sends_55 rfl ?_
      refine lb_r_superA K hP hL1 hL3 hp hNw hdg hd6 hsu q358 rfl (Nat.le_of_ble_eq_true rfl) ⟨Nat.le_of_ble_eq_true rfl, Nat.le_of_ble_eq_true rfl⟩ ⟨Nat.zero_le _, Nat.zero_le _⟩ dX4_sends_56 ?_
      exact hret _ _ _ _ dX4_sends_59 ⟨by rw [if_neg h34, if_neg h34, if_pos h51], ca, wk, nw, wo, by rw [if_neg h34, if_neg h34, if_pos h51], fun _ _ => rfl⟩
  · refine la_aload_n K dX4_sends_37 rfl ?_
    refine la_iload_n K dX4_sends_38 rfl ?_
    refine lb_r_nearestA K hP hL1 hL3 hp hNw hdg hd6 q342 rfl (Nat.le_of_ble_eq_true rfl) ⟨Nat.le_of_ble_eq_true rfl, Nat.le_of_ble_eq_true rfl⟩ ⟨Nat.zero_le _, Nat.zero_le _⟩ dX4_sends_39 ?_
    exact hret _ _ _ _ dX4_sends_42 ⟨by rw [if_pos h34], ca, wk, nw, wo, by rw [if_pos h34], fun _ _ => rfl⟩
theorem lb_r_sends {κ : la_K} {cc : ByteArray} {nL : Nat} {own : String} {R0 : Room} {n : Nat × Nat} {pc i : Nat} {lv : List (Option Value)} {st : List Value} (K : la_Cx ω κ cc nL own R0) {p : Nat} (hKd : Kd < 4) (hC : Kd < 3 ∨ C < 12 ∨ lp_there L (fun k => lp_dg Nw k) p ∨ L = 1) (hP : P ≤ 6) (hL1 : 1 ≤ L) (hL3 : L ≤ 3) (hp : p < P) (hNw : Nw < 512) (hdg : ∀ k, k < L → lp_dg Nw k < P) (hd6 : ∀ a b, a < P → b < P → aw (6 * a + b) ≤ 1000000) (hd64 : ∀ a b, a < P → b < P → aw (6 * a + b) ≤ 6400) (hB : lp_sd P L B) (hN : lp_sd P L Nw) (hca : ∀ i, i < C → ca i < P) (hsu : ∀ k, k < L → su k ≤ 1000000) (hlink : Cond.methodLink own i ⟨"LadderCalls$Near", "sends", "(I)I"⟩ ∈ lw_all) (hlv : lv.length = nL) (hw : (st.map fun v => v.category).sum ≤ 8) (hR : (la_rm 6).frames + 1 ≤ R0.frames ∧ 8 + (4 + 11) + (la_rm 6).locals ≤ R0.locals) (hf : n.1 ≤ R0.cells ∧ n.2 ≤ R0.slots) (hd : decode cc pc = .ok (.invokevirtual i, 3)) (kk : ∀ (ca' wk' nw' wo' : Nat → Nat), (∀ i, i ≠ C → ca' i = ca i) → la_At ω κ n (pc + 3) lv (.int (nI (lp_chl Kd L (lp_there L (fun k => lp_dg Nw k) p) (lp_ag (fun k => aw (6 * lp_dg Nw k + p) + 0) L) (lp_ag (fun k => aw (6 * lp_dg Nw k + p) + su k) L) U (lp_ag (fun k => aw (6 * lp_dg Nw k + p) + lp_wc P L aw B (va_up ca C p) (C + 1) (lp_mv Nw k p)) L))) :: st) (lb_W ω.2.2 ad ((P, R, lp_trc Kd L (lp_there L (fun k => lp_dg Nw k) p) T, S, L, B, Nw, U, C, Kd), (fr, to, ln, aw), (su, ca', we, fa, sb, tb), (wk', nw', wo'), (k0, k1, k2, k3, k4, k5), RE, BF, BK))) : la_At ω κ n pc lv (.int (nI p) :: .ref (ad (21 + Kd)) :: st) (lb_W ω.2.2 ad ((P, R, T, S, L, B, Nw, U, C, Kd), (fr, to, ln, aw), (su, ca, we, fa, sb, tb), (wk, nw, wo), (k0, k1, k2, k3, k4, k5), RE, BF, BK)) := by
  have h4 : Kd = 0 ∨ Kd = 1 ∨ Kd = 2 ∨ Kd = 3 := by omega
  rcases h4 with rfl | rfl | rfl | rfl
  · exact la_callOi0 K oo_sends_0 hlink (As := [.int (nI p)]) (lb_sends0 (j0 := 0) (by omega) hP hL1 hL3 hp hNw hdg hd6) 21 rfl rfl rfl hlv rfl hw ⟨Nat.le_trans (Nat.le_of_ble_eq_true rfl) hR.1, Nat.le_trans (Nat.le_of_ble_eq_true rfl) hR.2⟩ hf hd (fun r u h => by obtain ⟨rfl, rfl⟩ := h; exact kk ca wk nw wo (fun _ _ => rfl))
  · exact la_callOi0 K oo_sends_1 hlink (As := [.int (nI p)]) (lb_sends1 (j0 := 1) (Or.inl rfl) hP hL1 hL3 hp hNw hdg hd6 hsu) 22 rfl rfl rfl hlv rfl hw ⟨Nat.le_trans (Nat.le_of_ble_eq_true rfl) hR.1, Nat.le_trans (Nat.le_of_ble_eq_true rfl) hR.2⟩ hf hd (fun r u h => by obtain ⟨rfl, rfl⟩ := h; exact kk ca wk nw wo (fun _ _ => rfl))
  · exact la_callOi0 K oo_sends_2 hlink (As := [.int (nI p)]) (lb_sends2 hP hL1 hL3 hp hNw hdg hd6) 23 rfl rfl rfl hlv rfl hw ⟨Nat.le_trans (Nat.le_of_ble_eq_true rfl) hR.1, Nat.le_trans (Nat.le_of_ble_eq_true rfl) hR.2⟩ hf hd (fun r u h => by obtain ⟨rfl, rfl⟩ := h; exact kk ca wk nw wo (fun _ _ => rfl))
  · exact la_callOi0 K oo_sends_3 hlink (As := [.int (nI p)]) (lb_sends3 (hC.resolve_left (by decide)) hP hL1 hL3 hp hNw hdg hd6 hd64 hB hN hca hsu) 24 rfl rfl rfl hlv rfl hw ⟨Nat.le_trans (Nat.le_of_ble_eq_true rfl) hR.1, Nat.le_trans (Nat.le_of_ble_eq_true rfl) hR.2⟩ hf hd (fun r u h => by obtain ⟨rfl, ca', wk', nw', wo', rfl, hh⟩ := h; exact kk ca' wk' nw' wo' hh)
theorem lb_r_sendsF {κ : la_K} {cc : ByteArray} {nL : Nat} {own : String} {R0 : Room} {n : Nat × Nat} {pc i : Nat} {lv : List (Option Value)} {st : List Value} (K : la_Cx ω κ cc nL own R0) {p cnt : Nat} (hKd : Kd < 4) (hC : Kd < 3 ∨ C < 12 ∨ lp_there L (fun k => lp_dg Nw k) p ∨ L = 1) (hP : P ≤ 6) (hL1 : 1 ≤ L) (hL3 : L ≤ 3) (hp : p < P) (hNw : Nw < 512) (hdg : ∀ k, k < L → lp_dg Nw k < P) (hd6 : ∀ a b, a < P → b < P → aw (6 * a + b) ≤ 1000000) (hd64 : ∀ a b, a < P → b < P → aw (6 * a + b) ≤ 6400) (hB : lp_sd P L B) (hN : lp_sd P L Nw) (hca : ∀ i, i < C → ca i < P) (hsu : ∀ k, k < L → su k ≤ 1000000) (hlink : Cond.methodLink own i ⟨"LadderCalls$Sends", "sends", "(I)I"⟩ ∈ lw_all) (hlv : lv.length = nL) (hw : (st.map fun v => v.category).sum ≤ 8) (hR : (la_rm 6).frames + 1 ≤ R0.frames ∧ 8 + (4 + 11) + (la_rm 6).locals ≤ R0.locals) (hf : n.1 ≤ R0.cells ∧ n.2 ≤ R0.slots) (hd : decode cc pc = .ok (.invokeinterface i cnt, 5)) (kk : ∀ (ca' wk' nw' wo' : Nat → Nat), (∀ i, i ≠ C → ca' i = ca i) → la_At ω κ n (pc + 5) lv (.int (nI (lp_chl Kd L (lp_there L (fun k => lp_dg Nw k) p) (lp_ag (fun k => aw (6 * lp_dg Nw k + p) + 0) L) (lp_ag (fun k => aw (6 * lp_dg Nw k + p) + su k) L) U (lp_ag (fun k => aw (6 * lp_dg Nw k + p) + lp_wc P L aw B (va_up ca C p) (C + 1) (lp_mv Nw k p)) L))) :: st) (lb_W ω.2.2 ad ((P, R, lp_trc Kd L (lp_there L (fun k => lp_dg Nw k) p) T, S, L, B, Nw, U, C, Kd), (fr, to, ln, aw), (su, ca', we, fa, sb, tb), (wk', nw', wo'), (k0, k1, k2, k3, k4, k5), RE, BF, BK))) : la_At ω κ n pc lv (.int (nI p) :: .ref (ad (21 + Kd)) :: st) (lb_W ω.2.2 ad ((P, R, T, S, L, B, Nw, U, C, Kd), (fr, to, ln, aw), (su, ca, we, fa, sb, tb), (wk, nw, wo), (k0, k1, k2, k3, k4, k5), RE, BF, BK)) := by
  have h4 : Kd = 0 ∨ Kd = 1 ∨ Kd = 2 ∨ Kd = 3 := by omega
  rcases h4 with rfl | rfl | rfl | rfl
  · exact la_callFi0 K of_sends_0 hlink (As := [.int (nI p)]) (lb_sends0 (j0 := 0) (by omega) hP hL1 hL3 hp hNw hdg hd6) 21 rfl rfl rfl hlv rfl hw ⟨Nat.le_trans (Nat.le_of_ble_eq_true rfl) hR.1, Nat.le_trans (Nat.le_of_ble_eq_true rfl) hR.2⟩ hf hd (fun r u h => by obtain ⟨rfl, rfl⟩ := h; exact kk ca wk nw wo (fun _ _ => rfl))
  · exact la_callFi0 K of_sends_1 hlink (As := [.int (nI p)]) (lb_sends1 (j0 := 1) (Or.inl rfl) hP hL1 hL3 hp hNw hdg hd6 hsu) 22 rfl rfl rfl hlv rfl hw ⟨Nat.le_trans (Nat.le_of_ble_eq_true rfl) hR.1, Nat.le_trans (Nat.le_of_ble_eq_true rfl) hR.2⟩ hf hd (fun r u h => by obtain ⟨rfl, rfl⟩ := h; exact kk ca wk nw wo (fun _ _ => rfl))
  · exact la_callFi0 K of_sends_2 hlink (As := [.int (nI p)]) (lb_sends2 hP hL1 hL3 hp hNw hdg hd6) 23 rfl rfl rfl hlv rfl hw ⟨Nat.le_trans (Nat.le_of_ble_eq_true rfl) hR.1, Nat.le_trans (Nat.le_of_ble_eq_true rfl) hR.2⟩ hf hd (fun r u h => by obtain ⟨rfl, rfl⟩ := h; exact kk ca wk nw wo (fun _ _ => rfl))
  · exact la_callFi0 K of_sends_3 hlink (As := [.int (nI p)]) (lb_sends3 (hC.resolve_left (by decide)) hP hL1 hL3 hp hNw hdg hd6 hd64 hB hN hca hsu) 24 rfl rfl rfl hlv rfl hw ⟨Nat.le_trans (Nat.le_of_ble_eq_true rfl) hR.1, Nat.le_trans (Nat.le_of_ble_eq_true rfl) hR.2⟩ hf hd (fun r u h => by obtain ⟨rfl, ca', wk', nw', wo', rfl, hh⟩ := h; exact kk ca' wk' nw' wo' hh)
end LC12
