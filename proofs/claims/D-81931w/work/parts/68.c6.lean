/-! THE COMPONENT's METHODS, part 6: the rules' kinds, about, rule. Printed by c6.py. -/
section LAALD
variable {ω : la_O} {κ : la_K} {cc : ByteArray} {nL : Nat} {own : String} {R0 : Room} {n : Nat × Nat} {pc : Nat} {lv : List (Option Value)} {st : List Value} {ws : va_W} {ad : Nat → Nat}
/-- an element of an array of objects -/
theorem la_aald (K : la_Cx ω κ cc nL own R0) {a N i j : Nat} {f : Nat → Option Nat} {C : String} (q0 t0 : Nat) {cA : ClassId} (he : ws[q0]? = some (a, .inl (cA, N, .inr (.inr (.inr (.inr f)))))) (ht : (la_ty ω.2.2)[t0]? = some (cA, .object C)) (hN : N < 2 ^ 31) (hi : i < N) (hf : f i = some j) (hd : decode cc pc = .ok (.aaload, 1)) (kk : la_At ω κ n (pc + 1) lv (.ref j :: st) ws) : la_At ω κ n pc lv (.int (nI i) :: .ref a :: st) ws := by
  obtain ⟨hx, hb, hml, hown, hts, hK, hG, hA, hR, hlk⟩ := K
  intro H locs ls hP hD hS hl
  refine va_aldq hx hb hK hP q0 t0 he ht (vp_in_nI hi hN) hd ?_
  rw [nI_clamp (by omega), hf]
  exact kk H locs ls hP hD hS hl
/-- an element of an array of arrays -/
theorem la_aaldA (K : la_Cx ω κ cc nL own R0) {a N i j : Nat} {f : Nat → Option Nat} {ty : FieldType} (q0 t0 : Nat) {cA : ClassId} (he : ws[q0]? = some (a, .inl (cA, N, .inr (.inr (.inr (.inr f)))))) (ht : (la_ty ω.2.2)[t0]? = some (cA, .array ty)) (hN : N < 2 ^ 31) (hi : i < N) (hf : f i = some j) (hd : decode cc pc = .ok (.aaload, 1)) (kk : la_At ω κ n (pc + 1) lv (.ref j :: st) ws) : la_At ω κ n pc lv (.int (nI i) :: .ref a :: st) ws := by
  obtain ⟨hx, hb, hml, hown, hts, hK, hG, hA, hR, hlk⟩ := K
  intro H locs ls hP hD hS hl
  have hin := vp_in_nI hi hN
  have hlt : (nI i).toNatClampNeg < N := Nat.not_le.mp fun q => hin (Or.inr q)
  refine W.aald (v := va_rf (f (nI i).toNatClampNeg)) (ty := .array ty) hx hb (hP q0 _ he) ((hK.2 t0 _ ht).1 N (fun j => va_rf (f j))) rfl (fun q => by cases q) (by show ¬ (nI i < 0 ∨ (arrV _ _ _).slots.size ≤ _); rw [arrV_size]; exact hin) (by show (arrV _ _ _).slots[_]? = _; rw [arrV_read _ _ hlt]) rfl rfl hd ?_
  rw [nI_clamp (by omega), hf]
  exact kk H locs ls hP hD hS hl
theorem lb_ld_rules (K : la_Cx ω κ cc nL own R0) {i : Nat} {σ : lb_S} (hi : i < 4) (hd : decode cc pc = .ok (.aaload, 1)) (kk : la_At ω κ n (pc + 1) lv (.ref (ad (21 + i)) :: st) (lb_W ω.2.2 ad σ)) : la_At ω κ n pc lv (.int (nI i) :: .ref (ad 20) :: st) (lb_W ω.2.2 ad σ) := la_aald K 20 5 rfl rfl (by decide) hi rfl hd kk
end LAALD
section LC6
variable {ω : la_O} {ad : Nat → Nat} {S : Int32} {T : Int64} {P R L B Nw U C Kd : Nat} {fr to ln aw su ca we fa sb tb wk nw wo k0 k1 k2 k3 k4 k5 : Nat → Nat} {RE : Nat → Nat → Nat} {BF : Nat → Option Nat} {BK : va_W}
theorem lb_kind0 {a : Nat} {ws : va_W} : la_CP ω yX1_kind cX1_kind 1 (some .int) (la_rm 0) [.ref a] ws (nI 0) := by
  refine la_CI_of (by decide) [some (.ref a)] rfl rfl (Nat.le_of_ble_eq_true rfl) ?_
  intro κ K hret
  refine la_iconst K dX1_kind_0 la_ki_0 ?_
  exact hret _ _ _ () dX1_kind_1 rfl
theorem lb_kind1 {a : Nat} {ws : va_W} : la_CP ω yX2_kind cX2_kind 1 (some .int) (la_rm 0) [.ref a] ws (nI 1) := by
  refine la_CI_of (by decide) [some (.ref a)] rfl rfl (Nat.le_of_ble_eq_true rfl) ?_
  intro κ K hret
  refine la_iconst K dX2_kind_0 la_ki_1 ?_
  exact hret _ _ _ () dX2_kind_1 rfl
theorem lb_kind2 {a : Nat} {ws : va_W} : la_CP ω yX3_kind cX3_kind 1 (some .int) (la_rm 0) [.ref a] ws (nI 2) := by
  refine la_CI_of (by decide) [some (.ref a)] rfl rfl (Nat.le_of_ble_eq_true rfl) ?_
  intro κ K hret
  refine la_iconst K dX3_kind_0 la_ki_2 ?_
  exact hret _ _ _ () dX3_kind_1 rfl
theorem lb_kind3 {a : Nat} {ws : va_W} : la_CP ω yX4_kind cX4_kind 1 (some .int) (la_rm 0) [.ref a] ws (nI 3) := by
  refine la_CI_of (by decide) [some (.ref a)] rfl rfl (Nat.le_of_ble_eq_true rfl) ?_
  intro κ K hret
  refine la_iconst K dX4_kind_0 la_ki_3 ?_
  exact hret _ _ _ () dX4_kind_1 rfl
theorem lb_r_kind {κ : la_K} {cc : ByteArray} {nL : Nat} {own : String} {R0 : Room} {n : Nat × Nat} {pc i : Nat} {lv : List (Option Value)} {st : List Value} (K : la_Cx ω κ cc nL own R0) (hKd : Kd < 4) (hlink : Cond.methodLink own i ⟨"LadderCalls$Near", "kind", "()I"⟩ ∈ lw_all) (hlv : lv.length = nL) (hw : (st.map fun v => v.category).sum ≤ 8) (hR : (la_rm 0).frames + 1 ≤ R0.frames ∧ 8 + (1 + 11) + (la_rm 0).locals ≤ R0.locals) (hf : n.1 ≤ R0.cells ∧ n.2 ≤ R0.slots) (hd : decode cc pc = .ok (.invokevirtual i, 3)) (kk : la_At ω κ n (pc + 3) lv (.int (nI Kd) :: st) (lb_W ω.2.2 ad ((P, R, T, S, L, B, Nw, U, C, Kd), (fr, to, ln, aw), (su, ca, we, fa, sb, tb), (wk, nw, wo), (k0, k1, k2, k3, k4, k5), RE, BF, BK))) : la_At ω κ n pc lv (.ref (ad (21 + Kd)) :: st) (lb_W ω.2.2 ad ((P, R, T, S, L, B, Nw, U, C, Kd), (fr, to, ln, aw), (su, ca, we, fa, sb, tb), (wk, nw, wo), (k0, k1, k2, k3, k4, k5), RE, BF, BK)) := by
  have h4 : Kd = 0 ∨ Kd = 1 ∨ Kd = 2 ∨ Kd = 3 := by omega
  rcases h4 with rfl | rfl | rfl | rfl
  · exact la_callOp K oo_kind_0 hlink (As := []) lb_kind0 21 rfl rfl rfl hlv rfl hw hR hf hd kk
  · exact la_callOp K oo_kind_1 hlink (As := []) lb_kind1 22 rfl rfl rfl hlv rfl hw hR hf hd kk
  · exact la_callOp K oo_kind_2 hlink (As := []) lb_kind2 23 rfl rfl rfl hlv rfl hw hR hf hd kk
  · exact la_callOp K oo_kind_3 hlink (As := []) lb_kind3 24 rfl rfl rfl hlv rfl hw hR hf hd kk
set_option maxHeartbeats 4000000 in
theorem lb_about (x : Int32) (hKd : Kd < 4) (hP : P ≤ 6) (haw : ∀ b, b < P → aw b ≤ 1000000) : la_CP ω yX0_about cX0_about 2 (some .int) (la_rm 2) [.ref (ad 0), .int x] (lb_W ω.2.2 ad ((P, R, T, S, L, B, Nw, U, C, Kd), (fr, to, ln, aw), (su, ca, we, fa, sb, tb), (wk, nw, wo), (k0, k1, k2, k3, k4, k5), RE, BF, BK)) (lp_abA P R L C Kd (lp_b (lp_torn0 1000000 P aw)) x) := by
  refine la_CI_of (by decide) [some (.ref (ad 0)), some (.int (x))] rfl rfl (Nat.le_of_ble_eq_true rfl) ?_
  intro κ K hret
  refine la_iload_n K dX0_about_0 rfl ?_
  by_cases hx : lp_inI x 0 5
  · obtain ⟨k, -, hk, rfl⟩ := lp_inI_N hx (by decide)
    have hk6 : k = 0 ∨ k = 1 ∨ k = 2 ∨ k = 3 ∨ k = 4 ∨ k = 5 := by omega
    rcases hk6 with rfl | rfl | rfl | rfl | rfl | rfl
    · refine la_tabIn K 40 dX0_about_1 (by decide +kernel) (by decide +kernel) rfl rfl ?_
      refine la_aload_n K dX0_about_40 rfl ?_
      refine lb_g_P K q124 dX0_about_41 ?_
      exact hret _ _ _ () dX0_about_44 (by unfold lp_abA; simp [la_nnI])
    · refine la_tabIn K 45 dX0_about_1 (by decide +kernel) (by decide +kernel) rfl rfl ?_
      refine la_aload_n K dX0_about_45 rfl ?_
      refine lb_g_R K q125 dX0_about_46 ?_
      exact hret _ _ _ () dX0_about_49 (by unfold lp_abA; simp [la_nnI])
    · refine la_tabIn K 50 dX0_about_1 (by decide +kernel) (by decide +kernel) rfl rfl ?_
      refine la_aload_n K dX0_about_50 rfl ?_
      refine lb_g_L K q140 dX0_about_51 ?_
      exact hret _ _ _ () dX0_about_54 (by unfold lp_abA; simp [la_nnI])
    · refine la_tabIn K 55 dX0_about_1 (by decide +kernel) (by decide +kernel) rfl rfl ?_
      refine la_aload_n K dX0_about_55 rfl ?_
      refine lb_g_C K q152 dX0_about_56 ?_
      exact hret _ _ _ () dX0_about_59 (by unfold lp_abA; simp [la_nnI])
    · refine la_tabIn K 60 dX0_about_1 (by decide +kernel) (by decide +kernel) rfl rfl ?_
      refine la_aload_n K dX0_about_60 rfl ?_
      refine lb_g_Kd K q160 dX0_about_61 ?_
      refine lb_r_kind K hKd q300 rfl (Nat.le_of_ble_eq_true rfl) ⟨Nat.le_of_ble_eq_true rfl, Nat.le_of_ble_eq_true rfl⟩ ⟨Nat.zero_le _, Nat.zero_le _⟩ dX0_about_64 ?_
      exact hret _ _ _ () dX0_about_67 (by unfold lp_abA; simp [la_nnI])
    · refine la_tabIn K 68 dX0_about_1 (by decide +kernel) (by decide +kernel) rfl rfl ?_
      refine la_aload_n K dX0_about_68 rfl ?_
      refine la_callVp K ok_X0_areTorn q284 (lb_areTorn hP haw) 0 rfl rfl rfl rfl rfl (Nat.le_of_ble_eq_true rfl) ⟨Nat.le_of_ble_eq_true rfl, Nat.le_of_ble_eq_true rfl⟩ ⟨Nat.zero_le _, Nat.zero_le _⟩ dX0_about_69 ?_
      refine la_if_eqB K 79 dX0_about_72 rfl (fun h72 => ?_) (fun h72 => ?_)
      · refine la_iconst K dX0_about_79 la_ki_0 ?_
        exact hret _ _ _ () dX0_about_80 (by rw [lp_b_f h72]; unfold lp_abA; simp [la_nnI])
      · refine la_iconst K dX0_about_75 la_ki_1 ?_
        refine la_goto K 80 dX0_about_76 rfl ?_
        exact hret _ _ _ () dX0_about_80 (by rw [lp_b_t h72]; unfold lp_abA; simp [la_nnI])
  · refine la_tabOut K 81 dX0_about_1 (by unfold lp_inI at hx; omega) rfl ?_
    refine la_iconst K dX0_about_81 la_ki_m1 ?_
    exact hret _ _ _ () dX0_about_82 (lp_abA_out hx).symm
set_option maxHeartbeats 4000000 in
theorem lb_rule (x : Int32) (hKd : Kd < 4) : la_CI ω yX0_rule cX0_rule 3 (some .int) (la_rm 1) [.ref (ad 0), .int x] (lb_W ω.2.2 ad ((P, R, T, S, L, B, Nw, U, C, Kd), (fr, to, ln, aw), (su, ca, we, fa, sb, tb), (wk, nw, wo), (k0, k1, k2, k3, k4, k5), RE, BF, BK)) (lb_W ω.2.2 ad) (fun (r : Int32) (u : lb_S) => (¬ lp_inI x 0 3 ∧ r = -1 ∧ u = ((P, R, T, S, L, B, Nw, U, C, Kd), (fr, to, ln, aw), (su, ca, we, fa, sb, tb), (wk, nw, wo), (k0, k1, k2, k3, k4, k5), RE, BF, BK)) ∨ (∃ k, x = nI k ∧ k < 4 ∧ r = nI Kd ∧ u = ((P, R, T, S, L, B, Nw, U, C, k), (fr, to, ln, aw), (su, ca, we, fa, sb, tb), (wk, nw, wo), (k0, k1, k2, k3, k4, k5), RE, BF, BK))) := by
  refine la_CI_of (by decide) [some (.ref (ad 0)), some (.int (x)), none] rfl rfl (Nat.le_of_ble_eq_true rfl) ?_
  intro κ K hret
  refine la_iload_n K dX0_rule_0 rfl ?_
  refine la_iconst K dX0_rule_1 la_ki_0 ?_
  refine la_iconst K dX0_rule_2 la_ki_3 ?_
  refine la_callSp K ok_X0_in q258 (lb_in _ _ _ _) rfl rfl rfl (Nat.le_of_ble_eq_true rfl) ⟨Nat.le_of_ble_eq_true rfl, Nat.le_of_ble_eq_true rfl⟩ ⟨Nat.zero_le _, Nat.zero_le _⟩ dX0_rule_3 ?_
  refine la_if_neC K 11 dX0_rule_6 rfl (fun h6 => ?_) (fun h6 => ?_)
  · have hx0 := (lp_intsC0 x (by decide)).mp h6
    obtain ⟨k, -, hk, rfl⟩ := lp_inI_N hx0 (by decide)
    refine la_aload_n K dX0_rule_11 rfl ?_
    refine lb_g_Kd K q160 dX0_rule_12 ?_
    refine lb_r_kind K hKd q300 rfl (Nat.le_of_ble_eq_true rfl) ⟨Nat.le_of_ble_eq_true rfl, Nat.le_of_ble_eq_true rfl⟩ ⟨Nat.zero_le _, Nat.zero_le _⟩ dX0_rule_15 ?_
    refine la_istore2 K dX0_rule_18 rfl ?_
    refine la_aload_n K dX0_rule_19 rfl ?_
    refine la_aload_n K dX0_rule_20 rfl ?_
    refine lb_g_c20 K q159 dX0_rule_21 ?_
    refine la_iload_n K dX0_rule_24 rfl ?_
    refine lb_ld_rules K (by omega) dX0_rule_25 ?_
    refine lb_p_Kd K q160 dX0_rule_26 ?_
    refine la_iload_n K dX0_rule_29 rfl ?_
    exact hret _ _ _ _ dX0_rule_30 (Or.inr ⟨k, rfl, by omega, rfl, rfl⟩)
  · refine la_iconst K dX0_rule_9 la_ki_m1 ?_
    exact hret _ _ _ _ dX0_rule_10 (Or.inl ⟨fun z => h6 ((lp_intsC0 x (by decide)).mpr z), rfl, rfl⟩)
end LC6
