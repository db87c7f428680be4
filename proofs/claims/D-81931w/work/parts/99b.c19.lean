/-! bookOf, putIn, itemOf. Printed by c19.py. -/
theorem lb_pv0 (v : Int64) : (lp_pv 0 v).toInt32 = v.toInt32.toInt8.toInt32.toInt8.toInt32 := by
  show v.toInt32.toInt8.toInt32.toInt64.toInt32 = _
  simp
theorem lb_pv1 (v : Int64) : (lp_pv 1 v).toInt32 = v.toInt32.toInt16.toInt32.toInt16.toInt32 := by
  show v.toInt32.toInt16.toInt32.toInt64.toInt32 = _
  simp
theorem lb_pv2 (v : Int64) : (lp_pv 2 v).toInt32 = v.toInt32 := by
  show v.toInt32.toInt64.toInt32 = _
  simp
theorem lb_dat_up0 {E : Nat → ClassId} {m i : Nat} {c : Nat → Int64} {v : Int64} : lb_dat E 0 m (va_up c i (lp_pv 0 v)) = .inl (E 3, m, .inl (va_up (fun i => (c i).toInt32) i (v.toInt32.toInt8.toInt32.toInt8.toInt32))) := by
  show (.inl (E 3, m, .inl (fun j => (va_up c i (lp_pv 0 v) j).toInt32)) : va_E) = _
  congr 4
  funext j
  by_cases h : j = i
  · subst h
    rw [va_up_self, va_up_self]
    exact lb_pv0 v
  · rw [va_up_ne _ _ h, va_up_ne _ _ h]
theorem lb_dat_up1 {E : Nat → ClassId} {m i : Nat} {c : Nat → Int64} {v : Int64} : lb_dat E 1 m (va_up c i (lp_pv 1 v)) = .inl (E 4, m, .inl (va_up (fun i => (c i).toInt32) i (v.toInt32.toInt16.toInt32.toInt16.toInt32))) := by
  show (.inl (E 4, m, .inl (fun j => (va_up c i (lp_pv 1 v) j).toInt32)) : va_E) = _
  congr 4
  funext j
  by_cases h : j = i
  · subst h
    rw [va_up_self, va_up_self]
    exact lb_pv1 v
  · rw [va_up_ne _ _ h, va_up_ne _ _ h]
theorem lb_dat_up2 {E : Nat → ClassId} {m i : Nat} {c : Nat → Int64} {v : Int64} : lb_dat E 2 m (va_up c i (lp_pv 2 v)) = .inl (E 0, m, .inl (va_up (fun i => (c i).toInt32) i (v.toInt32))) := by
  show (.inl (E 0, m, .inl (fun j => (va_up c i (lp_pv 2 v) j).toInt32)) : va_E) = _
  congr 4
  funext j
  by_cases h : j = i
  · subst h
    rw [va_up_self, va_up_self]
    exact lb_pv2 v
  · rw [va_up_ne _ _ h, va_up_ne _ _ h]
theorem lb_dat_up3 {E : Nat → ClassId} {m i : Nat} {c : Nat → Int64} {v : Int64} : lb_dat E 3 m (va_up c i (lp_pv 3 v)) = .inl (E 2, m, .inr (.inl (va_up c i v))) := rfl
theorem lt_nc_7_8 : Cond.not (.castable "LadderCalls$Bytes" "LadderCalls$Shorts") ∈ flatC (Jvm.Cond.and given_1 narrow_1) := by decide +kernel
theorem lt_nc_7_9 : Cond.not (.castable "LadderCalls$Bytes" "LadderCalls$Ints") ∈ flatC (Jvm.Cond.and given_1 narrow_1) := by decide +kernel
theorem lt_nc_7_10 : Cond.not (.castable "LadderCalls$Bytes" "LadderCalls$Longs") ∈ flatC (Jvm.Cond.and given_1 narrow_1) := by decide +kernel
theorem lt_nc_8_7 : Cond.not (.castable "LadderCalls$Shorts" "LadderCalls$Bytes") ∈ flatC (Jvm.Cond.and given_1 narrow_1) := by decide +kernel
theorem lt_nc_8_9 : Cond.not (.castable "LadderCalls$Shorts" "LadderCalls$Ints") ∈ flatC (Jvm.Cond.and given_1 narrow_1) := by decide +kernel
theorem lt_nc_8_10 : Cond.not (.castable "LadderCalls$Shorts" "LadderCalls$Longs") ∈ flatC (Jvm.Cond.and given_1 narrow_1) := by decide +kernel
theorem lt_nc_9_7 : Cond.not (.castable "LadderCalls$Ints" "LadderCalls$Bytes") ∈ flatC (Jvm.Cond.and given_1 narrow_1) := by decide +kernel
theorem lt_nc_9_8 : Cond.not (.castable "LadderCalls$Ints" "LadderCalls$Shorts") ∈ flatC (Jvm.Cond.and given_1 narrow_1) := by decide +kernel
theorem lt_nc_9_10 : Cond.not (.castable "LadderCalls$Ints" "LadderCalls$Longs") ∈ flatC (Jvm.Cond.and given_1 narrow_1) := by decide +kernel
theorem lt_nc_10_7 : Cond.not (.castable "LadderCalls$Longs" "LadderCalls$Bytes") ∈ flatC (Jvm.Cond.and given_1 narrow_1) := by decide +kernel
theorem lt_nc_10_8 : Cond.not (.castable "LadderCalls$Longs" "LadderCalls$Shorts") ∈ flatC (Jvm.Cond.and given_1 narrow_1) := by decide +kernel
theorem lt_nc_10_9 : Cond.not (.castable "LadderCalls$Longs" "LadderCalls$Ints") ∈ flatC (Jvm.Cond.and given_1 narrow_1) := by decide +kernel
section LTE
variable {ω : la_O} {κ : la_K} {cc : ByteArray} {nL : Nat} {own : String} {R0 : Room} {n : Nat × Nat} {pc : Nat} {lv : List (Option Value)} {st rest : List Value} {ws : va_W} {ℓ : lb_L} {s s' N : Nat} {rows : Nat → lp_Row}
theorem la_newO (K : la_Cx ω κ cc nL own R0) {C : String} {T : u_T} {M ci i : Nat} (hin : ∀ w ∈ u_ws C T M, w ∈ lw_all) (ty0 : Nat → FieldType) (hty : ∀ k, k < M → parseFieldDescriptor (T k).2.2.1 = some (ty0 k)) (hl : Cond.classLink own i C ∈ lw_all) (h2 : Cond.instantiable C M ∈ lw_all) (h3 : Cond.initialized C ∈ lw_all) (hc : la_cl[ci]? = some (C, T, M)) {fs : List Value} (hfs : ∀ j, j < M → defaultValue (ty0 j) = vp_V fs j) (hf : n.1 + 1 ≤ R0.cells ∧ n.2 + M ≤ R0.slots) (hd : decode cc pc = .ok (.new i, 3)) (kk : ∀ q : Nat, la_At ω κ (n.1 + 1, n.2 + M) (pc + 3) lv (.ref q :: st) (ws ++ [(q, .inr (ci, fs))])) : la_At ω κ n pc lv st ws := by
  obtain ⟨hx, hb, hml, hown, hts, hK, hG, hA, hR, hlk⟩ := K
  subst hR
  intro H locs ls hP hD hS hl1
  exact va_new hx hb hts hin ty0 hty hown (hts _ hl) (hts _ h2) (hts _ h3) hK hP hD hS hA hc hfs hf.1 hf.2 hd (fun q H1 hP1 hD1 hS1 => kk q H1 locs ls hP1 hD1 hS1 hl1)
theorem la_castS (K : la_Cx ω κ cc nL own R0) {nm : String} {T : u_T} {M ci a i : Nat} {fs : List Value} (q0 : Nat) (he : ws[q0]? = some (a, .inr (ci, fs))) (hc : la_cl[ci]? = some (nm, T, M)) (hl : Cond.classLink own i nm ∈ lw_all) (hd : decode cc pc = .ok (.checkcast i, 3)) (kk : la_At ω κ n (pc + 3) lv (.ref a :: st) ws) : la_At ω κ n pc lv (.ref a :: st) ws := by
  obtain ⟨hx, hb, hml, hown, hts, hK, hG, hA, hR, hlk⟩ := K
  intro H locs ls hP hD hS hl1
  exact va_castS hx hb hown (hts _ hl) (hK.1 ci _ hc).2 (va_recv hK hP hc he) hd (kk H locs ls hP hD hS hl1)
theorem lb_set_two (ws : va_W) (a b a' : Nat × va_E) : ((ws ++ [a]) ++ [b]).set ws.length a' = ws ++ [a', b] := by
  rw [List.append_assoc, List.set_append_right _ _ (Nat.le_refl _), Nat.sub_self]
  rfl
theorem lb_bookOf (hoff : lt_off ω.1) (hs : s ≤ 3) {x : Int32} (hx4 : x ≤ nI 4) : lt_C ω yX0_bookOf cX0_bookOf 2 (some (.object "LadderCalls$Book")) [] (lt_rm 2 4 61) lt_Zs [.int (nI s), .int x] ws (fun w : va_W => w) (fun r w => (x < 0 ∧ r = .inr lt_nasN ∧ w = ws) ∨ ∃ M p b : Nat, M ≤ 4 ∧ x = nI M ∧ r = .inl (some (.ref p)) ∧ w = ws ++ [((p, .inr (6 + s, [.ref b])) : Nat × va_E), (b, .inl (ω.2.2 (lb_rc s), M, .inr (.inr (.inr (.inr (fun _ => none))))))]) := by
  refine lt_C_of [some (.int (nI s)), some (.int x)] rfl rfl (Nat.le_of_ble_eq_true rfl) ?_
  intro κ K hz hAs hnm htab hE
  refine la_iload_n K dX0_bookOf_0 rfl ?_
  have hc4 : s = 0 ∨ s = 1 ∨ s = 2 ∨ s = 3 := by omega
  rcases hc4 with rfl | rfl | rfl | rfl
  · refine la_tabIn K 28 dX0_bookOf_1 (by decide +kernel) (by decide +kernel) rfl rfl ?_
    refine la_newO K in_X7 tyX7 tyX7_ok q597 q598 q55 (ci := 6) rfl (fs := [.null]) (fun j hj => by rw [show j = 0 by omega]; rfl) ⟨Nat.le_of_ble_eq_true rfl, Nat.le_of_ble_eq_true rfl⟩ dX0_bookOf_28 (fun p => ?_)
    refine la_dup K dX0_bookOf_31 rfl ?_
    refine la_iload_n K dX0_bookOf_32 rfl ?_
    have he : (ws ++ [((p, .inr (6, [.null])) : Nat × va_E)])[ws.length]? = some (p, .inr (6, [.null])) := by rw [List.getElem?_append_right (Nat.le_refl _), Nat.sub_self]; rfl
    refine lt_at K (lb_X7_init hoff he hx4) lt_Zs_b (by decide) (lt_codeC K q601) (lt_invI (k := 1) (As := [.int x]) (rest := [.ref p]) K q599 q600 q601 rfl (by decide +kernel) rfl dX0_bookOf_33) dX0_bookOf_33 rfl (Nat.le_of_ble_eq_true rfl) ⟨Nat.le_of_ble_eq_true rfl, Nat.le_of_ble_eq_true rfl⟩ ⟨Nat.le_of_ble_eq_true rfl, Nat.le_of_ble_eq_true rfl⟩ (lt_Zs_at hz hAs) (fun v u h => ?_) (fun X u h => ?_)
    · rcases h with ⟨-, h, -⟩ | ⟨M, b, hM, rfl, h, rfl⟩
      · cases h
      · cases h
        rw [lb_set_two]
        exact hE.2.2.2.1 _ _ _ _ _ _ (Nat.le_of_ble_eq_true rfl) (Nat.le_of_ble_eq_true rfl) rfl dX0_bookOf_36 (Or.inr ⟨M, p, b, hM, rfl, rfl, rfl⟩)
    · rcases h with ⟨h0, h, rfl⟩ | ⟨M, b, hM, rfl, h, rfl⟩
      · cases h
        exact la_Th_drop (hE.2.2.2.2 _ _ _ _ ws (Nat.le_of_ble_eq_true rfl) (Nat.le_of_ble_eq_true rfl) rfl (Or.inl ⟨h0, rfl, rfl⟩))
      · cases h
  · refine la_tabIn K 37 dX0_bookOf_1 (by decide +kernel) (by decide +kernel) rfl rfl ?_
    refine la_newO K in_X8 tyX8 tyX8_ok q613 q614 q56 (ci := 7) rfl (fs := [.null]) (fun j hj => by rw [show j = 0 by omega]; rfl) ⟨Nat.le_of_ble_eq_true rfl, Nat.le_of_ble_eq_true rfl⟩ dX0_bookOf_37 (fun p => ?_)
    refine la_dup K dX0_bookOf_40 rfl ?_
    refine la_iload_n K dX0_bookOf_41 rfl ?_
    have he : (ws ++ [((p, .inr (7, [.null])) : Nat × va_E)])[ws.length]? = some (p, .inr (7, [.null])) := by rw [List.getElem?_append_right (Nat.le_refl _), Nat.sub_self]; rfl
    refine lt_at K (lb_X8_init hoff he hx4) lt_Zs_b (by decide) (lt_codeC K q617) (lt_invI (k := 1) (As := [.int x]) (rest := [.ref p]) K q615 q616 q617 rfl (by decide +kernel) rfl dX0_bookOf_42) dX0_bookOf_42 rfl (Nat.le_of_ble_eq_true rfl) ⟨Nat.le_of_ble_eq_true rfl, Nat.le_of_ble_eq_true rfl⟩ ⟨Nat.le_of_ble_eq_true rfl, Nat.le_of_ble_eq_true rfl⟩ (lt_Zs_at hz hAs) (fun v u h => ?_) (fun X u h => ?_)
    · rcases h with ⟨-, h, -⟩ | ⟨M, b, hM, rfl, h, rfl⟩
      · cases h
      · cases h
        rw [lb_set_two]
        exact hE.2.2.2.1 _ _ _ _ _ _ (Nat.le_of_ble_eq_true rfl) (Nat.le_of_ble_eq_true rfl) rfl dX0_bookOf_45 (Or.inr ⟨M, p, b, hM, rfl, rfl, rfl⟩)
    · rcases h with ⟨h0, h, rfl⟩ | ⟨M, b, hM, rfl, h, rfl⟩
      · cases h
        exact la_Th_drop (hE.2.2.2.2 _ _ _ _ ws (Nat.le_of_ble_eq_true rfl) (Nat.le_of_ble_eq_true rfl) rfl (Or.inl ⟨h0, rfl, rfl⟩))
      · cases h
  · refine la_tabIn K 46 dX0_bookOf_1 (by decide +kernel) (by decide +kernel) rfl rfl ?_
    refine la_newO K in_X9 tyX9 tyX9_ok q626 q627 q57 (ci := 8) rfl (fs := [.null]) (fun j hj => by rw [show j = 0 by omega]; rfl) ⟨Nat.le_of_ble_eq_true rfl, Nat.le_of_ble_eq_true rfl⟩ dX0_bookOf_46 (fun p => ?_)
    refine la_dup K dX0_bookOf_49 rfl ?_
    refine la_iload_n K dX0_bookOf_50 rfl ?_
    have he : (ws ++ [((p, .inr (8, [.null])) : Nat × va_E)])[ws.length]? = some (p, .inr (8, [.null])) := by rw [List.getElem?_append_right (Nat.le_refl _), Nat.sub_self]; rfl
    refine lt_at K (lb_X9_init hoff he hx4) lt_Zs_b (by decide) (lt_codeC K q630) (lt_invI (k := 1) (As := [.int x]) (rest := [.ref p]) K q628 q629 q630 rfl (by decide +kernel) rfl dX0_bookOf_51) dX0_bookOf_51 rfl (Nat.le_of_ble_eq_true rfl) ⟨Nat.le_of_ble_eq_true rfl, Nat.le_of_ble_eq_true rfl⟩ ⟨Nat.le_of_ble_eq_true rfl, Nat.le_of_ble_eq_true rfl⟩ (lt_Zs_at hz hAs) (fun v u h => ?_) (fun X u h => ?_)
    · rcases h with ⟨-, h, -⟩ | ⟨M, b, hM, rfl, h, rfl⟩
      · cases h
      · cases h
        rw [lb_set_two]
        exact hE.2.2.2.1 _ _ _ _ _ _ (Nat.le_of_ble_eq_true rfl) (Nat.le_of_ble_eq_true rfl) rfl dX0_bookOf_54 (Or.inr ⟨M, p, b, hM, rfl, rfl, rfl⟩)
    · rcases h with ⟨h0, h, rfl⟩ | ⟨M, b, hM, rfl, h, rfl⟩
      · cases h
        exact la_Th_drop (hE.2.2.2.2 _ _ _ _ ws (Nat.le_of_ble_eq_true rfl) (Nat.le_of_ble_eq_true rfl) rfl (Or.inl ⟨h0, rfl, rfl⟩))
      · cases h
  · refine la_tabOut K 55 dX0_bookOf_1 (by decide +kernel) rfl ?_
    refine la_newO K in_X10 tyX10 tyX10_ok q638 q639 q58 (ci := 9) rfl (fs := [.null]) (fun j hj => by rw [show j = 0 by omega]; rfl) ⟨Nat.le_of_ble_eq_true rfl, Nat.le_of_ble_eq_true rfl⟩ dX0_bookOf_55 (fun p => ?_)
    refine la_dup K dX0_bookOf_58 rfl ?_
    refine la_iload_n K dX0_bookOf_59 rfl ?_
    have he : (ws ++ [((p, .inr (9, [.null])) : Nat × va_E)])[ws.length]? = some (p, .inr (9, [.null])) := by rw [List.getElem?_append_right (Nat.le_refl _), Nat.sub_self]; rfl
    refine lt_at K (lb_X10_init hoff he hx4) lt_Zs_b (by decide) (lt_codeC K q642) (lt_invI (k := 1) (As := [.int x]) (rest := [.ref p]) K q640 q641 q642 rfl (by decide +kernel) rfl dX0_bookOf_60) dX0_bookOf_60 rfl (Nat.le_of_ble_eq_true rfl) ⟨Nat.le_of_ble_eq_true rfl, Nat.le_of_ble_eq_true rfl⟩ ⟨Nat.le_of_ble_eq_true rfl, Nat.le_of_ble_eq_true rfl⟩ (lt_Zs_at hz hAs) (fun v u h => ?_) (fun X u h => ?_)
    · rcases h with ⟨-, h, -⟩ | ⟨M, b, hM, rfl, h, rfl⟩
      · cases h
      · cases h
        rw [lb_set_two]
        exact hE.2.2.2.1 _ _ _ _ _ _ (Nat.le_of_ble_eq_true rfl) (Nat.le_of_ble_eq_true rfl) rfl dX0_bookOf_63 (Or.inr ⟨M, p, b, hM, rfl, rfl, rfl⟩)
    · rcases h with ⟨h0, h, rfl⟩ | ⟨M, b, hM, rfl, h, rfl⟩
      · cases h
        exact la_Th_drop (hE.2.2.2.2 _ _ _ _ ws (Nat.le_of_ble_eq_true rfl) (Nat.le_of_ble_eq_true rfl) rfl (Or.inl ⟨h0, rfl, rfl⟩))
      · cases h
theorem lb_putIn0 (hoff : lt_off ω.1) (hs : s ≤ 3) (r i : Int32) (v : Int64) : lt_C ω yX0_putIn cX0_putIn 10 none [] (lt_rm 0 3 1010) lt_Zs [.null, .int (nI s), .int r, .int i, .long v] ws (fun _ : Unit => ws) (fun o _ => o = .inr lt_NPE) := by
  refine lt_C_of [some (.null), some (.int (nI s)), some (.int r), some (.int i), some (.long v), none, none, none, none, none] rfl rfl (Nat.le_of_ble_eq_true rfl) ?_
  intro κ K hz hAs hnm htab hE
  refine la_iload_n K dX0_putIn_0 rfl ?_
  have hc4 : s = 0 ∨ s = 1 ∨ s = 2 ∨ s = 3 := by omega
  rcases hc4 with rfl | rfl | rfl | rfl
  · refine la_tabIn K 28 dX0_putIn_1 (by decide +kernel) (by decide +kernel) rfl rfl ?_
    refine la_aload_n0 K dX0_putIn_28 rfl ?_
    refine la_castN K dX0_putIn_29 ?_
    exact la_xgetfN0 K ⟨hz, hAs, hoff⟩ rfl (Nat.zero_le _) (lt_rm_ok _ _ _) ⟨Nat.le_of_ble_eq_true rfl, Nat.le_of_ble_eq_true rfl⟩ in_X7 0 (ci := 6) rfl (by decide) q609 rfl dX0_putIn_32 (hE.2.2.2.2 _ _ _ _ () (Nat.le_of_ble_eq_true rfl) (Nat.le_of_ble_eq_true rfl) rfl rfl)
  · refine la_tabIn K 50 dX0_putIn_1 (by decide +kernel) (by decide +kernel) rfl rfl ?_
    refine la_aload_n0 K dX0_putIn_50 rfl ?_
    refine la_castN K dX0_putIn_51 ?_
    exact la_xgetfN0 K ⟨hz, hAs, hoff⟩ rfl (Nat.zero_le _) (lt_rm_ok _ _ _) ⟨Nat.le_of_ble_eq_true rfl, Nat.le_of_ble_eq_true rfl⟩ in_X8 0 (ci := 7) rfl (by decide) q622 rfl dX0_putIn_54 (hE.2.2.2.2 _ _ _ _ () (Nat.le_of_ble_eq_true rfl) (Nat.le_of_ble_eq_true rfl) rfl rfl)
  · refine la_tabIn K 72 dX0_putIn_1 (by decide +kernel) (by decide +kernel) rfl rfl ?_
    refine la_aload_n0 K dX0_putIn_72 rfl ?_
    refine la_castN K dX0_putIn_73 ?_
    exact la_xgetfN0 K ⟨hz, hAs, hoff⟩ rfl (Nat.zero_le _) (lt_rm_ok _ _ _) ⟨Nat.le_of_ble_eq_true rfl, Nat.le_of_ble_eq_true rfl⟩ in_X9 0 (ci := 8) rfl (by decide) q634 rfl dX0_putIn_76 (hE.2.2.2.2 _ _ _ _ () (Nat.le_of_ble_eq_true rfl) (Nat.le_of_ble_eq_true rfl) rfl rfl)
  · refine la_tabOut K 93 dX0_putIn_1 (by decide +kernel) rfl ?_
    refine la_aload_n0 K dX0_putIn_93 rfl ?_
    refine la_castN K dX0_putIn_94 ?_
    exact la_xgetfN0 K ⟨hz, hAs, hoff⟩ rfl (Nat.zero_le _) (lt_rm_ok _ _ _) ⟨Nat.le_of_ble_eq_true rfl, Nat.le_of_ble_eq_true rfl⟩ in_X10 0 (ci := 9) rfl (by decide) q647 rfl dX0_putIn_97 (hE.2.2.2.2 _ _ _ _ () (Nat.le_of_ble_eq_true rfl) (Nat.le_of_ble_eq_true rfl) rfl rfl)
theorem lb_putIn1 (hoff : lt_off ω.1) (hs : s ≤ 3) (hB : lb_B1 ω.2.2 ws s' N rows ℓ) (r i : Int32) (v : Int64) : lt_C ω yX0_putIn cX0_putIn 10 none [] (lt_rm 0 3 1010) lt_Zs [.ref ℓ.1.2, .int (nI s), .int r, .int i, .long v] ws (fun w : va_W => w) (fun o w => (s' ≠ s ∧ o = .inr lt_cceN ∧ w = ws) ∨ (s' = s ∧ ∃ X, lp_gtA rows N r i = .inr X ∧ o = .inr X ∧ w = ws) ∨ (s' = s ∧ ∃ (k m ki : Nat) (c : Nat → Int64), r = nI k ∧ k < N ∧ rows k = some (m, c) ∧ i = nI ki ∧ ki < m ∧ o = .inl none ∧ w = ws.set (ℓ.2.2 k).1 ((ℓ.2.2 k).2, lb_dat ω.2.2 s m (va_up c ki (lp_pv s v))))) := by
  refine lt_C_of [some (.ref ℓ.1.2), some (.int (nI s)), some (.int r), some (.int i), some (.long v), none, none, none, none, none] rfl rfl (Nat.le_of_ble_eq_true rfl) ?_
  intro κ K hz hAs hnm htab hE
  have hN := hB.2.1
  have hs1 := hB.1
  refine la_iload_n K dX0_putIn_0 rfl ?_
  have hc4 : s = 0 ∨ s = 1 ∨ s = 2 ∨ s = 3 := by omega
  have hc5 : s' = 0 ∨ s' = 1 ∨ s' = 2 ∨ s' = 3 := by omega
  rcases hc4 with rfl | rfl | rfl | rfl
  · refine la_tabIn K 28 dX0_putIn_1 (by decide +kernel) (by decide +kernel) rfl rfl ?_
    refine la_aload_n K dX0_putIn_28 rfl ?_
    rcases hc5 with rfl | rfl | rfl | rfl
    · refine la_castS K ℓ.1.1 hB.2.2.1 rfl q597 dX0_putIn_29 ?_
      refine la_getfN K in_X7 ℓ.1.1 0 hB.2.2.1 rfl (by decide) q609 rfl rfl dX0_putIn_32 ?_
      refine la_astore6 K dX0_putIn_35 rfl ?_
      refine la_aload K dX0_putIn_37 rfl ?_
      refine la_iload_n K dX0_putIn_39 rfl ?_
      by_cases h0 : lp_in r N
      · obtain ⟨k, hk, rfl⟩ := lp_in_N h0 (by omega)
        refine la_aaldR K ℓ.2.1.1 8 hB.2.2.2.1 rfl rfl (by omega) hk dX0_putIn_40 ?_
        refine la_iload_n K dX0_putIn_41 rfl ?_
        refine la_lload K dX0_putIn_42 rfl ?_
        refine la_l2i K dX0_putIn_44 rfl ?_
        refine la_i2b K dX0_putIn_45 rfl ?_
        rcases h1 : rows k with _ | ⟨m, c⟩
        · have e0 : lb_gg ℓ rows k = none := by unfold lb_gg; rw [h1]; rfl
          rw [e0]
          exact la_xbast0 K ⟨hz, hAs, hoff⟩ rfl (Nat.le_of_ble_eq_true rfl) (lt_rm_ok _ _ _) ⟨Nat.le_of_ble_eq_true rfl, Nat.le_of_ble_eq_true rfl⟩ dX0_putIn_46 (hE.2.2.2.2 _ _ _ _ ws (Nat.le_of_ble_eq_true rfl) (Nat.le_of_ble_eq_true rfl) rfl (Or.inr (Or.inl ⟨rfl, _, lp_gtA_npe hk hN h1, rfl, rfl⟩)))
        · have e0 : lb_gg ℓ rows k = some (ℓ.2.2 k).2 := by unfold lb_gg; rw [h1]; rfl
          rw [e0]
          obtain ⟨e2, e3, e4⟩ := hB.2.2.2.2 k m c hk h1
          by_cases h4 : lp_in i m
          · obtain ⟨ki, hki, rfl⟩ := lp_in_N h4 (by omega)
            refine la_bast K (ℓ.2.2 k).1 e4 (by omega) hki dX0_putIn_46 ?_
            refine la_goto K 110 dX0_putIn_47 rfl ?_
            have e9 := hE.2.2.1 (0, 0) 110 [some (.ref ℓ.1.2), some (.int (nI 0)), some (.int (nI k)), some (.int (nI ki)), some (.long v), none, some (.ref ℓ.2.1.2), none, none, none] _ (Nat.le_of_ble_eq_true rfl) (Nat.le_of_ble_eq_true rfl) rfl dX0_putIn_110 (Or.inr (Or.inr ⟨rfl, k, m, ki, c, rfl, hk, h1, rfl, hki, rfl, rfl⟩))
            rw [lb_dat_up0] at e9
            exact e9
          · exact la_xbastO K ⟨hz, hAs, hoff⟩ rfl (Nat.le_of_ble_eq_true rfl) (lt_rm_ok _ _ _) ⟨Nat.le_of_ble_eq_true rfl, Nat.le_of_ble_eq_true rfl⟩ (ℓ.2.2 k).1 3 e4 rfl (by omega) h4 dX0_putIn_46 (hE.2.2.2.2 _ _ _ _ ws (Nat.le_of_ble_eq_true rfl) (Nat.le_of_ble_eq_true rfl) rfl (Or.inr (Or.inl ⟨rfl, _, lp_gtA_i hk hN h1 h4, rfl, rfl⟩)))
      · exact la_xaaldO K ⟨hz, hAs, hoff⟩ rfl (Nat.le_of_ble_eq_true rfl) (lt_rm_ok _ _ _) ⟨Nat.le_of_ble_eq_true rfl, Nat.le_of_ble_eq_true rfl⟩ ℓ.2.1.1 8 hB.2.2.2.1 rfl (by omega) h0 dX0_putIn_40 (hE.2.2.2.2 _ _ _ _ ws (Nat.le_of_ble_eq_true rfl) (Nat.le_of_ble_eq_true rfl) rfl (Or.inr (Or.inl ⟨rfl, _, lp_gtA_idx h0, rfl, rfl⟩)))
    · exact la_xcast K ⟨hz, hAs, hoff⟩ rfl (Nat.le_of_ble_eq_true rfl) (lt_rm_ok _ _ _) ⟨by show 0 + 3 ≤ 3; omega, by show 0 + 1010 ≤ 1010; omega⟩ ℓ.1.1 hB.2.2.1 rfl lt_nc_8_7 (by decide) (by decide) q597 dX0_putIn_29 (hE.2.2.2.2 _ _ _ _ ws (by show 0 + 3 ≤ 3; omega) (by show 0 + 1010 ≤ 1010; omega) rfl (Or.inl ⟨by decide, rfl, rfl⟩))
    · exact la_xcast K ⟨hz, hAs, hoff⟩ rfl (Nat.le_of_ble_eq_true rfl) (lt_rm_ok _ _ _) ⟨by show 0 + 3 ≤ 3; omega, by show 0 + 1010 ≤ 1010; omega⟩ ℓ.1.1 hB.2.2.1 rfl lt_nc_9_7 (by decide) (by decide) q597 dX0_putIn_29 (hE.2.2.2.2 _ _ _ _ ws (by show 0 + 3 ≤ 3; omega) (by show 0 + 1010 ≤ 1010; omega) rfl (Or.inl ⟨by decide, rfl, rfl⟩))
    · exact la_xcast K ⟨hz, hAs, hoff⟩ rfl (Nat.le_of_ble_eq_true rfl) (lt_rm_ok _ _ _) ⟨by show 0 + 3 ≤ 3; omega, by show 0 + 1010 ≤ 1010; omega⟩ ℓ.1.1 hB.2.2.1 rfl lt_nc_10_7 (by decide) (by decide) q597 dX0_putIn_29 (hE.2.2.2.2 _ _ _ _ ws (by show 0 + 3 ≤ 3; omega) (by show 0 + 1010 ≤ 1010; omega) rfl (Or.inl ⟨by decide, rfl, rfl⟩))
  · refine la_tabIn K 50 dX0_putIn_1 (by decide +kernel) (by decide +kernel) rfl rfl ?_
    refine la_aload_n K dX0_putIn_50 rfl ?_
    rcases hc5 with rfl | rfl | rfl | rfl
    · exact la_xcast K ⟨hz, hAs, hoff⟩ rfl (Nat.le_of_ble_eq_true rfl) (lt_rm_ok _ _ _) ⟨by show 0 + 3 ≤ 3; omega, by show 0 + 1010 ≤ 1010; omega⟩ ℓ.1.1 hB.2.2.1 rfl lt_nc_7_8 (by decide) (by decide) q613 dX0_putIn_51 (hE.2.2.2.2 _ _ _ _ ws (by show 0 + 3 ≤ 3; omega) (by show 0 + 1010 ≤ 1010; omega) rfl (Or.inl ⟨by decide, rfl, rfl⟩))
    · refine la_castS K ℓ.1.1 hB.2.2.1 rfl q613 dX0_putIn_51 ?_
      refine la_getfN K in_X8 ℓ.1.1 0 hB.2.2.1 rfl (by decide) q622 rfl rfl dX0_putIn_54 ?_
      refine la_astore7 K dX0_putIn_57 rfl ?_
      refine la_aload K dX0_putIn_59 rfl ?_
      refine la_iload_n K dX0_putIn_61 rfl ?_
      by_cases h0 : lp_in r N
      · obtain ⟨k, hk, rfl⟩ := lp_in_N h0 (by omega)
        refine la_aaldR K ℓ.2.1.1 9 hB.2.2.2.1 rfl rfl (by omega) hk dX0_putIn_62 ?_
        refine la_iload_n K dX0_putIn_63 rfl ?_
        refine la_lload K dX0_putIn_64 rfl ?_
        refine la_l2i K dX0_putIn_66 rfl ?_
        refine la_i2s K dX0_putIn_67 rfl ?_
        rcases h1 : rows k with _ | ⟨m, c⟩
        · have e0 : lb_gg ℓ rows k = none := by unfold lb_gg; rw [h1]; rfl
          rw [e0]
          exact la_xsast0 K ⟨hz, hAs, hoff⟩ rfl (Nat.le_of_ble_eq_true rfl) (lt_rm_ok _ _ _) ⟨Nat.le_of_ble_eq_true rfl, Nat.le_of_ble_eq_true rfl⟩ dX0_putIn_68 (hE.2.2.2.2 _ _ _ _ ws (Nat.le_of_ble_eq_true rfl) (Nat.le_of_ble_eq_true rfl) rfl (Or.inr (Or.inl ⟨rfl, _, lp_gtA_npe hk hN h1, rfl, rfl⟩)))
        · have e0 : lb_gg ℓ rows k = some (ℓ.2.2 k).2 := by unfold lb_gg; rw [h1]; rfl
          rw [e0]
          obtain ⟨e2, e3, e4⟩ := hB.2.2.2.2 k m c hk h1
          by_cases h4 : lp_in i m
          · obtain ⟨ki, hki, rfl⟩ := lp_in_N h4 (by omega)
            refine la_sast K (ℓ.2.2 k).1 e4 (by omega) hki dX0_putIn_68 ?_
            refine la_goto K 110 dX0_putIn_69 rfl ?_
            have e9 := hE.2.2.1 (0, 0) 110 [some (.ref ℓ.1.2), some (.int (nI 1)), some (.int (nI k)), some (.int (nI ki)), some (.long v), none, none, some (.ref ℓ.2.1.2), none, none] _ (Nat.le_of_ble_eq_true rfl) (Nat.le_of_ble_eq_true rfl) rfl dX0_putIn_110 (Or.inr (Or.inr ⟨rfl, k, m, ki, c, rfl, hk, h1, rfl, hki, rfl, rfl⟩))
            rw [lb_dat_up1] at e9
            exact e9
          · exact la_xsastO K ⟨hz, hAs, hoff⟩ rfl (Nat.le_of_ble_eq_true rfl) (lt_rm_ok _ _ _) ⟨Nat.le_of_ble_eq_true rfl, Nat.le_of_ble_eq_true rfl⟩ (ℓ.2.2 k).1 4 e4 rfl (by omega) h4 dX0_putIn_68 (hE.2.2.2.2 _ _ _ _ ws (Nat.le_of_ble_eq_true rfl) (Nat.le_of_ble_eq_true rfl) rfl (Or.inr (Or.inl ⟨rfl, _, lp_gtA_i hk hN h1 h4, rfl, rfl⟩)))
      · exact la_xaaldO K ⟨hz, hAs, hoff⟩ rfl (Nat.le_of_ble_eq_true rfl) (lt_rm_ok _ _ _) ⟨Nat.le_of_ble_eq_true rfl, Nat.le_of_ble_eq_true rfl⟩ ℓ.2.1.1 9 hB.2.2.2.1 rfl (by omega) h0 dX0_putIn_62 (hE.2.2.2.2 _ _ _ _ ws (Nat.le_of_ble_eq_true rfl) (Nat.le_of_ble_eq_true rfl) rfl (Or.inr (Or.inl ⟨rfl, _, lp_gtA_idx h0, rfl, rfl⟩)))
    · exact la_xcast K ⟨hz, hAs, hoff⟩ rfl (Nat.le_of_ble_eq_true rfl) (lt_rm_ok _ _ _) ⟨by show 0 + 3 ≤ 3; omega, by show 0 + 1010 ≤ 1010; omega⟩ ℓ.1.1 hB.2.2.1 rfl lt_nc_9_8 (by decide) (by decide) q613 dX0_putIn_51 (hE.2.2.2.2 _ _ _ _ ws (by show 0 + 3 ≤ 3; omega) (by show 0 + 1010 ≤ 1010; omega) rfl (Or.inl ⟨by decide, rfl, rfl⟩))
    · exact la_xcast K ⟨hz, hAs, hoff⟩ rfl (Nat.le_of_ble_eq_true rfl) (lt_rm_ok _ _ _) ⟨by show 0 + 3 ≤ 3; omega, by show 0 + 1010 ≤ 1010; omega⟩ ℓ.1.1 hB.2.2.1 rfl lt_nc_10_8 (by decide) (by decide) q613 dX0_putIn_51 (hE.2.2.2.2 _ _ _ _ ws (by show 0 + 3 ≤ 3; omega) (by show 0 + 1010 ≤ 1010; omega) rfl (Or.inl ⟨by decide, rfl, rfl⟩))
  · refine la_tabIn K 72 dX0_putIn_1 (by decide +kernel) (by decide +kernel) rfl rfl ?_
    refine la_aload_n K dX0_putIn_72 rfl ?_
    rcases hc5 with rfl | rfl | rfl | rfl
    · exact la_xcast K ⟨hz, hAs, hoff⟩ rfl (Nat.le_of_ble_eq_true rfl) (lt_rm_ok _ _ _) ⟨by show 0 + 3 ≤ 3; omega, by show 0 + 1010 ≤ 1010; omega⟩ ℓ.1.1 hB.2.2.1 rfl lt_nc_7_9 (by decide) (by decide) q626 dX0_putIn_73 (hE.2.2.2.2 _ _ _ _ ws (by show 0 + 3 ≤ 3; omega) (by show 0 + 1010 ≤ 1010; omega) rfl (Or.inl ⟨by decide, rfl, rfl⟩))
    · exact la_xcast K ⟨hz, hAs, hoff⟩ rfl (Nat.le_of_ble_eq_true rfl) (lt_rm_ok _ _ _) ⟨by show 0 + 3 ≤ 3; omega, by show 0 + 1010 ≤ 1010; omega⟩ ℓ.1.1 hB.2.2.1 rfl lt_nc_8_9 (by decide) (by decide) q626 dX0_putIn_73 (hE.2.2.2.2 _ _ _ _ ws (by show 0 + 3 ≤ 3; omega) (by show 0 + 1010 ≤ 1010; omega) rfl (Or.inl ⟨by decide, rfl, rfl⟩))
    · refine la_castS K ℓ.1.1 hB.2.2.1 rfl q626 dX0_putIn_73 ?_
      refine la_getfN K in_X9 ℓ.1.1 0 hB.2.2.1 rfl (by decide) q634 rfl rfl dX0_putIn_76 ?_
      refine la_astore8 K dX0_putIn_79 rfl ?_
      refine la_aload K dX0_putIn_81 rfl ?_
      refine la_iload_n K dX0_putIn_83 rfl ?_
      by_cases h0 : lp_in r N
      · obtain ⟨k, hk, rfl⟩ := lp_in_N h0 (by omega)
        refine la_aaldR K ℓ.2.1.1 7 hB.2.2.2.1 rfl rfl (by omega) hk dX0_putIn_84 ?_
        refine la_iload_n K dX0_putIn_85 rfl ?_
        refine la_lload K dX0_putIn_86 rfl ?_
        refine la_l2i K dX0_putIn_88 rfl ?_
        rcases h1 : rows k with _ | ⟨m, c⟩
        · have e0 : lb_gg ℓ rows k = none := by unfold lb_gg; rw [h1]; rfl
          rw [e0]
          exact la_xiast0 K ⟨hz, hAs, hoff⟩ rfl (Nat.le_of_ble_eq_true rfl) (lt_rm_ok _ _ _) ⟨Nat.le_of_ble_eq_true rfl, Nat.le_of_ble_eq_true rfl⟩ dX0_putIn_89 (hE.2.2.2.2 _ _ _ _ ws (Nat.le_of_ble_eq_true rfl) (Nat.le_of_ble_eq_true rfl) rfl (Or.inr (Or.inl ⟨rfl, _, lp_gtA_npe hk hN h1, rfl, rfl⟩)))
        · have e0 : lb_gg ℓ rows k = some (ℓ.2.2 k).2 := by unfold lb_gg; rw [h1]; rfl
          rw [e0]
          obtain ⟨e2, e3, e4⟩ := hB.2.2.2.2 k m c hk h1
          by_cases h4 : lp_in i m
          · obtain ⟨ki, hki, rfl⟩ := lp_in_N h4 (by omega)
            refine la_irst K (ℓ.2.2 k).1 e4 (by omega) hki dX0_putIn_89 ?_
            refine la_goto K 110 dX0_putIn_90 rfl ?_
            have e9 := hE.2.2.1 (0, 0) 110 [some (.ref ℓ.1.2), some (.int (nI 2)), some (.int (nI k)), some (.int (nI ki)), some (.long v), none, none, none, some (.ref ℓ.2.1.2), none] _ (Nat.le_of_ble_eq_true rfl) (Nat.le_of_ble_eq_true rfl) rfl dX0_putIn_110 (Or.inr (Or.inr ⟨rfl, k, m, ki, c, rfl, hk, h1, rfl, hki, rfl, rfl⟩))
            rw [lb_dat_up2] at e9
            exact e9
          · exact la_xiastO K ⟨hz, hAs, hoff⟩ rfl (Nat.le_of_ble_eq_true rfl) (lt_rm_ok _ _ _) ⟨Nat.le_of_ble_eq_true rfl, Nat.le_of_ble_eq_true rfl⟩ (ℓ.2.2 k).1 0 e4 rfl (by omega) h4 dX0_putIn_89 (hE.2.2.2.2 _ _ _ _ ws (Nat.le_of_ble_eq_true rfl) (Nat.le_of_ble_eq_true rfl) rfl (Or.inr (Or.inl ⟨rfl, _, lp_gtA_i hk hN h1 h4, rfl, rfl⟩)))
      · exact la_xaaldO K ⟨hz, hAs, hoff⟩ rfl (Nat.le_of_ble_eq_true rfl) (lt_rm_ok _ _ _) ⟨Nat.le_of_ble_eq_true rfl, Nat.le_of_ble_eq_true rfl⟩ ℓ.2.1.1 7 hB.2.2.2.1 rfl (by omega) h0 dX0_putIn_84 (hE.2.2.2.2 _ _ _ _ ws (Nat.le_of_ble_eq_true rfl) (Nat.le_of_ble_eq_true rfl) rfl (Or.inr (Or.inl ⟨rfl, _, lp_gtA_idx h0, rfl, rfl⟩)))
    · exact la_xcast K ⟨hz, hAs, hoff⟩ rfl (Nat.le_of_ble_eq_true rfl) (lt_rm_ok _ _ _) ⟨by show 0 + 3 ≤ 3; omega, by show 0 + 1010 ≤ 1010; omega⟩ ℓ.1.1 hB.2.2.1 rfl lt_nc_10_9 (by decide) (by decide) q626 dX0_putIn_73 (hE.2.2.2.2 _ _ _ _ ws (by show 0 + 3 ≤ 3; omega) (by show 0 + 1010 ≤ 1010; omega) rfl (Or.inl ⟨by decide, rfl, rfl⟩))
  · refine la_tabOut K 93 dX0_putIn_1 (by decide +kernel) rfl ?_
    refine la_aload_n K dX0_putIn_93 rfl ?_
    rcases hc5 with rfl | rfl | rfl | rfl
    · exact la_xcast K ⟨hz, hAs, hoff⟩ rfl (Nat.le_of_ble_eq_true rfl) (lt_rm_ok _ _ _) ⟨by show 0 + 3 ≤ 3; omega, by show 0 + 1010 ≤ 1010; omega⟩ ℓ.1.1 hB.2.2.1 rfl lt_nc_7_10 (by decide) (by decide) q638 dX0_putIn_94 (hE.2.2.2.2 _ _ _ _ ws (by show 0 + 3 ≤ 3; omega) (by show 0 + 1010 ≤ 1010; omega) rfl (Or.inl ⟨by decide, rfl, rfl⟩))
    · exact la_xcast K ⟨hz, hAs, hoff⟩ rfl (Nat.le_of_ble_eq_true rfl) (lt_rm_ok _ _ _) ⟨by show 0 + 3 ≤ 3; omega, by show 0 + 1010 ≤ 1010; omega⟩ ℓ.1.1 hB.2.2.1 rfl lt_nc_8_10 (by decide) (by decide) q638 dX0_putIn_94 (hE.2.2.2.2 _ _ _ _ ws (by show 0 + 3 ≤ 3; omega) (by show 0 + 1010 ≤ 1010; omega) rfl (Or.inl ⟨by decide, rfl, rfl⟩))
    · exact la_xcast K ⟨hz, hAs, hoff⟩ rfl (Nat.le_of_ble_eq_true rfl) (lt_rm_ok _ _ _) ⟨by show 0 + 3 ≤ 3; omega, by show 0 + 1010 ≤ 1010; omega⟩ ℓ.1.1 hB.2.2.1 rfl lt_nc_9_10 (by decide) (by decide) q638 dX0_putIn_94 (hE.2.2.2.2 _ _ _ _ ws (by show 0 + 3 ≤ 3; omega) (by show 0 + 1010 ≤ 1010; omega) rfl (Or.inl ⟨by decide, rfl, rfl⟩))
    · refine la_castS K ℓ.1.1 hB.2.2.1 rfl q638 dX0_putIn_94 ?_
      refine la_getfN K in_X10 ℓ.1.1 0 hB.2.2.1 rfl (by decide) q647 rfl rfl dX0_putIn_97 ?_
      refine la_astore9 K dX0_putIn_100 rfl ?_
      refine la_aload K dX0_putIn_102 rfl ?_
      refine la_iload_n K dX0_putIn_104 rfl ?_
      by_cases h0 : lp_in r N
      · obtain ⟨k, hk, rfl⟩ := lp_in_N h0 (by omega)
        refine la_aaldR K ℓ.2.1.1 10 hB.2.2.2.1 rfl rfl (by omega) hk dX0_putIn_105 ?_
        refine la_iload_n K dX0_putIn_106 rfl ?_
        refine la_lload K dX0_putIn_107 rfl ?_
        rcases h1 : rows k with _ | ⟨m, c⟩
        · have e0 : lb_gg ℓ rows k = none := by unfold lb_gg; rw [h1]; rfl
          rw [e0]
          exact la_xlast0 K ⟨hz, hAs, hoff⟩ rfl (Nat.le_of_ble_eq_true rfl) (lt_rm_ok _ _ _) ⟨Nat.le_of_ble_eq_true rfl, Nat.le_of_ble_eq_true rfl⟩ dX0_putIn_109 (hE.2.2.2.2 _ _ _ _ ws (Nat.le_of_ble_eq_true rfl) (Nat.le_of_ble_eq_true rfl) rfl (Or.inr (Or.inl ⟨rfl, _, lp_gtA_npe hk hN h1, rfl, rfl⟩)))
        · have e0 : lb_gg ℓ rows k = some (ℓ.2.2 k).2 := by unfold lb_gg; rw [h1]; rfl
          rw [e0]
          obtain ⟨e2, e3, e4⟩ := hB.2.2.2.2 k m c hk h1
          by_cases h4 : lp_in i m
          · obtain ⟨ki, hki, rfl⟩ := lp_in_N h4 (by omega)
            refine la_last K (ℓ.2.2 k).1 e4 (by omega) hki dX0_putIn_109 ?_
            have e9 := hE.2.2.1 (0, 0) 110 [some (.ref ℓ.1.2), some (.int (nI 3)), some (.int (nI k)), some (.int (nI ki)), some (.long v), none, none, none, none, some (.ref ℓ.2.1.2)] _ (Nat.le_of_ble_eq_true rfl) (Nat.le_of_ble_eq_true rfl) rfl dX0_putIn_110 (Or.inr (Or.inr ⟨rfl, k, m, ki, c, rfl, hk, h1, rfl, hki, rfl, rfl⟩))
            rw [lb_dat_up3] at e9
            exact e9
          · exact la_xlastO K ⟨hz, hAs, hoff⟩ rfl (Nat.le_of_ble_eq_true rfl) (lt_rm_ok _ _ _) ⟨Nat.le_of_ble_eq_true rfl, Nat.le_of_ble_eq_true rfl⟩ (ℓ.2.2 k).1 2 e4 rfl (by omega) h4 dX0_putIn_109 (hE.2.2.2.2 _ _ _ _ ws (Nat.le_of_ble_eq_true rfl) (Nat.le_of_ble_eq_true rfl) rfl (Or.inr (Or.inl ⟨rfl, _, lp_gtA_i hk hN h1 h4, rfl, rfl⟩)))
      · exact la_xaaldO K ⟨hz, hAs, hoff⟩ rfl (Nat.le_of_ble_eq_true rfl) (lt_rm_ok _ _ _) ⟨Nat.le_of_ble_eq_true rfl, Nat.le_of_ble_eq_true rfl⟩ ℓ.2.1.1 10 hB.2.2.2.1 rfl (by omega) h0 dX0_putIn_105 (hE.2.2.2.2 _ _ _ _ ws (Nat.le_of_ble_eq_true rfl) (Nat.le_of_ble_eq_true rfl) rfl (Or.inr (Or.inl ⟨rfl, _, lp_gtA_idx h0, rfl, rfl⟩)))
theorem lb_itemOf0 (hoff : lt_off ω.1) (hs : s ≤ 3) (r i : Int32) : lt_C ω yX0_itemOf cX0_itemOf 4 (some .long) [] (lt_rm 0 3 1010) lt_Zs [.null, .int (nI s), .int r, .int i] ws (fun _ : Unit => ws) (fun o _ => o = .inr lt_NPE) := by
  refine lt_C_of [some (.null), some (.int (nI s)), some (.int r), some (.int i)] rfl rfl (Nat.le_of_ble_eq_true rfl) ?_
  intro κ K hz hAs hnm htab hE
  refine la_iload_n K dX0_itemOf_0 rfl ?_
  have hc4 : s = 0 ∨ s = 1 ∨ s = 2 ∨ s = 3 := by omega
  rcases hc4 with rfl | rfl | rfl | rfl
  · refine la_tabIn K 28 dX0_itemOf_1 (by decide +kernel) (by decide +kernel) rfl rfl ?_
    refine la_aload_n0 K dX0_itemOf_28 rfl ?_
    refine la_castN K dX0_itemOf_29 ?_
    exact la_xgetfN0 K ⟨hz, hAs, hoff⟩ rfl (Nat.zero_le _) (lt_rm_ok _ _ _) ⟨Nat.le_of_ble_eq_true rfl, Nat.le_of_ble_eq_true rfl⟩ in_X7 0 (ci := 6) rfl (by decide) q609 rfl dX0_itemOf_32 (hE.2.2.2.2 _ _ _ _ () (Nat.le_of_ble_eq_true rfl) (Nat.le_of_ble_eq_true rfl) rfl rfl)
  · refine la_tabIn K 41 dX0_itemOf_1 (by decide +kernel) (by decide +kernel) rfl rfl ?_
    refine la_aload_n0 K dX0_itemOf_41 rfl ?_
    refine la_castN K dX0_itemOf_42 ?_
    exact la_xgetfN0 K ⟨hz, hAs, hoff⟩ rfl (Nat.zero_le _) (lt_rm_ok _ _ _) ⟨Nat.le_of_ble_eq_true rfl, Nat.le_of_ble_eq_true rfl⟩ in_X8 0 (ci := 7) rfl (by decide) q622 rfl dX0_itemOf_45 (hE.2.2.2.2 _ _ _ _ () (Nat.le_of_ble_eq_true rfl) (Nat.le_of_ble_eq_true rfl) rfl rfl)
  · refine la_tabIn K 54 dX0_itemOf_1 (by decide +kernel) (by decide +kernel) rfl rfl ?_
    refine la_aload_n0 K dX0_itemOf_54 rfl ?_
    refine la_castN K dX0_itemOf_55 ?_
    exact la_xgetfN0 K ⟨hz, hAs, hoff⟩ rfl (Nat.zero_le _) (lt_rm_ok _ _ _) ⟨Nat.le_of_ble_eq_true rfl, Nat.le_of_ble_eq_true rfl⟩ in_X9 0 (ci := 8) rfl (by decide) q634 rfl dX0_itemOf_58 (hE.2.2.2.2 _ _ _ _ () (Nat.le_of_ble_eq_true rfl) (Nat.le_of_ble_eq_true rfl) rfl rfl)
  · refine la_tabOut K 67 dX0_itemOf_1 (by decide +kernel) rfl ?_
    refine la_aload_n0 K dX0_itemOf_67 rfl ?_
    refine la_castN K dX0_itemOf_68 ?_
    exact la_xgetfN0 K ⟨hz, hAs, hoff⟩ rfl (Nat.zero_le _) (lt_rm_ok _ _ _) ⟨Nat.le_of_ble_eq_true rfl, Nat.le_of_ble_eq_true rfl⟩ in_X10 0 (ci := 9) rfl (by decide) q647 rfl dX0_itemOf_71 (hE.2.2.2.2 _ _ _ _ () (Nat.le_of_ble_eq_true rfl) (Nat.le_of_ble_eq_true rfl) rfl rfl)
theorem lb_itemOf1 (hoff : lt_off ω.1) (hs : s ≤ 3) (hB : lb_B1 ω.2.2 ws s' N rows ℓ) (r i : Int32) : lt_C ω yX0_itemOf cX0_itemOf 4 (some .long) [] (lt_rm 0 3 1010) lt_Zs [.ref ℓ.1.2, .int (nI s), .int r, .int i] ws (fun _ : Unit => ws) (fun o _ => (s' ≠ s ∧ o = .inr lt_cceN) ∨ (s' = s ∧ ∃ X, lp_gtA rows N r i = .inr X ∧ o = .inr X) ∨ (s' = s ∧ ∃ v, lp_gtA rows N r i = .inl v ∧ o = .inl (some (.long v)))) := by
  refine lt_C_of [some (.ref ℓ.1.2), some (.int (nI s)), some (.int r), some (.int i)] rfl rfl (Nat.le_of_ble_eq_true rfl) ?_
  intro κ K hz hAs hnm htab hE
  have hN := hB.2.1
  have hs1 := hB.1
  refine la_iload_n K dX0_itemOf_0 rfl ?_
  have hc4 : s = 0 ∨ s = 1 ∨ s = 2 ∨ s = 3 := by omega
  have hc5 : s' = 0 ∨ s' = 1 ∨ s' = 2 ∨ s' = 3 := by omega
  rcases hc4 with rfl | rfl | rfl | rfl
  · refine la_tabIn K 28 dX0_itemOf_1 (by decide +kernel) (by decide +kernel) rfl rfl ?_
    refine la_aload_n K dX0_itemOf_28 rfl ?_
    rcases hc5 with rfl | rfl | rfl | rfl
    · refine la_castS K ℓ.1.1 hB.2.2.1 rfl q597 dX0_itemOf_29 ?_
      refine la_getfN K in_X7 ℓ.1.1 0 hB.2.2.1 rfl (by decide) q609 rfl rfl dX0_itemOf_32 ?_
      refine la_iload_n K dX0_itemOf_35 rfl ?_
      by_cases h0 : lp_in r N
      · obtain ⟨k, hk, rfl⟩ := lp_in_N h0 (by omega)
        refine la_aaldR K ℓ.2.1.1 8 hB.2.2.2.1 rfl rfl (by omega) hk dX0_itemOf_36 ?_
        refine la_iload_n K dX0_itemOf_37 rfl ?_
        rcases h1 : rows k with _ | ⟨m, c⟩
        · have e0 : lb_gg ℓ rows k = none := by unfold lb_gg; rw [h1]; rfl
          rw [e0]
          exact la_xbald0 K ⟨hz, hAs, hoff⟩ rfl (Nat.le_of_ble_eq_true rfl) (lt_rm_ok _ _ _) ⟨Nat.le_of_ble_eq_true rfl, Nat.le_of_ble_eq_true rfl⟩ dX0_itemOf_38 (hE.2.2.2.2 _ _ _ _ () (Nat.le_of_ble_eq_true rfl) (Nat.le_of_ble_eq_true rfl) rfl (Or.inr (Or.inl ⟨rfl, _, lp_gtA_npe hk hN h1, rfl⟩)))
        · have e0 : lb_gg ℓ rows k = some (ℓ.2.2 k).2 := by unfold lb_gg; rw [h1]; rfl
          rw [e0]
          obtain ⟨e2, e3, e4⟩ := hB.2.2.2.2 k m c hk h1
          by_cases h4 : lp_in i m
          · obtain ⟨ki, hki, rfl⟩ := lp_in_N h4 (by omega)
            refine la_bald K (ℓ.2.2 k).1 e4 (by omega) hki dX0_itemOf_38 ?_
            refine la_i2l K dX0_itemOf_39 (e3 (by decide) ki) ?_
            exact hE.2.1 _ _ _ _ () (Nat.le_of_ble_eq_true rfl) (Nat.le_of_ble_eq_true rfl) rfl dX0_itemOf_40 (Or.inr (Or.inr ⟨rfl, _, lp_gtA_v hk hN h1 e2 hki, rfl⟩))
          · exact la_xbaldO K ⟨hz, hAs, hoff⟩ rfl (Nat.le_of_ble_eq_true rfl) (lt_rm_ok _ _ _) ⟨Nat.le_of_ble_eq_true rfl, Nat.le_of_ble_eq_true rfl⟩ (ℓ.2.2 k).1 3 e4 rfl (by omega) h4 dX0_itemOf_38 (hE.2.2.2.2 _ _ _ _ () (Nat.le_of_ble_eq_true rfl) (Nat.le_of_ble_eq_true rfl) rfl (Or.inr (Or.inl ⟨rfl, _, lp_gtA_i hk hN h1 h4, rfl⟩)))
      · exact la_xaaldO K ⟨hz, hAs, hoff⟩ rfl (Nat.le_of_ble_eq_true rfl) (lt_rm_ok _ _ _) ⟨Nat.le_of_ble_eq_true rfl, Nat.le_of_ble_eq_true rfl⟩ ℓ.2.1.1 8 hB.2.2.2.1 rfl (by omega) h0 dX0_itemOf_36 (hE.2.2.2.2 _ _ _ _ () (Nat.le_of_ble_eq_true rfl) (Nat.le_of_ble_eq_true rfl) rfl (Or.inr (Or.inl ⟨rfl, _, lp_gtA_idx h0, rfl⟩)))
    · exact la_xcast K ⟨hz, hAs, hoff⟩ rfl (Nat.le_of_ble_eq_true rfl) (lt_rm_ok _ _ _) ⟨by show 0 + 3 ≤ 3; omega, by show 0 + 1010 ≤ 1010; omega⟩ ℓ.1.1 hB.2.2.1 rfl lt_nc_8_7 (by decide) (by decide) q597 dX0_itemOf_29 (hE.2.2.2.2 _ _ _ _ () (by show 0 + 3 ≤ 3; omega) (by show 0 + 1010 ≤ 1010; omega) rfl (Or.inl ⟨by decide, rfl⟩))
    · exact la_xcast K ⟨hz, hAs, hoff⟩ rfl (Nat.le_of_ble_eq_true rfl) (lt_rm_ok _ _ _) ⟨by show 0 + 3 ≤ 3; omega, by show 0 + 1010 ≤ 1010; omega⟩ ℓ.1.1 hB.2.2.1 rfl lt_nc_9_7 (by decide) (by decide) q597 dX0_itemOf_29 (hE.2.2.2.2 _ _ _ _ () (by show 0 + 3 ≤ 3; omega) (by show 0 + 1010 ≤ 1010; omega) rfl (Or.inl ⟨by decide, rfl⟩))
    · exact la_xcast K ⟨hz, hAs, hoff⟩ rfl (Nat.le_of_ble_eq_true rfl) (lt_rm_ok _ _ _) ⟨by show 0 + 3 ≤ 3; omega, by show 0 + 1010 ≤ 1010; omega⟩ ℓ.1.1 hB.2.2.1 rfl lt_nc_10_7 (by decide) (by decide) q597 dX0_itemOf_29 (hE.2.2.2.2 _ _ _ _ () (by show 0 + 3 ≤ 3; omega) (by show 0 + 1010 ≤ 1010; omega) rfl (Or.inl ⟨by decide, rfl⟩))
  · refine la_tabIn K 41 dX0_itemOf_1 (by decide +kernel) (by decide +kernel) rfl rfl ?_
    refine la_aload_n K dX0_itemOf_41 rfl ?_
    rcases hc5 with rfl | rfl | rfl | rfl
    · exact la_xcast K ⟨hz, hAs, hoff⟩ rfl (Nat.le_of_ble_eq_true rfl) (lt_rm_ok _ _ _) ⟨by show 0 + 3 ≤ 3; omega, by show 0 + 1010 ≤ 1010; omega⟩ ℓ.1.1 hB.2.2.1 rfl lt_nc_7_8 (by decide) (by decide) q613 dX0_itemOf_42 (hE.2.2.2.2 _ _ _ _ () (by show 0 + 3 ≤ 3; omega) (by show 0 + 1010 ≤ 1010; omega) rfl (Or.inl ⟨by decide, rfl⟩))
    · refine la_castS K ℓ.1.1 hB.2.2.1 rfl q613 dX0_itemOf_42 ?_
      refine la_getfN K in_X8 ℓ.1.1 0 hB.2.2.1 rfl (by decide) q622 rfl rfl dX0_itemOf_45 ?_
      refine la_iload_n K dX0_itemOf_48 rfl ?_
      by_cases h0 : lp_in r N
      · obtain ⟨k, hk, rfl⟩ := lp_in_N h0 (by omega)
        refine la_aaldR K ℓ.2.1.1 9 hB.2.2.2.1 rfl rfl (by omega) hk dX0_itemOf_49 ?_
        refine la_iload_n K dX0_itemOf_50 rfl ?_
        rcases h1 : rows k with _ | ⟨m, c⟩
        · have e0 : lb_gg ℓ rows k = none := by unfold lb_gg; rw [h1]; rfl
          rw [e0]
          exact la_xsald0 K ⟨hz, hAs, hoff⟩ rfl (Nat.le_of_ble_eq_true rfl) (lt_rm_ok _ _ _) ⟨Nat.le_of_ble_eq_true rfl, Nat.le_of_ble_eq_true rfl⟩ dX0_itemOf_51 (hE.2.2.2.2 _ _ _ _ () (Nat.le_of_ble_eq_true rfl) (Nat.le_of_ble_eq_true rfl) rfl (Or.inr (Or.inl ⟨rfl, _, lp_gtA_npe hk hN h1, rfl⟩)))
        · have e0 : lb_gg ℓ rows k = some (ℓ.2.2 k).2 := by unfold lb_gg; rw [h1]; rfl
          rw [e0]
          obtain ⟨e2, e3, e4⟩ := hB.2.2.2.2 k m c hk h1
          by_cases h4 : lp_in i m
          · obtain ⟨ki, hki, rfl⟩ := lp_in_N h4 (by omega)
            refine la_sald K (ℓ.2.2 k).1 e4 (by omega) hki dX0_itemOf_51 ?_
            refine la_i2l K dX0_itemOf_52 (e3 (by decide) ki) ?_
            exact hE.2.1 _ _ _ _ () (Nat.le_of_ble_eq_true rfl) (Nat.le_of_ble_eq_true rfl) rfl dX0_itemOf_53 (Or.inr (Or.inr ⟨rfl, _, lp_gtA_v hk hN h1 e2 hki, rfl⟩))
          · exact la_xsaldO K ⟨hz, hAs, hoff⟩ rfl (Nat.le_of_ble_eq_true rfl) (lt_rm_ok _ _ _) ⟨Nat.le_of_ble_eq_true rfl, Nat.le_of_ble_eq_true rfl⟩ (ℓ.2.2 k).1 4 e4 rfl (by omega) h4 dX0_itemOf_51 (hE.2.2.2.2 _ _ _ _ () (Nat.le_of_ble_eq_true rfl) (Nat.le_of_ble_eq_true rfl) rfl (Or.inr (Or.inl ⟨rfl, _, lp_gtA_i hk hN h1 h4, rfl⟩)))
      · exact la_xaaldO K ⟨hz, hAs, hoff⟩ rfl (Nat.le_of_ble_eq_true rfl) (lt_rm_ok _ _ _) ⟨Nat.le_of_ble_eq_true rfl, Nat.le_of_ble_eq_true rfl⟩ ℓ.2.1.1 9 hB.2.2.2.1 rfl (by omega) h0 dX0_itemOf_49 (hE.2.2.2.2 _ _ _ _ () (Nat.le_of_ble_eq_true rfl) (Nat.le_of_ble_eq_true rfl) rfl (Or.inr (Or.inl ⟨rfl, _, lp_gtA_idx h0, rfl⟩)))
    · exact la_xcast K ⟨hz, hAs, hoff⟩ rfl (Nat.le_of_ble_eq_true rfl) (lt_rm_ok _ _ _) ⟨by show 0 + 3 ≤ 3; omega, by show 0 + 1010 ≤ 1010; omega⟩ ℓ.1.1 hB.2.2.1 rfl lt_nc_9_8 (by decide) (by decide) q613 dX0_itemOf_42 (hE.2.2.2.2 _ _ _ _ () (by show 0 + 3 ≤ 3; omega) (by show 0 + 1010 ≤ 1010; omega) rfl (Or.inl ⟨by decide, rfl⟩))
    · exact la_xcast K ⟨hz, hAs, hoff⟩ rfl (Nat.le_of_ble_eq_true rfl) (lt_rm_ok _ _ _) ⟨by show 0 + 3 ≤ 3; omega, by show 0 + 1010 ≤ 1010; omega⟩ ℓ.1.1 hB.2.2.1 rfl lt_nc_10_8 (by decide) (by decide) q613 dX0_itemOf_42 (hE.2.2.2.2 _ _ _ _ () (by show 0 + 3 ≤ 3; omega) (by show 0 + 1010 ≤ 1010; omega) rfl (Or.inl ⟨by decide, rfl⟩))
  · refine la_tabIn K 54 dX0_itemOf_1 (by decide +kernel) (by decide +kernel) rfl rfl ?_
    refine la_aload_n K dX0_itemOf_54 rfl ?_
    rcases hc5 with rfl | rfl | rfl | rfl
    · exact la_xcast K ⟨hz, hAs, hoff⟩ rfl (Nat.le_of_ble_eq_true rfl) (lt_rm_ok _ _ _) ⟨by show 0 + 3 ≤ 3; omega, by show 0 + 1010 ≤ 1010; omega⟩ ℓ.1.1 hB.2.2.1 rfl lt_nc_7_9 (by decide) (by decide) q626 dX0_itemOf_55 (hE.2.2.2.2 _ _ _ _ () (by show 0 + 3 ≤ 3; omega) (by show 0 + 1010 ≤ 1010; omega) rfl (Or.inl ⟨by decide, rfl⟩))
    · exact la_xcast K ⟨hz, hAs, hoff⟩ rfl (Nat.le_of_ble_eq_true rfl) (lt_rm_ok _ _ _) ⟨by show 0 + 3 ≤ 3; omega, by show 0 + 1010 ≤ 1010; omega⟩ ℓ.1.1 hB.2.2.1 rfl lt_nc_8_9 (by decide) (by decide) q626 dX0_itemOf_55 (hE.2.2.2.2 _ _ _ _ () (by show 0 + 3 ≤ 3; omega) (by show 0 + 1010 ≤ 1010; omega) rfl (Or.inl ⟨by decide, rfl⟩))
    · refine la_castS K ℓ.1.1 hB.2.2.1 rfl q626 dX0_itemOf_55 ?_
      refine la_getfN K in_X9 ℓ.1.1 0 hB.2.2.1 rfl (by decide) q634 rfl rfl dX0_itemOf_58 ?_
      refine la_iload_n K dX0_itemOf_61 rfl ?_
      by_cases h0 : lp_in r N
      · obtain ⟨k, hk, rfl⟩ := lp_in_N h0 (by omega)
        refine la_aaldR K ℓ.2.1.1 7 hB.2.2.2.1 rfl rfl (by omega) hk dX0_itemOf_62 ?_
        refine la_iload_n K dX0_itemOf_63 rfl ?_
        rcases h1 : rows k with _ | ⟨m, c⟩
        · have e0 : lb_gg ℓ rows k = none := by unfold lb_gg; rw [h1]; rfl
          rw [e0]
          exact la_xiald0 K ⟨hz, hAs, hoff⟩ rfl (Nat.le_of_ble_eq_true rfl) (lt_rm_ok _ _ _) ⟨Nat.le_of_ble_eq_true rfl, Nat.le_of_ble_eq_true rfl⟩ dX0_itemOf_64 (hE.2.2.2.2 _ _ _ _ () (Nat.le_of_ble_eq_true rfl) (Nat.le_of_ble_eq_true rfl) rfl (Or.inr (Or.inl ⟨rfl, _, lp_gtA_npe hk hN h1, rfl⟩)))
        · have e0 : lb_gg ℓ rows k = some (ℓ.2.2 k).2 := by unfold lb_gg; rw [h1]; rfl
          rw [e0]
          obtain ⟨e2, e3, e4⟩ := hB.2.2.2.2 k m c hk h1
          by_cases h4 : lp_in i m
          · obtain ⟨ki, hki, rfl⟩ := lp_in_N h4 (by omega)
            refine la_irld K (ℓ.2.2 k).1 e4 (by omega) hki dX0_itemOf_64 ?_
            refine la_i2l K dX0_itemOf_65 (e3 (by decide) ki) ?_
            exact hE.2.1 _ _ _ _ () (Nat.le_of_ble_eq_true rfl) (Nat.le_of_ble_eq_true rfl) rfl dX0_itemOf_66 (Or.inr (Or.inr ⟨rfl, _, lp_gtA_v hk hN h1 e2 hki, rfl⟩))
          · exact la_xialdO K ⟨hz, hAs, hoff⟩ rfl (Nat.le_of_ble_eq_true rfl) (lt_rm_ok _ _ _) ⟨Nat.le_of_ble_eq_true rfl, Nat.le_of_ble_eq_true rfl⟩ (ℓ.2.2 k).1 0 e4 rfl (by omega) h4 dX0_itemOf_64 (hE.2.2.2.2 _ _ _ _ () (Nat.le_of_ble_eq_true rfl) (Nat.le_of_ble_eq_true rfl) rfl (Or.inr (Or.inl ⟨rfl, _, lp_gtA_i hk hN h1 h4, rfl⟩)))
      · exact la_xaaldO K ⟨hz, hAs, hoff⟩ rfl (Nat.le_of_ble_eq_true rfl) (lt_rm_ok _ _ _) ⟨Nat.le_of_ble_eq_true rfl, Nat.le_of_ble_eq_true rfl⟩ ℓ.2.1.1 7 hB.2.2.2.1 rfl (by omega) h0 dX0_itemOf_62 (hE.2.2.2.2 _ _ _ _ () (Nat.le_of_ble_eq_true rfl) (Nat.le_of_ble_eq_true rfl) rfl (Or.inr (Or.inl ⟨rfl, _, lp_gtA_idx h0, rfl⟩)))
    · exact la_xcast K ⟨hz, hAs, hoff⟩ rfl (Nat.le_of_ble_eq_true rfl) (lt_rm_ok _ _ _) ⟨by show 0 + 3 ≤ 3; omega, by show 0 + 1010 ≤ 1010; omega⟩ ℓ.1.1 hB.2.2.1 rfl lt_nc_10_9 (by decide) (by decide) q626 dX0_itemOf_55 (hE.2.2.2.2 _ _ _ _ () (by show 0 + 3 ≤ 3; omega) (by show 0 + 1010 ≤ 1010; omega) rfl (Or.inl ⟨by decide, rfl⟩))
  · refine la_tabOut K 67 dX0_itemOf_1 (by decide +kernel) rfl ?_
    refine la_aload_n K dX0_itemOf_67 rfl ?_
    rcases hc5 with rfl | rfl | rfl | rfl
    · exact la_xcast K ⟨hz, hAs, hoff⟩ rfl (Nat.le_of_ble_eq_true rfl) (lt_rm_ok _ _ _) ⟨by show 0 + 3 ≤ 3; omega, by show 0 + 1010 ≤ 1010; omega⟩ ℓ.1.1 hB.2.2.1 rfl lt_nc_7_10 (by decide) (by decide) q638 dX0_itemOf_68 (hE.2.2.2.2 _ _ _ _ () (by show 0 + 3 ≤ 3; omega) (by show 0 + 1010 ≤ 1010; omega) rfl (Or.inl ⟨by decide, rfl⟩))
    · exact la_xcast K ⟨hz, hAs, hoff⟩ rfl (Nat.le_of_ble_eq_true rfl) (lt_rm_ok _ _ _) ⟨by show 0 + 3 ≤ 3; omega, by show 0 + 1010 ≤ 1010; omega⟩ ℓ.1.1 hB.2.2.1 rfl lt_nc_8_10 (by decide) (by decide) q638 dX0_itemOf_68 (hE.2.2.2.2 _ _ _ _ () (by show 0 + 3 ≤ 3; omega) (by show 0 + 1010 ≤ 1010; omega) rfl (Or.inl ⟨by decide, rfl⟩))
    · exact la_xcast K ⟨hz, hAs, hoff⟩ rfl (Nat.le_of_ble_eq_true rfl) (lt_rm_ok _ _ _) ⟨by show 0 + 3 ≤ 3; omega, by show 0 + 1010 ≤ 1010; omega⟩ ℓ.1.1 hB.2.2.1 rfl lt_nc_9_10 (by decide) (by decide) q638 dX0_itemOf_68 (hE.2.2.2.2 _ _ _ _ () (by show 0 + 3 ≤ 3; omega) (by show 0 + 1010 ≤ 1010; omega) rfl (Or.inl ⟨by decide, rfl⟩))
    · refine la_castS K ℓ.1.1 hB.2.2.1 rfl q638 dX0_itemOf_68 ?_
      refine la_getfN K in_X10 ℓ.1.1 0 hB.2.2.1 rfl (by decide) q647 rfl rfl dX0_itemOf_71 ?_
      refine la_iload_n K dX0_itemOf_74 rfl ?_
      by_cases h0 : lp_in r N
      · obtain ⟨k, hk, rfl⟩ := lp_in_N h0 (by omega)
        refine la_aaldR K ℓ.2.1.1 10 hB.2.2.2.1 rfl rfl (by omega) hk dX0_itemOf_75 ?_
        refine la_iload_n K dX0_itemOf_76 rfl ?_
        rcases h1 : rows k with _ | ⟨m, c⟩
        · have e0 : lb_gg ℓ rows k = none := by unfold lb_gg; rw [h1]; rfl
          rw [e0]
          exact la_xlald0 K ⟨hz, hAs, hoff⟩ rfl (Nat.le_of_ble_eq_true rfl) (lt_rm_ok _ _ _) ⟨Nat.le_of_ble_eq_true rfl, Nat.le_of_ble_eq_true rfl⟩ dX0_itemOf_77 (hE.2.2.2.2 _ _ _ _ () (Nat.le_of_ble_eq_true rfl) (Nat.le_of_ble_eq_true rfl) rfl (Or.inr (Or.inl ⟨rfl, _, lp_gtA_npe hk hN h1, rfl⟩)))
        · have e0 : lb_gg ℓ rows k = some (ℓ.2.2 k).2 := by unfold lb_gg; rw [h1]; rfl
          rw [e0]
          obtain ⟨e2, e3, e4⟩ := hB.2.2.2.2 k m c hk h1
          by_cases h4 : lp_in i m
          · obtain ⟨ki, hki, rfl⟩ := lp_in_N h4 (by omega)
            refine la_lald K (ℓ.2.2 k).1 e4 (by omega) hki dX0_itemOf_77 ?_
            exact hE.2.1 _ _ _ _ () (Nat.le_of_ble_eq_true rfl) (Nat.le_of_ble_eq_true rfl) rfl dX0_itemOf_78 (Or.inr (Or.inr ⟨rfl, _, lp_gtA_v hk hN h1 e2 hki, rfl⟩))
          · exact la_xlaldO K ⟨hz, hAs, hoff⟩ rfl (Nat.le_of_ble_eq_true rfl) (lt_rm_ok _ _ _) ⟨Nat.le_of_ble_eq_true rfl, Nat.le_of_ble_eq_true rfl⟩ (ℓ.2.2 k).1 2 e4 rfl (by omega) h4 dX0_itemOf_77 (hE.2.2.2.2 _ _ _ _ () (Nat.le_of_ble_eq_true rfl) (Nat.le_of_ble_eq_true rfl) rfl (Or.inr (Or.inl ⟨rfl, _, lp_gtA_i hk hN h1 h4, rfl⟩)))
      · exact la_xaaldO K ⟨hz, hAs, hoff⟩ rfl (Nat.le_of_ble_eq_true rfl) (lt_rm_ok _ _ _) ⟨Nat.le_of_ble_eq_true rfl, Nat.le_of_ble_eq_true rfl⟩ ℓ.2.1.1 10 hB.2.2.2.1 rfl (by omega) h0 dX0_itemOf_75 (hE.2.2.2.2 _ _ _ _ () (Nat.le_of_ble_eq_true rfl) (Nat.le_of_ble_eq_true rfl) rfl (Or.inr (Or.inl ⟨rfl, _, lp_gtA_idx h0, rfl⟩)))
end LTE
