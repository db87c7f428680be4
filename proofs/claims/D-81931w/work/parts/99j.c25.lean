/-! FINAL FIELDS OF ONE NAME; the rules' constructors. Printed by c25.py. -/
/-- fs' is fs with v at k; another field of the same name may hold v too -/
def lb_pt (N k : Nat) (nm : Nat → String) (v : Value) (fs fs' : List Value) : Prop := fs'.length = N ∧ fs'[k]? = some v ∧ ∀ j, j < N → (nm j ≠ nm k → fs'[j]? = fs[j]?) ∧ (fs'[j]? = fs[j]? ∨ fs'[j]? = some v)
section LTP
variable {ω : la_O} {κ : la_K} {cc : ByteArray} {nL : Nat} {own : String} {R0 : Room} {n : Nat × Nat} {pc : Nat} {lv : List (Option Value)} {st : List Value} {ws : va_W}
theorem la_putfG (K : la_Cx ω κ cc nL own R0) (hnm0 : (la_h κ).name = "<init>") {C : String} {T : u_T} {N ci a i : Nat} {ref : String} {fs : List Value} {v : Value} {ty : FieldType} (hin : ∀ w ∈ u_ws C T N, w ∈ lw_all) (ty0 : Nat → FieldType) (hty : ∀ k, k < N → parseFieldDescriptor (T k).2.2.1 = some (ty0 k)) (q0 k : Nat) (he : ws[q0]? = some (a, .inr (ci, fs))) (hc : la_cl[ci]? = some (C, T, N)) (hk : k < N) (hl0 : Cond.fieldLink own i ref (T k).2.1 (T k).2.2.1 ∈ lw_all) (href : (T k).1 = ref) (hfin : (T k).2.2.2 = true) (hown0 : (T k).1 = own) (hd0 : ty0 k = ty) (hn : narrow ty v = v) (hfit : fits ty v = true) (hl9 : fs.length = N) (hd : decode cc pc = .ok (.putfield i, 3)) (kk : ∀ fs' : List Value, lb_pt N k (fun j => (T j).2.1) v fs fs' → la_At ω κ n (pc + 3) lv st (ws.set q0 (a, .inr (ci, fs')))) : la_At ω κ n pc lv (v :: .ref a :: st) ws := by
  obtain ⟨hx, hb, hml, hown, hts, hK, hG, hA, hR, hlk⟩ := K
  intro H locs ls hP hD hS0 hl
  subst href
  obtain ⟨r, h1, cell, q1, q2, q3, q4⟩ := hP q0 _ he
  have hr : r = (C, T, N) := Option.some.inj (h1.symm.trans hc)
  subst hr
  obtain ⟨hS, hfc, kC, hkC, hkind⟩ := hK.1 ci _ hc
  obtain ⟨cf, kf, fi, f, hi, hsl⟩ := hS k hk
  have hlay := hts _ (hin _ (u_in_lay hk))
  unfold u_lay at hlay
  rw [if_pos hfin] at hlay
  have hst := (u_facts hfc hkC (u_lays hts hin hk) hi).1
  have hcf : (la_m κ).cls = cf := by
    obtain ⟨_, _, c', _, _, _, -, -, hf', -, -, -, hown2, -⟩ := Cond.laysFinal_spec hlay
    have e1 : c' = cf := by have := hi.symm.trans hf'; simp at this; exact this.1.symm
    rw [hown0] at hown2
    rw [← e1]; exact Option.some.inj (hown.symm.trans hown2)
  have h6 := u_fits hfc hkC hkind (Or.inr hlay) hi (by rw [hty k hk, hd0]) hn hfit
  have hap : ∀ j, j < N → (T j).2.1 ≠ (T k).2.1 → ω.2.1.2 ci k ≠ ω.2.1.2 ci j := by
    intro j hj hne
    obtain ⟨_, _, _, fb, hib, eb⟩ := hS j hj
    rw [← hsl, ← eb]
    refine u_apart (u_lays hts hin hk) (u_lays hts hin hj) hi hib ?_
    rw [(State.fieldFound?_type hi (hty k hk)).1, (State.fieldFound?_type hib (hty j hj)).1]
    exact Ne.symm hne
  refine W.putFinK hx hb hown (hts _ hl0) hi hst hcf hnm0 (by rw [q2]; exact h6) q1 q3 (by rw [hsl]; exact k2_hasslot (q4 k hk)) rfl rfl hd fun H' e1 e2 e3 => ?_
  rw [hsl] at e1 ⊢
  have hV : ∀ j, j < N → vp_V fs j = fs.getD j .null := fun j _ => rfl
  refine kk ((List.range N).map (fun j => if ω.2.1.2 ci j = ω.2.1.2 ci k then v else fs.getD j .null)) ⟨by simp, by simp [hk], fun j hj => ?_⟩ H' _ ls (hP.set hD he ⟨_, hc, ⟨_, e1, q2, q3, fun j hj => ?_⟩⟩ e3) (hD.set he) (hS0.put e2 e3 (hD.2 q0 _ he)) hl
  · have hg : fs[j]? = some (fs.getD j .null) := by rw [List.getD_eq_getElem?_getD, List.getElem?_eq_getElem (by omega)]; rfl
    constructor
    · intro hne
      rw [hg, List.getElem?_map, List.getElem?_range hj]
      exact congrArg some (if_neg (Ne.symm (hap j hj hne)))
    · rw [hg, List.getElem?_map, List.getElem?_range hj]
      by_cases e : ω.2.1.2 ci j = ω.2.1.2 ci k
      · exact Or.inr (congrArg some (if_pos e))
      · exact Or.inl (congrArg some (if_neg e))
  · show (cell.setSlot _ v).slots[ω.2.1.2 ci j]? = some (((List.range N).map _).getD j .null)
    have hg2 : ((List.range N).map (fun j => if ω.2.1.2 ci j = ω.2.1.2 ci k then v else fs.getD j .null)).getD j .null = if ω.2.1.2 ci j = ω.2.1.2 ci k then v else fs.getD j .null := by
      rw [List.getD_eq_getElem?_getD, List.getElem?_map, List.getElem?_range hj]
      rfl
    rw [hg2]
    by_cases e : ω.2.1.2 ci j = ω.2.1.2 ci k
    · rw [if_pos e, e, Cell.slots_setSlot_self _ (k2_hasslot (q4 k hk))]
    · rw [if_neg e, slot_ne _ _ (Ne.symm e), q4 j hj]
      rfl
end LTP
section LTQ
variable {ω : la_O} {ws : va_W} {p q1 b : Nat} {fs : List Value}
theorem lb_X1_init1 (he : ws[q1]? = some (p, .inr (1, fs))) (hl : fs.length = 1) : lt_C ω yX1_init cX1_init 2 none [] (lt_rm 0 0 0) lt_Zs [.ref p, .ref b] ws (fun fs' : List Value => ws.set q1 (p, .inr (1, fs'))) (fun r fs' => r = .inl none ∧ lb_pt 1 0 (fun j => (TX1 j).2.1) (.ref b) fs fs') := by
  refine lt_C_of [some (.ref p), some (.ref b)] rfl rfl (Nat.le_of_ble_eq_true rfl) ?_
  intro κ K hz hAs hnm htab hE
  refine la_aload_n K dX1_init_0 rfl ?_
  refine la_aload_n K dX1_init_1 rfl ?_
  refine la_putfG K hnm in_X1 tyX1 tyX1_ok q1 0 he rfl (by decide) q78 rfl rfl rfl rfl rfl rfl hl dX1_init_2 (fun fs' hp => ?_)
  refine la_aload_n K dX1_init_5 rfl ?_
  refine la_objInit K q77 rfl (Nat.zero_le _) (lt_rm_ok _ _ _) dX1_init_6 ?_
  exact hE.2.2.1 _ _ _ _ (Nat.zero_le _) (Nat.zero_le _) rfl dX1_init_9 ⟨rfl, hp⟩
theorem lb_X1_init2 (he : ws[q1]? = some (p, .inr (2, fs))) (hl : fs.length = 2) : lt_C ω yX1_init cX1_init 2 none [] (lt_rm 0 0 0) lt_Zs [.ref p, .ref b] ws (fun fs' : List Value => ws.set q1 (p, .inr (2, fs'))) (fun r fs' => r = .inl none ∧ lb_pt 2 0 (fun j => (TX2 j).2.1) (.ref b) fs fs') := by
  refine lt_C_of [some (.ref p), some (.ref b)] rfl rfl (Nat.le_of_ble_eq_true rfl) ?_
  intro κ K hz hAs hnm htab hE
  refine la_aload_n K dX1_init_0 rfl ?_
  refine la_aload_n K dX1_init_1 rfl ?_
  refine la_putfG K hnm in_X2 tyX2 tyX2_ok q1 0 he rfl (by decide) q78 rfl rfl rfl rfl rfl rfl hl dX1_init_2 (fun fs' hp => ?_)
  refine la_aload_n K dX1_init_5 rfl ?_
  refine la_objInit K q77 rfl (Nat.zero_le _) (lt_rm_ok _ _ _) dX1_init_6 ?_
  exact hE.2.2.1 _ _ _ _ (Nat.zero_le _) (Nat.zero_le _) rfl dX1_init_9 ⟨rfl, hp⟩
theorem lb_X1_init3 (he : ws[q1]? = some (p, .inr (3, fs))) (hl : fs.length = 2) : lt_C ω yX1_init cX1_init 2 none [] (lt_rm 0 0 0) lt_Zs [.ref p, .ref b] ws (fun fs' : List Value => ws.set q1 (p, .inr (3, fs'))) (fun r fs' => r = .inl none ∧ lb_pt 2 0 (fun j => (TX3 j).2.1) (.ref b) fs fs') := by
  refine lt_C_of [some (.ref p), some (.ref b)] rfl rfl (Nat.le_of_ble_eq_true rfl) ?_
  intro κ K hz hAs hnm htab hE
  refine la_aload_n K dX1_init_0 rfl ?_
  refine la_aload_n K dX1_init_1 rfl ?_
  refine la_putfG K hnm in_X3 tyX3 tyX3_ok q1 0 he rfl (by decide) q78 rfl rfl rfl rfl rfl rfl hl dX1_init_2 (fun fs' hp => ?_)
  refine la_aload_n K dX1_init_5 rfl ?_
  refine la_objInit K q77 rfl (Nat.zero_le _) (lt_rm_ok _ _ _) dX1_init_6 ?_
  exact hE.2.2.1 _ _ _ _ (Nat.zero_le _) (Nat.zero_le _) rfl dX1_init_9 ⟨rfl, hp⟩
theorem lb_X1_init4 (he : ws[q1]? = some (p, .inr (4, fs))) (hl : fs.length = 4) : lt_C ω yX1_init cX1_init 2 none [] (lt_rm 0 0 0) lt_Zs [.ref p, .ref b] ws (fun fs' : List Value => ws.set q1 (p, .inr (4, fs'))) (fun r fs' => r = .inl none ∧ lb_pt 4 0 (fun j => (TX4 j).2.1) (.ref b) fs fs') := by
  refine lt_C_of [some (.ref p), some (.ref b)] rfl rfl (Nat.le_of_ble_eq_true rfl) ?_
  intro κ K hz hAs hnm htab hE
  refine la_aload_n K dX1_init_0 rfl ?_
  refine la_aload_n K dX1_init_1 rfl ?_
  refine la_putfG K hnm in_X4 tyX4 tyX4_ok q1 0 he rfl (by decide) q78 rfl rfl rfl rfl rfl rfl hl dX1_init_2 (fun fs' hp => ?_)
  refine la_aload_n K dX1_init_5 rfl ?_
  refine la_objInit K q77 rfl (Nat.zero_le _) (lt_rm_ok _ _ _) dX1_init_6 ?_
  exact hE.2.2.1 _ _ _ _ (Nat.zero_le _) (Nat.zero_le _) rfl dX1_init_9 ⟨rfl, hp⟩
theorem lb_X2_init2 (he : ws[q1]? = some (p, .inr (2, fs))) (hl : fs.length = 2) : lt_C ω yX2_init cX2_init 2 none [] (lt_rm 1 0 0) lt_Zs [.ref p, .ref b] ws (fun fs' : List Value => ws.set q1 (p, .inr (2, fs'))) (fun r fs' => r = .inl none ∧ ∃ fs1, lb_pt 2 1 (fun j => (TX2 j).2.1) (.ref b) fs fs1 ∧ lb_pt 2 0 (fun j => (TX2 j).2.1) (.ref b) fs1 fs') := by
  refine lt_C_of [some (.ref p), some (.ref b)] rfl rfl (Nat.le_of_ble_eq_true rfl) ?_
  intro κ K hz hAs hnm htab hE
  refine la_aload_n K dX2_init_0 rfl ?_
  refine la_aload_n K dX2_init_1 rfl ?_
  refine la_putfG K hnm in_X2 tyX2 tyX2_ok q1 1 he rfl (by decide) q89 rfl rfl rfl rfl rfl rfl hl dX2_init_2 (fun fs1 hp1 => ?_)
  refine la_aload_n K dX2_init_5 rfl ?_
  refine la_aload_n K dX2_init_6 rfl ?_
  refine lt_at K (lb_X1_init2 (q1 := q1) (p := p) (b := b) (fs := fs1) (by rw [List.getElem?_set_self (List.getElem?_eq_some_iff.mp he).1]) hp1.1) lt_Zs_b (by decide) (lt_codeC K q76) (lt_invIN (k := 1) (As := [.ref b]) (rest := []) K q88 q75 q76 rfl (by decide +kernel) rfl dX2_init_7) dX2_init_7 rfl (Nat.zero_le _) ⟨Nat.le_of_ble_eq_true rfl, Nat.le_of_ble_eq_true rfl⟩ ⟨Nat.le_of_ble_eq_true rfl, Nat.le_of_ble_eq_true rfl⟩ (lt_Zs_at hz hAs) (fun v fs2 h => ?_) (fun X u h => by cases h.1)
  obtain ⟨h1, hp2⟩ := h
  cases h1
  rw [List.set_set]
  exact hE.2.2.1 _ _ _ _ (Nat.zero_le _) (Nat.zero_le _) rfl dX2_init_10 ⟨rfl, fs1, hp1, hp2⟩
theorem lb_X2_init4 (he : ws[q1]? = some (p, .inr (4, fs))) (hl : fs.length = 4) : lt_C ω yX2_init cX2_init 2 none [] (lt_rm 1 0 0) lt_Zs [.ref p, .ref b] ws (fun fs' : List Value => ws.set q1 (p, .inr (4, fs'))) (fun r fs' => r = .inl none ∧ ∃ fs1, lb_pt 4 1 (fun j => (TX4 j).2.1) (.ref b) fs fs1 ∧ lb_pt 4 0 (fun j => (TX4 j).2.1) (.ref b) fs1 fs') := by
  refine lt_C_of [some (.ref p), some (.ref b)] rfl rfl (Nat.le_of_ble_eq_true rfl) ?_
  intro κ K hz hAs hnm htab hE
  refine la_aload_n K dX2_init_0 rfl ?_
  refine la_aload_n K dX2_init_1 rfl ?_
  refine la_putfG K hnm in_X4 tyX4 tyX4_ok q1 1 he rfl (by decide) q89 rfl rfl rfl rfl rfl rfl hl dX2_init_2 (fun fs1 hp1 => ?_)
  refine la_aload_n K dX2_init_5 rfl ?_
  refine la_aload_n K dX2_init_6 rfl ?_
  refine lt_at K (lb_X1_init4 (q1 := q1) (p := p) (b := b) (fs := fs1) (by rw [List.getElem?_set_self (List.getElem?_eq_some_iff.mp he).1]) hp1.1) lt_Zs_b (by decide) (lt_codeC K q76) (lt_invIN (k := 1) (As := [.ref b]) (rest := []) K q88 q75 q76 rfl (by decide +kernel) rfl dX2_init_7) dX2_init_7 rfl (Nat.zero_le _) ⟨Nat.le_of_ble_eq_true rfl, Nat.le_of_ble_eq_true rfl⟩ ⟨Nat.le_of_ble_eq_true rfl, Nat.le_of_ble_eq_true rfl⟩ (lt_Zs_at hz hAs) (fun v fs2 h => ?_) (fun X u h => by cases h.1)
  obtain ⟨h1, hp2⟩ := h
  cases h1
  rw [List.set_set]
  exact hE.2.2.1 _ _ _ _ (Nat.zero_le _) (Nat.zero_le _) rfl dX2_init_10 ⟨rfl, fs1, hp1, hp2⟩
theorem lb_X3_init3 (he : ws[q1]? = some (p, .inr (3, fs))) (hl : fs.length = 2) : lt_C ω yX3_init cX3_init 2 none [] (lt_rm 1 0 0) lt_Zs [.ref p, .ref b] ws (fun fs' : List Value => ws.set q1 (p, .inr (3, fs'))) (fun r fs' => r = .inl none ∧ ∃ fs1, lb_pt 2 1 (fun j => (TX3 j).2.1) (.ref b) fs fs1 ∧ lb_pt 2 0 (fun j => (TX3 j).2.1) (.ref b) fs1 fs') := by
  refine lt_C_of [some (.ref p), some (.ref b)] rfl rfl (Nat.le_of_ble_eq_true rfl) ?_
  intro κ K hz hAs hnm htab hE
  refine la_aload_n K dX3_init_0 rfl ?_
  refine la_aload_n K dX3_init_1 rfl ?_
  refine la_putfG K hnm in_X3 tyX3 tyX3_ok q1 1 he rfl (by decide) q100 rfl rfl rfl rfl rfl rfl hl dX3_init_2 (fun fs1 hp1 => ?_)
  refine la_aload_n K dX3_init_5 rfl ?_
  refine la_aload_n K dX3_init_6 rfl ?_
  refine lt_at K (lb_X1_init3 (q1 := q1) (p := p) (b := b) (fs := fs1) (by rw [List.getElem?_set_self (List.getElem?_eq_some_iff.mp he).1]) hp1.1) lt_Zs_b (by decide) (lt_codeC K q76) (lt_invIN (k := 1) (As := [.ref b]) (rest := []) K q99 q75 q76 rfl (by decide +kernel) rfl dX3_init_7) dX3_init_7 rfl (Nat.zero_le _) ⟨Nat.le_of_ble_eq_true rfl, Nat.le_of_ble_eq_true rfl⟩ ⟨Nat.le_of_ble_eq_true rfl, Nat.le_of_ble_eq_true rfl⟩ (lt_Zs_at hz hAs) (fun v fs2 h => ?_) (fun X u h => by cases h.1)
  obtain ⟨h1, hp2⟩ := h
  cases h1
  rw [List.set_set]
  exact hE.2.2.1 _ _ _ _ (Nat.zero_le _) (Nat.zero_le _) rfl dX3_init_10 ⟨rfl, fs1, hp1, hp2⟩
theorem lb_X4_init4 (he : ws[q1]? = some (p, .inr (4, [.null, .null, .null, .null]))) : lt_C ω yX4_init cX4_init 2 none [] (lt_rm 2 1 3) lt_Zs [.ref p, .ref b] ws (fun w : Nat => (ws ++ [((w, la_ia ω.2.2 3 (fun _ => 0)) : Nat × va_E)]).set q1 (p, .inr (4, [.ref b, .ref b, .ref w, .ref b]))) (fun r _ => r = .inl none) := by
  refine lt_C_of [some (.ref p), some (.ref b)] rfl rfl (Nat.le_of_ble_eq_true rfl) ?_
  intro κ K hz hAs hnm htab hE
  refine la_aload_n K dX4_init_0 rfl ?_
  refine la_aload_n K dX4_init_1 rfl ?_
  refine la_putfG K hnm in_X4 tyX4 tyX4_ok q1 3 he rfl (by decide) q112 rfl rfl rfl rfl rfl rfl rfl dX4_init_2 (fun fs1 hp1 => ?_)
  refine la_aload_n K dX4_init_5 rfl ?_
  refine la_aload_n K dX4_init_6 rfl ?_
  refine lt_at K (lb_X2_init4 (q1 := q1) (p := p) (b := b) (fs := fs1) (by rw [List.getElem?_set_self (List.getElem?_eq_some_iff.mp he).1]) hp1.1) lt_Zs_b (by decide) (lt_codeC K q87) (lt_invIN (k := 1) (As := [.ref b]) (rest := []) K q110 q86 q87 rfl (by decide +kernel) rfl dX4_init_7) dX4_init_7 rfl (Nat.zero_le _) ⟨Nat.le_of_ble_eq_true rfl, Nat.le_of_ble_eq_true rfl⟩ ⟨Nat.le_of_ble_eq_true rfl, Nat.le_of_ble_eq_true rfl⟩ (lt_Zs_at hz hAs) (fun v fs3 h => ?_) (fun X u h => by cases h.1)
  obtain ⟨h1, fs2, hp2, hp3⟩ := h
  cases h1
  rw [List.set_set]
  have e2 : fs3[2]? = some .null := by
    rw [(hp3.2.2 2 (by decide)).1 (by decide), (hp2.2.2 2 (by decide)).1 (by decide), (hp1.2.2 2 (by decide)).1 (by decide)]; rfl
  have e0 : fs3[0]? = some (.ref b) := hp3.2.1
  have e1 : fs3[1]? = some (.ref b) := (hp3.2.2 1 (by decide)).2.elim (fun z => z.trans hp2.2.1) id
  have e3 : fs3[3]? = some (.ref b) := (hp3.2.2 3 (by decide)).2.elim (fun z => z.trans ((hp2.2.2 3 (by decide)).2.elim (fun y => y.trans hp1.2.1) id)) id
  have e9 : fs3 = [.ref b, .ref b, .null, .ref b] := by
    have hl := hp3.1
    match fs3, hl with
    | [x0, x1, x2, x3], _ =>
      cases e0; cases e1; cases e2; cases e3
      rfl
  subst e9
  refine la_aload_n K dX4_init_10 rfl ?_
  refine la_iconst K dX4_init_11 la_ki_3 ?_
  refine la_newarr (aty := .int) (D := .inl (fun _ => nI 0)) K 0 rfl rfl q82 (fun _ _ h => h) (fun _ => rfl) (by decide) (by decide) ⟨Nat.le_of_ble_eq_true rfl, Nat.le_of_ble_eq_true rfl⟩ dX4_init_12 (fun w => ?_)
  have he4 : (ws.set q1 (p, .inr (4, [.ref b, .ref b, .null, .ref b])) ++ [((w, .inl (ω.2.2 0, 3, .inl (fun _ => nI 0))) : Nat × va_E)])[q1]? = some (p, .inr (4, [.ref b, .ref b, .null, .ref b])) := by
    rw [List.getElem?_append_left (by rw [List.length_set]; exact (List.getElem?_eq_some_iff.mp he).1), List.getElem?_set_self (List.getElem?_eq_some_iff.mp he).1]
  refine la_putfG K hnm in_X4 tyX4 tyX4_ok q1 2 he4 rfl (by decide) q111 rfl rfl rfl rfl rfl rfl rfl dX4_init_14 (fun fs5 hp5 => ?_)
  have f9 : fs5 = [.ref b, .ref b, .ref w, .ref b] := by
    have hl := hp5.1
    have f0 : fs5[0]? = some (.ref b) := (hp5.2.2 0 (by decide)).1 (by decide)
    have f1 : fs5[1]? = some (.ref b) := (hp5.2.2 1 (by decide)).1 (by decide)
    have f3 : fs5[3]? = some (.ref b) := (hp5.2.2 3 (by decide)).1 (by decide)
    have f2 := hp5.2.1
    match fs5, hl with
    | [x0, x1, x2, x3], _ =>
      cases f0; cases f1; cases f2; cases f3
      rfl
  subst f9
  have hset : (ws.set q1 (p, .inr (4, [.ref b, .ref b, .null, .ref b])) ++ [((w, .inl (ω.2.2 0, 3, .inl (fun _ => nI 0))) : Nat × va_E)]).set q1 (p, .inr (4, [.ref b, .ref b, .ref w, .ref b])) = (ws ++ [((w, la_ia ω.2.2 3 (fun _ => 0)) : Nat × va_E)]).set q1 (p, .inr (4, [.ref b, .ref b, .ref w, .ref b])) := by
    have hlt := (List.getElem?_eq_some_iff.mp he).1
    rw [List.set_append_left _ _ (by rw [List.length_set]; exact hlt), List.set_set, List.set_append_left _ _ hlt]
    rfl
  rw [hset]
  exact hE.2.2.1 _ _ _ _ (Nat.le_of_ble_eq_true rfl) (Nat.le_of_ble_eq_true rfl) rfl dX4_init_17 rfl
/-- what a constructor leaves in an object with two fields of one name -/
theorem lb_pt2 {T : u_T} {f1 f' : List Value} {v : Value} {nm nm' : Nat → String} (h1 : lb_pt 2 1 nm v fs f1) (h2 : lb_pt 2 0 nm' v f1 f') : f' = [v, v] := by
  have hl := h2.1
  have e0 := h2.2.1
  have e1 : f'[1]? = some v := (h2.2.2 1 (by decide)).2.elim (fun z => z.trans h1.2.1) id
  match f', hl with
  | [x0, x1], _ =>
    cases e0; cases e1
    rfl
theorem lb_pt1 {f' : List Value} {v : Value} {nm : Nat → String} (h : lb_pt 1 0 nm v fs f') : f' = [v] := by
  have hl := h.1
  have e0 := h.2.1
  match f', hl with
  | [x0], _ =>
    cases e0
    rfl
end LTQ
