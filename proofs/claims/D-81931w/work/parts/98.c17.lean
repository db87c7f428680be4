/-! THE BOOKS' CLASSES. Printed by c17.py. -/
def lt_rm (k c s : Nat) : Room := { frames := 9 + k, cells := c, slots := s, locals := 10300 + 64 * k }
theorem lt_rm_ok (k c s : Nat) : lt_Rm (lt_rm k c s) := ⟨by show 8 < 9 + k; omega, by show 10280 ≤ 10300 + 64 * k; omega⟩
theorem lt_Zs_at {κ : la_K} (hz : lt_Zs (la_s κ)) (hAs : lt_As κ) : ∀ (H : Heap) (locs : List Loc), va_S (la_A κ) (la_s κ).heap H locs → ∀ U : State, U.heap = H → (la_s κ).WarmedH U.vm → lt_Zs U := by
  intro H locs hS U hU hW
  refine lt_Zs_moved hz hW (fun q cell hc hs => ?_)
  rw [hU, hS.2.1 q (Array.getElem?_eq_some_iff.mp hc).1 (fun hA => by rw [hAs q cell hA hc] at hs; cases hs)]
  exact hc
section LTB
variable {ω : la_O} {κ : la_K} {cc : ByteArray} {nL : Nat} {own : String} {R0 : Room} {n : Nat × Nat} {pc : Nat} {lv : List (Option Value)} {st rest : List Value} {ws : va_W}
theorem la_objInit (K : la_Cx ω κ cc nL own R0) {a i : Nat} (hl0 : Cond.methodLink own i ⟨"java/lang/Object", "<init>", "()V"⟩ ∈ lw_all) (hlv : lv.length = nL) (hw : (st.map fun v => v.category).sum ≤ 20) (hR : lt_Rm R0) (hd : decode cc pc = .ok (.invokespecial i, 3)) (kk : la_At ω κ n (pc + 3) lv st ws) : la_At ω κ n pc lv (.ref a :: st) ws := by
  obtain ⟨hx, hb, hml, hown, hts, hK, hG, hA, hRe, hlk⟩ := K
  subst hRe
  intro H locs ls hP hD hS hl
  exact W.objInit hx hb hown (hts _ hl0) (hts _ q69) (hts _ q70) (g := F0 (la_m κ) pc ls (.ref a :: st)) rfl (by rw [hml, ← hlv]; exact hl.1) rfl hd (by have := hR.1; omega) (by have := hR.2; show 2 * 0 + (st.map fun v => v.category).sum + 12 ≤ _; omega) (kk H locs ls hP hD hS hl)
theorem la_putfF (K : la_Cx ω κ cc nL own R0) (hnm0 : (la_h κ).name = "<init>") {C : String} {T : u_T} {N ci a i : Nat} {ref : String} {fs : List Value} {v : Value} {ty : FieldType} (hin : ∀ w ∈ u_ws C T N, w ∈ lw_all) (ty0 : Nat → FieldType) (hty : ∀ k, k < N → parseFieldDescriptor (T k).2.2.1 = some (ty0 k)) (hnm : ∀ a, a < N → ∀ b, b < N → a ≠ b → (T a).2.1 ≠ (T b).2.1) (q0 k : Nat) (he : ws[q0]? = some (a, .inr (ci, fs))) (hc : la_cl[ci]? = some (C, T, N)) (hk : k < N) (hl0 : Cond.fieldLink own i ref (T k).2.1 (T k).2.2.1 ∈ lw_all) (href : (T k).1 = ref) (hfin : (T k).2.2.2 = true) (hown0 : (T k).1 = own) (hd0 : ty0 k = ty) (hn : narrow ty v = v) (hfit : fits ty v = true) (hl9 : k < fs.length) (hd : decode cc pc = .ok (.putfield i, 3)) (kk : la_At ω κ n (pc + 3) lv st (ws.set q0 (a, .inr (ci, fs.set k v)))) : la_At ω κ n pc lv (v :: .ref a :: st) ws := by
  obtain ⟨hx, hb, hml, hown, hts, hK, hG, hA, hR, hlk⟩ := K
  intro H locs ls hP hD hS hl
  subst href
  exact va_putF (C := C) (T := T) (N := N) (ty := ty) hx hb hts hin ty0 hty hnm hown hK hP hD hS q0 he hc k hk (hts _ hl0) (fun _ h => h) hfin hnm0 hown0 (by rw [hty k hk, hd0]) hn hfit hl9 hd (fun H1 locs1 hP1 hD1 hS1 => kk H1 locs1 ls hP1 hD1 hS1 hl)
theorem la_alenR (K : la_Cx ω κ cc nL own R0) {a N : Nat} (q0 t0 : Nat) {cA : ClassId} {ty : FieldType} {D : (Nat → Int32) ⊕ (Nat → Int64) ⊕ (Nat → UInt32) ⊕ (Nat → UInt64) ⊕ (Nat → Option Nat)} (he : ws[q0]? = some (a, .inl (cA, N, D))) (ht : (la_ty ω.2.2)[t0]? = some (cA, ty)) (hd : decode cc pc = .ok (.arraylength, 1)) (kk : la_At ω κ n (pc + 1) lv (.int (nI N) :: st) ws) : la_At ω κ n pc lv (.ref a :: st) ws := by
  obtain ⟨hx, hb, hml, hown, hts, hK, hG, hA, hR, hlk⟩ := K
  intro H locs ls hP hD hS hl
  rcases D with f | f | f | f | f
  · exact W.alen (n := nI N) (ty := ty) hx hb (hP q0 _ he) ((hK.2 t0 _ ht).1 N _) (by show (arrV _ _ _).slots.size.toInt32 = _; rw [arrV_size]; rfl) rfl rfl hd (kk H locs ls hP hD hS hl)
  · exact W.alen (n := nI N) (ty := ty) hx hb (hP q0 _ he) ((hK.2 t0 _ ht).1 N _) (by show (arrV _ _ _).slots.size.toInt32 = _; rw [arrV_size]; rfl) rfl rfl hd (kk H locs ls hP hD hS hl)
  · exact W.alen (n := nI N) (ty := ty) hx hb (hP q0 _ he) ((hK.2 t0 _ ht).1 N _) (by show (arrV _ _ _).slots.size.toInt32 = _; rw [arrV_size]; rfl) rfl rfl hd (kk H locs ls hP hD hS hl)
  · exact W.alen (n := nI N) (ty := ty) hx hb (hP q0 _ he) ((hK.2 t0 _ ht).1 N _) (by show (arrV _ _ _).slots.size.toInt32 = _; rw [arrV_size]; rfl) rfl rfl hd (kk H locs ls hP hD hS hl)
  · exact W.alen (n := nI N) (ty := ty) hx hb (hP q0 _ he) ((hK.2 t0 _ ht).1 N _) (by show (arrV _ _ _).slots.size.toInt32 = _; rw [arrV_size]; rfl) rfl rfl hd (kk H locs ls hP hD hS hl)
theorem lt_invIN (K : la_Cx ω κ cc nL own R0) {y : MethodName} {host : String} {cc' : ByteArray} {nL' i k a : Nat} {As : List Value} (hlink : Cond.methodLinkNest own i y host ∈ lw_tbl) (hinst : Cond.instanceMethod y ∈ lw_all) (hcode : Cond.code y cc' nL' none ∈ lw_all) (hy1 : y.name = "<init>") (hy : y.cls ≠ "java/lang/invoke/MethodHandle" ∧ y.cls ≠ "java/lang/invoke/VarHandle" ∧ (parseMethodDescriptor y.desc).map (fun d => d.parameters.length) = some k) (hk : As.length = k) (hd : decode cc pc = .ok (.invokespecial i, 3)) : lt_Inv ω κ n pc (As.reverse ++ .ref a :: rest) rest ws y (.ref a :: As) := by
  obtain ⟨hx, hb, hml, hown, hts, hK, hG, hA, hRe, hlk⟩ := K
  intro H locs ls hP hD hS U hU X mk hn
  have hpl : (la_e κ).platform.magicAccessors = ({} : Platform).magicAccessors := by rw [X.admits.platform]
  obtain ⟨mk', methM, cM, kP, vm₁, hnamed, hmethM, hcodeM, -, hlocalsM, -, hkP, -, hW₁, hstep₁⟩ := Steps.initColdArgsNest (e := la_e κ) X.here hx X.warmed hpl hown hy1 ⟨hy.1, hy.2.1⟩ (va_Nw.use (A := la_a κ) rfl (la_Gu hG hlink rfl)) (hts _ hinst) (hts _ hcode) (f := F0 (la_m κ) pc ls (As.reverse ++ .ref a :: rest)) rfl (argsL := As) (rest := rest) (a := a) (fun sig h => by
    have e2 := hy.2.2
    rw [h] at e2
    exact hk.trans (Option.some.inj e2).symm) rfl (by rw [hb]; exact hd)
  cases hn.symm.trans hnamed
  exact ⟨vm₁, X.noted hW₁, hstep₁⟩
theorem lb_X6_init (a : Nat) : lt_C ω yX6_init cX6_init 1 none [] (lt_rm 0 0 0) lt_Zs [.ref a] ws (fun _ : Unit => ws) (fun r _ => r = .inl none) := by
  refine lt_C_of [some (.ref a)] rfl rfl (Nat.le_of_ble_eq_true rfl) ?_
  intro κ K hz hAs hnm htab hE
  refine la_aload_n K dX6_init_0 rfl ?_
  refine la_objInit K q605 rfl (Nat.zero_le _) (lt_rm_ok _ _ _) dX6_init_1 ?_
  exact hE.2.2.1 _ _ _ () (Nat.zero_le _) (Nat.zero_le _) rfl dX6_init_4 rfl
theorem lb_X7_init (hoff : lt_off ω.1) {a q1 : Nat} (he : ws[q1]? = some (a, .inr (6, [.null]))) {x : Int32} (hx4 : x ≤ nI 4) : lt_C ω yX7_init cX7_init 2 none [] (lt_rm 1 3 60) lt_Zs [.ref a, .int x] ws (fun w : va_W => w) (fun r w => (x < 0 ∧ r = .inr lt_nasN ∧ w = ws) ∨ ∃ N b : Nat, N ≤ 4 ∧ x = nI N ∧ r = .inl none ∧ w = (ws ++ [((b, .inl (ω.2.2 8, N, .inr (.inr (.inr (.inr (fun _ => none)))))) : Nat × va_E)]).set q1 (a, .inr (6, [.ref b]))) := by
  refine lt_C_of [some (.ref a), some (.int x)] rfl rfl (Nat.le_of_ble_eq_true rfl) ?_
  intro κ K hz hAs hnm htab hE
  refine la_aload_n K dX7_init_0 rfl ?_
  refine lt_at K (lb_X6_init a) lt_Zs_b (by decide) (lt_codeC K q604) (lt_invIN (As := []) K q602 q603 q604 rfl (by decide +kernel) rfl dX7_init_1) dX7_init_1 rfl (Nat.zero_le _) ⟨Nat.le_of_ble_eq_true rfl, Nat.le_of_ble_eq_true rfl⟩ ⟨Nat.le_of_ble_eq_true rfl, Nat.le_of_ble_eq_true rfl⟩ (lt_Zs_at hz hAs) (fun v u h => ?_) (fun X u h => by cases h)
  cases h
  refine la_aload_n K dX7_init_4 rfl ?_
  refine la_iload_n K dX7_init_5 rfl ?_
  by_cases h0 : x < 0
  · exact la_xnegA K ⟨hz, hAs, hoff⟩ rfl (Nat.le_of_ble_eq_true rfl) (lt_rm_ok _ _ _) ⟨Nat.le_of_ble_eq_true rfl, Nat.le_of_ble_eq_true rfl⟩ h0 q607 q606 dX7_init_6 (hE.2.2.2.2 _ _ _ _ ws (Nat.le_of_ble_eq_true rfl) (Nat.le_of_ble_eq_true rfl) rfl (Or.inl ⟨h0, rfl, rfl⟩))
  · obtain ⟨N, hN, rfl⟩ := nI_of2 (M := nI 4) (n := 4) (by decide +kernel) h0 hx4
    refine la_newarrA K 8 rfl q607 q606 (by omega) ⟨Nat.le_of_ble_eq_true rfl, by show 0 + 0 + N ≤ 60; omega⟩ dX7_init_6 (fun b => ?_)
    refine la_putfF K hnm in_X7 tyX7 tyX7_ok nmX7 q1 0 (by rw [List.getElem?_append_left (List.getElem?_eq_some_iff.mp he).1]; exact he) rfl (by decide) q608 rfl rfl rfl rfl rfl rfl (by decide) dX7_init_9 ?_
    exact hE.2.2.1 _ _ _ _ (Nat.le_of_ble_eq_true rfl) (by show 0 + 0 + N ≤ 60; omega) rfl dX7_init_12 (Or.inr ⟨N, b, hN, rfl, rfl, rfl⟩)
theorem lb_X7_rows {a b q1 q2 N : Nat} {g : Nat → Option Nat} (he : ws[q1]? = some (a, .inr (6, [.ref b]))) (hr : ws[q2]? = some (b, .inl (ω.2.2 8, N, .inr (.inr (.inr (.inr g)))))) (hN : N ≤ 4) : lt_C ω yX7_rows cX7_rows 1 (some .int) [] (lt_rm 0 0 0) lt_Zs [.ref a] ws (fun _ : Unit => ws) (fun r _ => r = .inl (some (.int (nI N)))) := by
  refine lt_C_of [some (.ref a)] rfl rfl (Nat.le_of_ble_eq_true rfl) ?_
  intro κ K hz hAs hnm htab hE
  refine la_aload_n K dX7_rows_0 rfl ?_
  refine la_getf K in_X7 q1 0 he rfl (by decide) q608 rfl rfl dX7_rows_1 ?_
  refine la_alenR K q2 8 hr rfl dX7_rows_4 ?_
  exact hE.1 _ _ _ _ () (Nat.zero_le _) (Nat.zero_le _) rfl dX7_rows_5 rfl
theorem lb_X7_make (hoff : lt_off ω.1) {a b q1 q2 N : Nat} {g : Nat → Option Nat} (he : ws[q1]? = some (a, .inr (6, [.ref b]))) (hr : ws[q2]? = some (b, .inl (ω.2.2 8, N, .inr (.inr (.inr (.inr g)))))) (hN : N ≤ 4) (r : Int32) {x : Int32} (hx8 : x ≤ nI 8) : lt_C ω yX7_make cX7_make 4 none [] (lt_rm 0 4 300) lt_Zs [.ref a, .int r, .int x] ws (fun w : va_W => w) (fun o w => (¬ lp_in r N ∧ o = .inr lt_idxN ∧ w = ws) ∨ (lp_in r N ∧ x < 0 ∧ o = .inr lt_nasN ∧ w = ws) ∨ ∃ k m c : Nat, r = nI k ∧ k < N ∧ m ≤ 8 ∧ x = nI m ∧ o = .inl none ∧ w = (ws ++ [((c, .inl (ω.2.2 3, m, .inl (fun _ => 0))) : Nat × va_E)]).set q2 (b, .inl (ω.2.2 8, N, .inr (.inr (.inr (.inr (va_up g k (some c)))))))) := by
  refine lt_C_of [some (.ref a), some (.int r), some (.int x), none] rfl rfl (Nat.le_of_ble_eq_true rfl) ?_
  intro κ K hz hAs hnm htab hE
  refine la_aload_n K dX7_make_0 rfl ?_
  refine la_getf K in_X7 q1 0 he rfl (by decide) q608 rfl rfl dX7_make_1 ?_
  refine la_iload_n K dX7_make_4 rfl ?_
  by_cases h0 : lp_in r N
  · obtain ⟨k, hk, rfl⟩ := lp_in_N h0 (by omega)
    refine la_aaldR K q2 8 hr rfl rfl (by omega) hk dX7_make_5 ?_
    have goal : ∀ z : Option Value, la_At ω κ (0, 0) 7 [some (.ref a), some (.int (nI k)), some (.int x), z] [] ws := by
      intro z
      refine la_aload_n K dX7_make_7 rfl ?_
      refine la_getf K in_X7 q1 0 he rfl (by decide) q608 rfl rfl dX7_make_8 ?_
      refine la_iload_n K dX7_make_11 rfl ?_
      refine la_iload_n K dX7_make_12 rfl ?_
      by_cases h1 : x < 0
      · exact la_xneg K ⟨hz, hAs, hoff⟩ rfl (Nat.le_of_ble_eq_true rfl) (lt_rm_ok _ _ _) ⟨Nat.le_of_ble_eq_true rfl, Nat.le_of_ble_eq_true rfl⟩ h1 dX7_make_13 (hE.2.2.2.2 _ _ _ _ ws (Nat.le_of_ble_eq_true rfl) (Nat.le_of_ble_eq_true rfl) rfl (Or.inr (Or.inl ⟨h0, h1, rfl, rfl⟩)))
      · obtain ⟨m, hm, rfl⟩ := nI_of2 (M := nI 8) (n := 8) (by decide +kernel) h1 hx8
        refine la_newarr (aty := .byte) (D := .inl (fun _ => 0)) K 3 rfl rfl q582 (fun _ _ h => h) (fun _ => rfl) (by omega) (by decide) ⟨Nat.le_of_ble_eq_true rfl, by show 0 + m ≤ 300; omega⟩ dX7_make_13 (fun c => ?_)
        refine la_aastA K q2 8 ws.length 3 (by rw [List.getElem?_append_left (List.getElem?_eq_some_iff.mp hr).1]; exact hr) rfl (by rw [List.getElem?_append_right (Nat.le_refl _), Nat.sub_self]; rfl) rfl (fun _ _ h => h) q607 (by omega) hk dX7_make_15 ?_
        exact hE.2.2.1 _ _ _ _ (Nat.le_of_ble_eq_true rfl) (by show 0 + m ≤ 300; omega) rfl dX7_make_16 (Or.inr (Or.inr ⟨k, m, c, rfl, hk, hm, rfl, rfl, rfl⟩))
    rcases hg : g k with _ | c0
    · exact la_astore_n0 K dX7_make_6 (Nat.le_of_ble_eq_true rfl) rfl (goal _)
    · exact la_astore_n K dX7_make_6 (Nat.le_of_ble_eq_true rfl) rfl (goal _)
  · exact la_xaaldO K ⟨hz, hAs, hoff⟩ rfl (Nat.le_of_ble_eq_true rfl) (lt_rm_ok _ _ _) ⟨Nat.le_of_ble_eq_true rfl, Nat.le_of_ble_eq_true rfl⟩ q2 8 hr rfl (by omega) h0 dX7_make_5 (hE.2.2.2.2 _ _ _ _ ws (Nat.le_of_ble_eq_true rfl) (Nat.le_of_ble_eq_true rfl) rfl (Or.inl ⟨h0, rfl, rfl⟩))
theorem lb_X7_size (hoff : lt_off ω.1) {a b q1 q2 N : Nat} {g : Nat → Option Nat} (he : ws[q1]? = some (a, .inr (6, [.ref b]))) (hr : ws[q2]? = some (b, .inl (ω.2.2 8, N, .inr (.inr (.inr (.inr g)))))) (hN : N ≤ 4) (r : Int32) (qf mf : Nat → Nat) (ff : Nat → Nat → Int32) (hg : ∀ k c, k < N → g k = some c → ws[qf k]? = some (c, .inl (ω.2.2 3, mf k, .inl (ff k))) ∧ mf k ≤ 8) : lt_C ω yX7_size cX7_size 2 (some .int) [] (lt_rm 0 3 240) lt_Zs [.ref a, .int r] ws (fun _ : Unit => ws) (fun o _ => (¬ lp_in r N ∧ o = .inr lt_idxN) ∨ ∃ k, r = nI k ∧ k < N ∧ ((g k = none ∧ o = .inr lt_NPE) ∨ (g k ≠ none ∧ o = .inl (some (.int (nI (mf k))))))) := by
  refine lt_C_of [some (.ref a), some (.int r)] rfl rfl (Nat.le_of_ble_eq_true rfl) ?_
  intro κ K hz hAs hnm htab hE
  refine la_aload_n K dX7_size_0 rfl ?_
  refine la_getf K in_X7 q1 0 he rfl (by decide) q608 rfl rfl dX7_size_1 ?_
  refine la_iload_n K dX7_size_4 rfl ?_
  by_cases h0 : lp_in r N
  · obtain ⟨k, hk, rfl⟩ := lp_in_N h0 (by omega)
    refine la_aaldR K q2 8 hr rfl rfl (by omega) hk dX7_size_5 ?_
    rcases h1 : g k with _ | c
    · exact la_xlen0 K ⟨hz, hAs, hoff⟩ rfl (Nat.zero_le _) (lt_rm_ok _ _ _) ⟨Nat.le_of_ble_eq_true rfl, Nat.le_of_ble_eq_true rfl⟩ dX7_size_6 (hE.2.2.2.2 _ _ _ _ () (Nat.le_of_ble_eq_true rfl) (Nat.le_of_ble_eq_true rfl) rfl (Or.inr ⟨k, rfl, hk, Or.inl ⟨h1, rfl⟩⟩))
    · obtain ⟨h2, h3⟩ := hg k c hk h1
      have h5 : g k ≠ none := by rw [h1]; exact fun z => by cases z
      refine la_alenR K (qf k) 3 h2 rfl dX7_size_6 ?_
      exact hE.1 _ _ _ _ () (Nat.zero_le _) (Nat.zero_le _) rfl dX7_size_7 (Or.inr ⟨k, rfl, hk, Or.inr ⟨h5, rfl⟩⟩)
  · exact la_xaaldO K ⟨hz, hAs, hoff⟩ rfl (Nat.zero_le _) (lt_rm_ok _ _ _) ⟨Nat.le_of_ble_eq_true rfl, Nat.le_of_ble_eq_true rfl⟩ q2 8 hr rfl (by omega) h0 dX7_size_5 (hE.2.2.2.2 _ _ _ _ () (Nat.le_of_ble_eq_true rfl) (Nat.le_of_ble_eq_true rfl) rfl (Or.inl ⟨h0, rfl⟩))
theorem lb_X7_get (hoff : lt_off ω.1) {a b q1 q2 N : Nat} {g : Nat → Option Nat} (he : ws[q1]? = some (a, .inr (6, [.ref b]))) (hr : ws[q2]? = some (b, .inl (ω.2.2 8, N, .inr (.inr (.inr (.inr g)))))) (hN : N ≤ 4) (r i : Int32) (qf mf : Nat → Nat) (ff : Nat → Nat → Int32) (hg : ∀ k c, k < N → g k = some c → ws[qf k]? = some (c, .inl (ω.2.2 3, mf k, .inl (ff k))) ∧ mf k ≤ 8) : lt_C ω yX7_get cX7_get 3 (some .long) [] (lt_rm 0 3 240) lt_Zs [.ref a, .int r, .int i] ws (fun _ : Unit => ws) (fun o _ => (¬ lp_in r N ∧ o = .inr lt_idxN) ∨ ∃ k, r = nI k ∧ k < N ∧ ((g k = none ∧ o = .inr lt_NPE) ∨ (g k ≠ none ∧ ((¬ lp_in i (mf k) ∧ o = .inr lt_idxN) ∨ ∃ ki, i = nI ki ∧ ki < mf k ∧ o = .inl (some (.long ((ff k ki).toInt64))))))) := by
  refine lt_C_of [some (.ref a), some (.int r), some (.int i)] rfl rfl (Nat.le_of_ble_eq_true rfl) ?_
  intro κ K hz hAs hnm htab hE
  refine la_aload_n K dX7_get_0 rfl ?_
  refine la_getf K in_X7 q1 0 he rfl (by decide) q608 rfl rfl dX7_get_1 ?_
  refine la_iload_n K dX7_get_4 rfl ?_
  by_cases h0 : lp_in r N
  · obtain ⟨k, hk, rfl⟩ := lp_in_N h0 (by omega)
    refine la_aaldR K q2 8 hr rfl rfl (by omega) hk dX7_get_5 ?_
    refine la_iload_n K dX7_get_6 rfl ?_
    rcases h1 : g k with _ | c
    · exact la_xbald0 K ⟨hz, hAs, hoff⟩ rfl (Nat.zero_le _) (lt_rm_ok _ _ _) ⟨Nat.le_of_ble_eq_true rfl, Nat.le_of_ble_eq_true rfl⟩ dX7_get_7 (hE.2.2.2.2 _ _ _ _ () (Nat.le_of_ble_eq_true rfl) (Nat.le_of_ble_eq_true rfl) rfl (Or.inr ⟨k, rfl, hk, Or.inl ⟨h1, rfl⟩⟩))
    · obtain ⟨h2, h3⟩ := hg k c hk h1
      have h5 : g k ≠ none := by rw [h1]; exact fun z => by cases z
      by_cases h4 : lp_in i (mf k)
      · obtain ⟨ki, hki, rfl⟩ := lp_in_N h4 (by omega)
        refine la_bald K (qf k) h2 (by omega) hki dX7_get_7 ?_
        refine la_i2l K dX7_get_8 rfl ?_
        exact hE.2.1 _ _ _ _ () (Nat.zero_le _) (Nat.zero_le _) rfl dX7_get_9 (Or.inr ⟨k, rfl, hk, Or.inr ⟨h5, Or.inr ⟨ki, rfl, hki, rfl⟩⟩⟩)
      · exact la_xbaldO K ⟨hz, hAs, hoff⟩ rfl (Nat.zero_le _) (lt_rm_ok _ _ _) ⟨Nat.le_of_ble_eq_true rfl, Nat.le_of_ble_eq_true rfl⟩ (qf k) 3 h2 rfl (by omega) h4 dX7_get_7 (hE.2.2.2.2 _ _ _ _ () (Nat.le_of_ble_eq_true rfl) (Nat.le_of_ble_eq_true rfl) rfl (Or.inr ⟨k, rfl, hk, Or.inr ⟨h5, Or.inl ⟨h4, rfl⟩⟩⟩))
  · exact la_xaaldO K ⟨hz, hAs, hoff⟩ rfl (Nat.zero_le _) (lt_rm_ok _ _ _) ⟨Nat.le_of_ble_eq_true rfl, Nat.le_of_ble_eq_true rfl⟩ q2 8 hr rfl (by omega) h0 dX7_get_5 (hE.2.2.2.2 _ _ _ _ () (Nat.le_of_ble_eq_true rfl) (Nat.le_of_ble_eq_true rfl) rfl (Or.inl ⟨h0, rfl⟩))
theorem lb_X8_init (hoff : lt_off ω.1) {a q1 : Nat} (he : ws[q1]? = some (a, .inr (7, [.null]))) {x : Int32} (hx4 : x ≤ nI 4) : lt_C ω yX8_init cX8_init 2 none [] (lt_rm 1 3 60) lt_Zs [.ref a, .int x] ws (fun w : va_W => w) (fun r w => (x < 0 ∧ r = .inr lt_nasN ∧ w = ws) ∨ ∃ N b : Nat, N ≤ 4 ∧ x = nI N ∧ r = .inl none ∧ w = (ws ++ [((b, .inl (ω.2.2 9, N, .inr (.inr (.inr (.inr (fun _ => none)))))) : Nat × va_E)]).set q1 (a, .inr (7, [.ref b]))) := by
  refine lt_C_of [some (.ref a), some (.int x)] rfl rfl (Nat.le_of_ble_eq_true rfl) ?_
  intro κ K hz hAs hnm htab hE
  refine la_aload_n K dX8_init_0 rfl ?_
  refine lt_at K (lb_X6_init a) lt_Zs_b (by decide) (lt_codeC K q604) (lt_invIN (As := []) K q618 q603 q604 rfl (by decide +kernel) rfl dX8_init_1) dX8_init_1 rfl (Nat.zero_le _) ⟨Nat.le_of_ble_eq_true rfl, Nat.le_of_ble_eq_true rfl⟩ ⟨Nat.le_of_ble_eq_true rfl, Nat.le_of_ble_eq_true rfl⟩ (lt_Zs_at hz hAs) (fun v u h => ?_) (fun X u h => by cases h)
  cases h
  refine la_aload_n K dX8_init_4 rfl ?_
  refine la_iload_n K dX8_init_5 rfl ?_
  by_cases h0 : x < 0
  · exact la_xnegA K ⟨hz, hAs, hoff⟩ rfl (Nat.le_of_ble_eq_true rfl) (lt_rm_ok _ _ _) ⟨Nat.le_of_ble_eq_true rfl, Nat.le_of_ble_eq_true rfl⟩ h0 q620 q619 dX8_init_6 (hE.2.2.2.2 _ _ _ _ ws (Nat.le_of_ble_eq_true rfl) (Nat.le_of_ble_eq_true rfl) rfl (Or.inl ⟨h0, rfl, rfl⟩))
  · obtain ⟨N, hN, rfl⟩ := nI_of2 (M := nI 4) (n := 4) (by decide +kernel) h0 hx4
    refine la_newarrA K 9 rfl q620 q619 (by omega) ⟨Nat.le_of_ble_eq_true rfl, by show 0 + 0 + N ≤ 60; omega⟩ dX8_init_6 (fun b => ?_)
    refine la_putfF K hnm in_X8 tyX8 tyX8_ok nmX8 q1 0 (by rw [List.getElem?_append_left (List.getElem?_eq_some_iff.mp he).1]; exact he) rfl (by decide) q621 rfl rfl rfl rfl rfl rfl (by decide) dX8_init_9 ?_
    exact hE.2.2.1 _ _ _ _ (Nat.le_of_ble_eq_true rfl) (by show 0 + 0 + N ≤ 60; omega) rfl dX8_init_12 (Or.inr ⟨N, b, hN, rfl, rfl, rfl⟩)
theorem lb_X8_rows {a b q1 q2 N : Nat} {g : Nat → Option Nat} (he : ws[q1]? = some (a, .inr (7, [.ref b]))) (hr : ws[q2]? = some (b, .inl (ω.2.2 9, N, .inr (.inr (.inr (.inr g)))))) (hN : N ≤ 4) : lt_C ω yX8_rows cX8_rows 1 (some .int) [] (lt_rm 0 0 0) lt_Zs [.ref a] ws (fun _ : Unit => ws) (fun r _ => r = .inl (some (.int (nI N)))) := by
  refine lt_C_of [some (.ref a)] rfl rfl (Nat.le_of_ble_eq_true rfl) ?_
  intro κ K hz hAs hnm htab hE
  refine la_aload_n K dX8_rows_0 rfl ?_
  refine la_getf K in_X8 q1 0 he rfl (by decide) q621 rfl rfl dX8_rows_1 ?_
  refine la_alenR K q2 9 hr rfl dX8_rows_4 ?_
  exact hE.1 _ _ _ _ () (Nat.zero_le _) (Nat.zero_le _) rfl dX8_rows_5 rfl
theorem lb_X8_make (hoff : lt_off ω.1) {a b q1 q2 N : Nat} {g : Nat → Option Nat} (he : ws[q1]? = some (a, .inr (7, [.ref b]))) (hr : ws[q2]? = some (b, .inl (ω.2.2 9, N, .inr (.inr (.inr (.inr g)))))) (hN : N ≤ 4) (r : Int32) {x : Int32} (hx8 : x ≤ nI 8) : lt_C ω yX8_make cX8_make 4 none [] (lt_rm 0 4 300) lt_Zs [.ref a, .int r, .int x] ws (fun w : va_W => w) (fun o w => (¬ lp_in r N ∧ o = .inr lt_idxN ∧ w = ws) ∨ (lp_in r N ∧ x < 0 ∧ o = .inr lt_nasN ∧ w = ws) ∨ ∃ k m c : Nat, r = nI k ∧ k < N ∧ m ≤ 8 ∧ x = nI m ∧ o = .inl none ∧ w = (ws ++ [((c, .inl (ω.2.2 4, m, .inl (fun _ => 0))) : Nat × va_E)]).set q2 (b, .inl (ω.2.2 9, N, .inr (.inr (.inr (.inr (va_up g k (some c)))))))) := by
  refine lt_C_of [some (.ref a), some (.int r), some (.int x), none] rfl rfl (Nat.le_of_ble_eq_true rfl) ?_
  intro κ K hz hAs hnm htab hE
  refine la_aload_n K dX8_make_0 rfl ?_
  refine la_getf K in_X8 q1 0 he rfl (by decide) q621 rfl rfl dX8_make_1 ?_
  refine la_iload_n K dX8_make_4 rfl ?_
  by_cases h0 : lp_in r N
  · obtain ⟨k, hk, rfl⟩ := lp_in_N h0 (by omega)
    refine la_aaldR K q2 9 hr rfl rfl (by omega) hk dX8_make_5 ?_
    have goal : ∀ z : Option Value, la_At ω κ (0, 0) 7 [some (.ref a), some (.int (nI k)), some (.int x), z] [] ws := by
      intro z
      refine la_aload_n K dX8_make_7 rfl ?_
      refine la_getf K in_X8 q1 0 he rfl (by decide) q621 rfl rfl dX8_make_8 ?_
      refine la_iload_n K dX8_make_11 rfl ?_
      refine la_iload_n K dX8_make_12 rfl ?_
      by_cases h1 : x < 0
      · exact la_xneg K ⟨hz, hAs, hoff⟩ rfl (Nat.le_of_ble_eq_true rfl) (lt_rm_ok _ _ _) ⟨Nat.le_of_ble_eq_true rfl, Nat.le_of_ble_eq_true rfl⟩ h1 dX8_make_13 (hE.2.2.2.2 _ _ _ _ ws (Nat.le_of_ble_eq_true rfl) (Nat.le_of_ble_eq_true rfl) rfl (Or.inr (Or.inl ⟨h0, h1, rfl, rfl⟩)))
      · obtain ⟨m, hm, rfl⟩ := nI_of2 (M := nI 8) (n := 8) (by decide +kernel) h1 hx8
        refine la_newarr (aty := .short) (D := .inl (fun _ => 0)) K 4 rfl rfl q719 (fun _ _ h => h) (fun _ => rfl) (by omega) (by decide) ⟨Nat.le_of_ble_eq_true rfl, by show 0 + m ≤ 300; omega⟩ dX8_make_13 (fun c => ?_)
        refine la_aastA K q2 9 ws.length 4 (by rw [List.getElem?_append_left (List.getElem?_eq_some_iff.mp hr).1]; exact hr) rfl (by rw [List.getElem?_append_right (Nat.le_refl _), Nat.sub_self]; rfl) rfl (fun _ _ h => h) q620 (by omega) hk dX8_make_15 ?_
        exact hE.2.2.1 _ _ _ _ (Nat.le_of_ble_eq_true rfl) (by show 0 + m ≤ 300; omega) rfl dX8_make_16 (Or.inr (Or.inr ⟨k, m, c, rfl, hk, hm, rfl, rfl, rfl⟩))
    rcases hg : g k with _ | c0
    · exact la_astore_n0 K dX8_make_6 (Nat.le_of_ble_eq_true rfl) rfl (goal _)
    · exact la_astore_n K dX8_make_6 (Nat.le_of_ble_eq_true rfl) rfl (goal _)
  · exact la_xaaldO K ⟨hz, hAs, hoff⟩ rfl (Nat.le_of_ble_eq_true rfl) (lt_rm_ok _ _ _) ⟨Nat.le_of_ble_eq_true rfl, Nat.le_of_ble_eq_true rfl⟩ q2 9 hr rfl (by omega) h0 dX8_make_5 (hE.2.2.2.2 _ _ _ _ ws (Nat.le_of_ble_eq_true rfl) (Nat.le_of_ble_eq_true rfl) rfl (Or.inl ⟨h0, rfl, rfl⟩))
theorem lb_X8_size (hoff : lt_off ω.1) {a b q1 q2 N : Nat} {g : Nat → Option Nat} (he : ws[q1]? = some (a, .inr (7, [.ref b]))) (hr : ws[q2]? = some (b, .inl (ω.2.2 9, N, .inr (.inr (.inr (.inr g)))))) (hN : N ≤ 4) (r : Int32) (qf mf : Nat → Nat) (ff : Nat → Nat → Int32) (hg : ∀ k c, k < N → g k = some c → ws[qf k]? = some (c, .inl (ω.2.2 4, mf k, .inl (ff k))) ∧ mf k ≤ 8) : lt_C ω yX8_size cX8_size 2 (some .int) [] (lt_rm 0 3 240) lt_Zs [.ref a, .int r] ws (fun _ : Unit => ws) (fun o _ => (¬ lp_in r N ∧ o = .inr lt_idxN) ∨ ∃ k, r = nI k ∧ k < N ∧ ((g k = none ∧ o = .inr lt_NPE) ∨ (g k ≠ none ∧ o = .inl (some (.int (nI (mf k))))))) := by
  refine lt_C_of [some (.ref a), some (.int r)] rfl rfl (Nat.le_of_ble_eq_true rfl) ?_
  intro κ K hz hAs hnm htab hE
  refine la_aload_n K dX8_size_0 rfl ?_
  refine la_getf K in_X8 q1 0 he rfl (by decide) q621 rfl rfl dX8_size_1 ?_
  refine la_iload_n K dX8_size_4 rfl ?_
  by_cases h0 : lp_in r N
  · obtain ⟨k, hk, rfl⟩ := lp_in_N h0 (by omega)
    refine la_aaldR K q2 9 hr rfl rfl (by omega) hk dX8_size_5 ?_
    rcases h1 : g k with _ | c
    · exact la_xlen0 K ⟨hz, hAs, hoff⟩ rfl (Nat.zero_le _) (lt_rm_ok _ _ _) ⟨Nat.le_of_ble_eq_true rfl, Nat.le_of_ble_eq_true rfl⟩ dX8_size_6 (hE.2.2.2.2 _ _ _ _ () (Nat.le_of_ble_eq_true rfl) (Nat.le_of_ble_eq_true rfl) rfl (Or.inr ⟨k, rfl, hk, Or.inl ⟨h1, rfl⟩⟩))
    · obtain ⟨h2, h3⟩ := hg k c hk h1
      have h5 : g k ≠ none := by rw [h1]; exact fun z => by cases z
      refine la_alenR K (qf k) 4 h2 rfl dX8_size_6 ?_
      exact hE.1 _ _ _ _ () (Nat.zero_le _) (Nat.zero_le _) rfl dX8_size_7 (Or.inr ⟨k, rfl, hk, Or.inr ⟨h5, rfl⟩⟩)
  · exact la_xaaldO K ⟨hz, hAs, hoff⟩ rfl (Nat.zero_le _) (lt_rm_ok _ _ _) ⟨Nat.le_of_ble_eq_true rfl, Nat.le_of_ble_eq_true rfl⟩ q2 9 hr rfl (by omega) h0 dX8_size_5 (hE.2.2.2.2 _ _ _ _ () (Nat.le_of_ble_eq_true rfl) (Nat.le_of_ble_eq_true rfl) rfl (Or.inl ⟨h0, rfl⟩))
theorem lb_X8_get (hoff : lt_off ω.1) {a b q1 q2 N : Nat} {g : Nat → Option Nat} (he : ws[q1]? = some (a, .inr (7, [.ref b]))) (hr : ws[q2]? = some (b, .inl (ω.2.2 9, N, .inr (.inr (.inr (.inr g)))))) (hN : N ≤ 4) (r i : Int32) (qf mf : Nat → Nat) (ff : Nat → Nat → Int32) (hg : ∀ k c, k < N → g k = some c → ws[qf k]? = some (c, .inl (ω.2.2 4, mf k, .inl (ff k))) ∧ mf k ≤ 8) : lt_C ω yX8_get cX8_get 3 (some .long) [] (lt_rm 0 3 240) lt_Zs [.ref a, .int r, .int i] ws (fun _ : Unit => ws) (fun o _ => (¬ lp_in r N ∧ o = .inr lt_idxN) ∨ ∃ k, r = nI k ∧ k < N ∧ ((g k = none ∧ o = .inr lt_NPE) ∨ (g k ≠ none ∧ ((¬ lp_in i (mf k) ∧ o = .inr lt_idxN) ∨ ∃ ki, i = nI ki ∧ ki < mf k ∧ o = .inl (some (.long ((ff k ki).toInt64))))))) := by
  refine lt_C_of [some (.ref a), some (.int r), some (.int i)] rfl rfl (Nat.le_of_ble_eq_true rfl) ?_
  intro κ K hz hAs hnm htab hE
  refine la_aload_n K dX8_get_0 rfl ?_
  refine la_getf K in_X8 q1 0 he rfl (by decide) q621 rfl rfl dX8_get_1 ?_
  refine la_iload_n K dX8_get_4 rfl ?_
  by_cases h0 : lp_in r N
  · obtain ⟨k, hk, rfl⟩ := lp_in_N h0 (by omega)
    refine la_aaldR K q2 9 hr rfl rfl (by omega) hk dX8_get_5 ?_
    refine la_iload_n K dX8_get_6 rfl ?_
    rcases h1 : g k with _ | c
    · exact la_xsald0 K ⟨hz, hAs, hoff⟩ rfl (Nat.zero_le _) (lt_rm_ok _ _ _) ⟨Nat.le_of_ble_eq_true rfl, Nat.le_of_ble_eq_true rfl⟩ dX8_get_7 (hE.2.2.2.2 _ _ _ _ () (Nat.le_of_ble_eq_true rfl) (Nat.le_of_ble_eq_true rfl) rfl (Or.inr ⟨k, rfl, hk, Or.inl ⟨h1, rfl⟩⟩))
    · obtain ⟨h2, h3⟩ := hg k c hk h1
      have h5 : g k ≠ none := by rw [h1]; exact fun z => by cases z
      by_cases h4 : lp_in i (mf k)
      · obtain ⟨ki, hki, rfl⟩ := lp_in_N h4 (by omega)
        refine la_sald K (qf k) h2 (by omega) hki dX8_get_7 ?_
        refine la_i2l K dX8_get_8 rfl ?_
        exact hE.2.1 _ _ _ _ () (Nat.zero_le _) (Nat.zero_le _) rfl dX8_get_9 (Or.inr ⟨k, rfl, hk, Or.inr ⟨h5, Or.inr ⟨ki, rfl, hki, rfl⟩⟩⟩)
      · exact la_xsaldO K ⟨hz, hAs, hoff⟩ rfl (Nat.zero_le _) (lt_rm_ok _ _ _) ⟨Nat.le_of_ble_eq_true rfl, Nat.le_of_ble_eq_true rfl⟩ (qf k) 4 h2 rfl (by omega) h4 dX8_get_7 (hE.2.2.2.2 _ _ _ _ () (Nat.le_of_ble_eq_true rfl) (Nat.le_of_ble_eq_true rfl) rfl (Or.inr ⟨k, rfl, hk, Or.inr ⟨h5, Or.inl ⟨h4, rfl⟩⟩⟩))
  · exact la_xaaldO K ⟨hz, hAs, hoff⟩ rfl (Nat.zero_le _) (lt_rm_ok _ _ _) ⟨Nat.le_of_ble_eq_true rfl, Nat.le_of_ble_eq_true rfl⟩ q2 9 hr rfl (by omega) h0 dX8_get_5 (hE.2.2.2.2 _ _ _ _ () (Nat.le_of_ble_eq_true rfl) (Nat.le_of_ble_eq_true rfl) rfl (Or.inl ⟨h0, rfl⟩))
theorem lb_X9_init (hoff : lt_off ω.1) {a q1 : Nat} (he : ws[q1]? = some (a, .inr (8, [.null]))) {x : Int32} (hx4 : x ≤ nI 4) : lt_C ω yX9_init cX9_init 2 none [] (lt_rm 1 3 60) lt_Zs [.ref a, .int x] ws (fun w : va_W => w) (fun r w => (x < 0 ∧ r = .inr lt_nasN ∧ w = ws) ∨ ∃ N b : Nat, N ≤ 4 ∧ x = nI N ∧ r = .inl none ∧ w = (ws ++ [((b, .inl (ω.2.2 7, N, .inr (.inr (.inr (.inr (fun _ => none)))))) : Nat × va_E)]).set q1 (a, .inr (8, [.ref b]))) := by
  refine lt_C_of [some (.ref a), some (.int x)] rfl rfl (Nat.le_of_ble_eq_true rfl) ?_
  intro κ K hz hAs hnm htab hE
  refine la_aload_n K dX9_init_0 rfl ?_
  refine lt_at K (lb_X6_init a) lt_Zs_b (by decide) (lt_codeC K q604) (lt_invIN (As := []) K q631 q603 q604 rfl (by decide +kernel) rfl dX9_init_1) dX9_init_1 rfl (Nat.zero_le _) ⟨Nat.le_of_ble_eq_true rfl, Nat.le_of_ble_eq_true rfl⟩ ⟨Nat.le_of_ble_eq_true rfl, Nat.le_of_ble_eq_true rfl⟩ (lt_Zs_at hz hAs) (fun v u h => ?_) (fun X u h => by cases h)
  cases h
  refine la_aload_n K dX9_init_4 rfl ?_
  refine la_iload_n K dX9_init_5 rfl ?_
  by_cases h0 : x < 0
  · exact la_xnegA K ⟨hz, hAs, hoff⟩ rfl (Nat.le_of_ble_eq_true rfl) (lt_rm_ok _ _ _) ⟨Nat.le_of_ble_eq_true rfl, Nat.le_of_ble_eq_true rfl⟩ h0 q121 q632 dX9_init_6 (hE.2.2.2.2 _ _ _ _ ws (Nat.le_of_ble_eq_true rfl) (Nat.le_of_ble_eq_true rfl) rfl (Or.inl ⟨h0, rfl, rfl⟩))
  · obtain ⟨N, hN, rfl⟩ := nI_of2 (M := nI 4) (n := 4) (by decide +kernel) h0 hx4
    refine la_newarrA K 7 rfl q121 q632 (by omega) ⟨Nat.le_of_ble_eq_true rfl, by show 0 + 0 + N ≤ 60; omega⟩ dX9_init_6 (fun b => ?_)
    refine la_putfF K hnm in_X9 tyX9 tyX9_ok nmX9 q1 0 (by rw [List.getElem?_append_left (List.getElem?_eq_some_iff.mp he).1]; exact he) rfl (by decide) q633 rfl rfl rfl rfl rfl rfl (by decide) dX9_init_9 ?_
    exact hE.2.2.1 _ _ _ _ (Nat.le_of_ble_eq_true rfl) (by show 0 + 0 + N ≤ 60; omega) rfl dX9_init_12 (Or.inr ⟨N, b, hN, rfl, rfl, rfl⟩)
theorem lb_X9_rows {a b q1 q2 N : Nat} {g : Nat → Option Nat} (he : ws[q1]? = some (a, .inr (8, [.ref b]))) (hr : ws[q2]? = some (b, .inl (ω.2.2 7, N, .inr (.inr (.inr (.inr g)))))) (hN : N ≤ 4) : lt_C ω yX9_rows cX9_rows 1 (some .int) [] (lt_rm 0 0 0) lt_Zs [.ref a] ws (fun _ : Unit => ws) (fun r _ => r = .inl (some (.int (nI N)))) := by
  refine lt_C_of [some (.ref a)] rfl rfl (Nat.le_of_ble_eq_true rfl) ?_
  intro κ K hz hAs hnm htab hE
  refine la_aload_n K dX9_rows_0 rfl ?_
  refine la_getf K in_X9 q1 0 he rfl (by decide) q633 rfl rfl dX9_rows_1 ?_
  refine la_alenR K q2 7 hr rfl dX9_rows_4 ?_
  exact hE.1 _ _ _ _ () (Nat.zero_le _) (Nat.zero_le _) rfl dX9_rows_5 rfl
theorem lb_X9_make (hoff : lt_off ω.1) {a b q1 q2 N : Nat} {g : Nat → Option Nat} (he : ws[q1]? = some (a, .inr (8, [.ref b]))) (hr : ws[q2]? = some (b, .inl (ω.2.2 7, N, .inr (.inr (.inr (.inr g)))))) (hN : N ≤ 4) (r : Int32) {x : Int32} (hx8 : x ≤ nI 8) : lt_C ω yX9_make cX9_make 4 none [] (lt_rm 0 4 300) lt_Zs [.ref a, .int r, .int x] ws (fun w : va_W => w) (fun o w => (¬ lp_in r N ∧ o = .inr lt_idxN ∧ w = ws) ∨ (lp_in r N ∧ x < 0 ∧ o = .inr lt_nasN ∧ w = ws) ∨ ∃ k m c : Nat, r = nI k ∧ k < N ∧ m ≤ 8 ∧ x = nI m ∧ o = .inl none ∧ w = (ws ++ [((c, .inl (ω.2.2 0, m, .inl (fun _ => 0))) : Nat × va_E)]).set q2 (b, .inl (ω.2.2 7, N, .inr (.inr (.inr (.inr (va_up g k (some c)))))))) := by
  refine lt_C_of [some (.ref a), some (.int r), some (.int x), none] rfl rfl (Nat.le_of_ble_eq_true rfl) ?_
  intro κ K hz hAs hnm htab hE
  refine la_aload_n K dX9_make_0 rfl ?_
  refine la_getf K in_X9 q1 0 he rfl (by decide) q633 rfl rfl dX9_make_1 ?_
  refine la_iload_n K dX9_make_4 rfl ?_
  by_cases h0 : lp_in r N
  · obtain ⟨k, hk, rfl⟩ := lp_in_N h0 (by omega)
    refine la_aaldR K q2 7 hr rfl rfl (by omega) hk dX9_make_5 ?_
    have goal : ∀ z : Option Value, la_At ω κ (0, 0) 7 [some (.ref a), some (.int (nI k)), some (.int x), z] [] ws := by
      intro z
      refine la_aload_n K dX9_make_7 rfl ?_
      refine la_getf K in_X9 q1 0 he rfl (by decide) q633 rfl rfl dX9_make_8 ?_
      refine la_iload_n K dX9_make_11 rfl ?_
      refine la_iload_n K dX9_make_12 rfl ?_
      by_cases h1 : x < 0
      · exact la_xneg K ⟨hz, hAs, hoff⟩ rfl (Nat.le_of_ble_eq_true rfl) (lt_rm_ok _ _ _) ⟨Nat.le_of_ble_eq_true rfl, Nat.le_of_ble_eq_true rfl⟩ h1 dX9_make_13 (hE.2.2.2.2 _ _ _ _ ws (Nat.le_of_ble_eq_true rfl) (Nat.le_of_ble_eq_true rfl) rfl (Or.inr (Or.inl ⟨h0, h1, rfl, rfl⟩)))
      · obtain ⟨m, hm, rfl⟩ := nI_of2 (M := nI 8) (n := 8) (by decide +kernel) h1 hx8
        refine la_newarr (aty := .int) (D := .inl (fun _ => 0)) K 0 rfl rfl q82 (fun _ _ h => h) (fun _ => rfl) (by omega) (by decide) ⟨Nat.le_of_ble_eq_true rfl, by show 0 + m ≤ 300; omega⟩ dX9_make_13 (fun c => ?_)
        refine la_aastA K q2 7 ws.length 0 (by rw [List.getElem?_append_left (List.getElem?_eq_some_iff.mp hr).1]; exact hr) rfl (by rw [List.getElem?_append_right (Nat.le_refl _), Nat.sub_self]; rfl) rfl (fun _ _ h => h) q121 (by omega) hk dX9_make_15 ?_
        exact hE.2.2.1 _ _ _ _ (Nat.le_of_ble_eq_true rfl) (by show 0 + m ≤ 300; omega) rfl dX9_make_16 (Or.inr (Or.inr ⟨k, m, c, rfl, hk, hm, rfl, rfl, rfl⟩))
    rcases hg : g k with _ | c0
    · exact la_astore_n0 K dX9_make_6 (Nat.le_of_ble_eq_true rfl) rfl (goal _)
    · exact la_astore_n K dX9_make_6 (Nat.le_of_ble_eq_true rfl) rfl (goal _)
  · exact la_xaaldO K ⟨hz, hAs, hoff⟩ rfl (Nat.le_of_ble_eq_true rfl) (lt_rm_ok _ _ _) ⟨Nat.le_of_ble_eq_true rfl, Nat.le_of_ble_eq_true rfl⟩ q2 7 hr rfl (by omega) h0 dX9_make_5 (hE.2.2.2.2 _ _ _ _ ws (Nat.le_of_ble_eq_true rfl) (Nat.le_of_ble_eq_true rfl) rfl (Or.inl ⟨h0, rfl, rfl⟩))
theorem lb_X9_size (hoff : lt_off ω.1) {a b q1 q2 N : Nat} {g : Nat → Option Nat} (he : ws[q1]? = some (a, .inr (8, [.ref b]))) (hr : ws[q2]? = some (b, .inl (ω.2.2 7, N, .inr (.inr (.inr (.inr g)))))) (hN : N ≤ 4) (r : Int32) (qf mf : Nat → Nat) (ff : Nat → Nat → Int32) (hg : ∀ k c, k < N → g k = some c → ws[qf k]? = some (c, .inl (ω.2.2 0, mf k, .inl (ff k))) ∧ mf k ≤ 8) : lt_C ω yX9_size cX9_size 2 (some .int) [] (lt_rm 0 3 240) lt_Zs [.ref a, .int r] ws (fun _ : Unit => ws) (fun o _ => (¬ lp_in r N ∧ o = .inr lt_idxN) ∨ ∃ k, r = nI k ∧ k < N ∧ ((g k = none ∧ o = .inr lt_NPE) ∨ (g k ≠ none ∧ o = .inl (some (.int (nI (mf k))))))) := by
  refine lt_C_of [some (.ref a), some (.int r)] rfl rfl (Nat.le_of_ble_eq_true rfl) ?_
  intro κ K hz hAs hnm htab hE
  refine la_aload_n K dX9_size_0 rfl ?_
  refine la_getf K in_X9 q1 0 he rfl (by decide) q633 rfl rfl dX9_size_1 ?_
  refine la_iload_n K dX9_size_4 rfl ?_
  by_cases h0 : lp_in r N
  · obtain ⟨k, hk, rfl⟩ := lp_in_N h0 (by omega)
    refine la_aaldR K q2 7 hr rfl rfl (by omega) hk dX9_size_5 ?_
    rcases h1 : g k with _ | c
    · exact la_xlen0 K ⟨hz, hAs, hoff⟩ rfl (Nat.zero_le _) (lt_rm_ok _ _ _) ⟨Nat.le_of_ble_eq_true rfl, Nat.le_of_ble_eq_true rfl⟩ dX9_size_6 (hE.2.2.2.2 _ _ _ _ () (Nat.le_of_ble_eq_true rfl) (Nat.le_of_ble_eq_true rfl) rfl (Or.inr ⟨k, rfl, hk, Or.inl ⟨h1, rfl⟩⟩))
    · obtain ⟨h2, h3⟩ := hg k c hk h1
      have h5 : g k ≠ none := by rw [h1]; exact fun z => by cases z
      refine la_alenR K (qf k) 0 h2 rfl dX9_size_6 ?_
      exact hE.1 _ _ _ _ () (Nat.zero_le _) (Nat.zero_le _) rfl dX9_size_7 (Or.inr ⟨k, rfl, hk, Or.inr ⟨h5, rfl⟩⟩)
  · exact la_xaaldO K ⟨hz, hAs, hoff⟩ rfl (Nat.zero_le _) (lt_rm_ok _ _ _) ⟨Nat.le_of_ble_eq_true rfl, Nat.le_of_ble_eq_true rfl⟩ q2 7 hr rfl (by omega) h0 dX9_size_5 (hE.2.2.2.2 _ _ _ _ () (Nat.le_of_ble_eq_true rfl) (Nat.le_of_ble_eq_true rfl) rfl (Or.inl ⟨h0, rfl⟩))
theorem lb_X9_get (hoff : lt_off ω.1) {a b q1 q2 N : Nat} {g : Nat → Option Nat} (he : ws[q1]? = some (a, .inr (8, [.ref b]))) (hr : ws[q2]? = some (b, .inl (ω.2.2 7, N, .inr (.inr (.inr (.inr g)))))) (hN : N ≤ 4) (r i : Int32) (qf mf : Nat → Nat) (ff : Nat → Nat → Int32) (hg : ∀ k c, k < N → g k = some c → ws[qf k]? = some (c, .inl (ω.2.2 0, mf k, .inl (ff k))) ∧ mf k ≤ 8) : lt_C ω yX9_get cX9_get 3 (some .long) [] (lt_rm 0 3 240) lt_Zs [.ref a, .int r, .int i] ws (fun _ : Unit => ws) (fun o _ => (¬ lp_in r N ∧ o = .inr lt_idxN) ∨ ∃ k, r = nI k ∧ k < N ∧ ((g k = none ∧ o = .inr lt_NPE) ∨ (g k ≠ none ∧ ((¬ lp_in i (mf k) ∧ o = .inr lt_idxN) ∨ ∃ ki, i = nI ki ∧ ki < mf k ∧ o = .inl (some (.long ((ff k ki).toInt64))))))) := by
  refine lt_C_of [some (.ref a), some (.int r), some (.int i)] rfl rfl (Nat.le_of_ble_eq_true rfl) ?_
  intro κ K hz hAs hnm htab hE
  refine la_aload_n K dX9_get_0 rfl ?_
  refine la_getf K in_X9 q1 0 he rfl (by decide) q633 rfl rfl dX9_get_1 ?_
  refine la_iload_n K dX9_get_4 rfl ?_
  by_cases h0 : lp_in r N
  · obtain ⟨k, hk, rfl⟩ := lp_in_N h0 (by omega)
    refine la_aaldR K q2 7 hr rfl rfl (by omega) hk dX9_get_5 ?_
    refine la_iload_n K dX9_get_6 rfl ?_
    rcases h1 : g k with _ | c
    · exact la_xiald0 K ⟨hz, hAs, hoff⟩ rfl (Nat.zero_le _) (lt_rm_ok _ _ _) ⟨Nat.le_of_ble_eq_true rfl, Nat.le_of_ble_eq_true rfl⟩ dX9_get_7 (hE.2.2.2.2 _ _ _ _ () (Nat.le_of_ble_eq_true rfl) (Nat.le_of_ble_eq_true rfl) rfl (Or.inr ⟨k, rfl, hk, Or.inl ⟨h1, rfl⟩⟩))
    · obtain ⟨h2, h3⟩ := hg k c hk h1
      have h5 : g k ≠ none := by rw [h1]; exact fun z => by cases z
      by_cases h4 : lp_in i (mf k)
      · obtain ⟨ki, hki, rfl⟩ := lp_in_N h4 (by omega)
        refine la_irld K (qf k) h2 (by omega) hki dX9_get_7 ?_
        refine la_i2l K dX9_get_8 rfl ?_
        exact hE.2.1 _ _ _ _ () (Nat.zero_le _) (Nat.zero_le _) rfl dX9_get_9 (Or.inr ⟨k, rfl, hk, Or.inr ⟨h5, Or.inr ⟨ki, rfl, hki, rfl⟩⟩⟩)
      · exact la_xialdO K ⟨hz, hAs, hoff⟩ rfl (Nat.zero_le _) (lt_rm_ok _ _ _) ⟨Nat.le_of_ble_eq_true rfl, Nat.le_of_ble_eq_true rfl⟩ (qf k) 0 h2 rfl (by omega) h4 dX9_get_7 (hE.2.2.2.2 _ _ _ _ () (Nat.le_of_ble_eq_true rfl) (Nat.le_of_ble_eq_true rfl) rfl (Or.inr ⟨k, rfl, hk, Or.inr ⟨h5, Or.inl ⟨h4, rfl⟩⟩⟩))
  · exact la_xaaldO K ⟨hz, hAs, hoff⟩ rfl (Nat.zero_le _) (lt_rm_ok _ _ _) ⟨Nat.le_of_ble_eq_true rfl, Nat.le_of_ble_eq_true rfl⟩ q2 7 hr rfl (by omega) h0 dX9_get_5 (hE.2.2.2.2 _ _ _ _ () (Nat.le_of_ble_eq_true rfl) (Nat.le_of_ble_eq_true rfl) rfl (Or.inl ⟨h0, rfl⟩))
theorem lb_X10_init (hoff : lt_off ω.1) {a q1 : Nat} (he : ws[q1]? = some (a, .inr (9, [.null]))) {x : Int32} (hx4 : x ≤ nI 4) : lt_C ω yX10_init cX10_init 2 none [] (lt_rm 1 3 60) lt_Zs [.ref a, .int x] ws (fun w : va_W => w) (fun r w => (x < 0 ∧ r = .inr lt_nasN ∧ w = ws) ∨ ∃ N b : Nat, N ≤ 4 ∧ x = nI N ∧ r = .inl none ∧ w = (ws ++ [((b, .inl (ω.2.2 10, N, .inr (.inr (.inr (.inr (fun _ => none)))))) : Nat × va_E)]).set q1 (a, .inr (9, [.ref b]))) := by
  refine lt_C_of [some (.ref a), some (.int x)] rfl rfl (Nat.le_of_ble_eq_true rfl) ?_
  intro κ K hz hAs hnm htab hE
  refine la_aload_n K dX10_init_0 rfl ?_
  refine lt_at K (lb_X6_init a) lt_Zs_b (by decide) (lt_codeC K q604) (lt_invIN (As := []) K q643 q603 q604 rfl (by decide +kernel) rfl dX10_init_1) dX10_init_1 rfl (Nat.zero_le _) ⟨Nat.le_of_ble_eq_true rfl, Nat.le_of_ble_eq_true rfl⟩ ⟨Nat.le_of_ble_eq_true rfl, Nat.le_of_ble_eq_true rfl⟩ (lt_Zs_at hz hAs) (fun v u h => ?_) (fun X u h => by cases h)
  cases h
  refine la_aload_n K dX10_init_4 rfl ?_
  refine la_iload_n K dX10_init_5 rfl ?_
  by_cases h0 : x < 0
  · exact la_xnegA K ⟨hz, hAs, hoff⟩ rfl (Nat.le_of_ble_eq_true rfl) (lt_rm_ok _ _ _) ⟨Nat.le_of_ble_eq_true rfl, Nat.le_of_ble_eq_true rfl⟩ h0 q645 q644 dX10_init_6 (hE.2.2.2.2 _ _ _ _ ws (Nat.le_of_ble_eq_true rfl) (Nat.le_of_ble_eq_true rfl) rfl (Or.inl ⟨h0, rfl, rfl⟩))
  · obtain ⟨N, hN, rfl⟩ := nI_of2 (M := nI 4) (n := 4) (by decide +kernel) h0 hx4
    refine la_newarrA K 10 rfl q645 q644 (by omega) ⟨Nat.le_of_ble_eq_true rfl, by show 0 + 0 + N ≤ 60; omega⟩ dX10_init_6 (fun b => ?_)
    refine la_putfF K hnm in_X10 tyX10 tyX10_ok nmX10 q1 0 (by rw [List.getElem?_append_left (List.getElem?_eq_some_iff.mp he).1]; exact he) rfl (by decide) q646 rfl rfl rfl rfl rfl rfl (by decide) dX10_init_9 ?_
    exact hE.2.2.1 _ _ _ _ (Nat.le_of_ble_eq_true rfl) (by show 0 + 0 + N ≤ 60; omega) rfl dX10_init_12 (Or.inr ⟨N, b, hN, rfl, rfl, rfl⟩)
theorem lb_X10_rows {a b q1 q2 N : Nat} {g : Nat → Option Nat} (he : ws[q1]? = some (a, .inr (9, [.ref b]))) (hr : ws[q2]? = some (b, .inl (ω.2.2 10, N, .inr (.inr (.inr (.inr g)))))) (hN : N ≤ 4) : lt_C ω yX10_rows cX10_rows 1 (some .int) [] (lt_rm 0 0 0) lt_Zs [.ref a] ws (fun _ : Unit => ws) (fun r _ => r = .inl (some (.int (nI N)))) := by
  refine lt_C_of [some (.ref a)] rfl rfl (Nat.le_of_ble_eq_true rfl) ?_
  intro κ K hz hAs hnm htab hE
  refine la_aload_n K dX10_rows_0 rfl ?_
  refine la_getf K in_X10 q1 0 he rfl (by decide) q646 rfl rfl dX10_rows_1 ?_
  refine la_alenR K q2 10 hr rfl dX10_rows_4 ?_
  exact hE.1 _ _ _ _ () (Nat.zero_le _) (Nat.zero_le _) rfl dX10_rows_5 rfl
theorem lb_X10_make (hoff : lt_off ω.1) {a b q1 q2 N : Nat} {g : Nat → Option Nat} (he : ws[q1]? = some (a, .inr (9, [.ref b]))) (hr : ws[q2]? = some (b, .inl (ω.2.2 10, N, .inr (.inr (.inr (.inr g)))))) (hN : N ≤ 4) (r : Int32) {x : Int32} (hx8 : x ≤ nI 8) : lt_C ω yX10_make cX10_make 4 none [] (lt_rm 0 4 300) lt_Zs [.ref a, .int r, .int x] ws (fun w : va_W => w) (fun o w => (¬ lp_in r N ∧ o = .inr lt_idxN ∧ w = ws) ∨ (lp_in r N ∧ x < 0 ∧ o = .inr lt_nasN ∧ w = ws) ∨ ∃ k m c : Nat, r = nI k ∧ k < N ∧ m ≤ 8 ∧ x = nI m ∧ o = .inl none ∧ w = (ws ++ [((c, .inl (ω.2.2 2, m, .inr (.inl (fun _ => 0)))) : Nat × va_E)]).set q2 (b, .inl (ω.2.2 10, N, .inr (.inr (.inr (.inr (va_up g k (some c)))))))) := by
  refine lt_C_of [some (.ref a), some (.int r), some (.int x), none] rfl rfl (Nat.le_of_ble_eq_true rfl) ?_
  intro κ K hz hAs hnm htab hE
  refine la_aload_n K dX10_make_0 rfl ?_
  refine la_getf K in_X10 q1 0 he rfl (by decide) q646 rfl rfl dX10_make_1 ?_
  refine la_iload_n K dX10_make_4 rfl ?_
  by_cases h0 : lp_in r N
  · obtain ⟨k, hk, rfl⟩ := lp_in_N h0 (by omega)
    refine la_aaldR K q2 10 hr rfl rfl (by omega) hk dX10_make_5 ?_
    have goal : ∀ z : Option Value, la_At ω κ (0, 0) 7 [some (.ref a), some (.int (nI k)), some (.int x), z] [] ws := by
      intro z
      refine la_aload_n K dX10_make_7 rfl ?_
      refine la_getf K in_X10 q1 0 he rfl (by decide) q646 rfl rfl dX10_make_8 ?_
      refine la_iload_n K dX10_make_11 rfl ?_
      refine la_iload_n K dX10_make_12 rfl ?_
      by_cases h1 : x < 0
      · exact la_xneg K ⟨hz, hAs, hoff⟩ rfl (Nat.le_of_ble_eq_true rfl) (lt_rm_ok _ _ _) ⟨Nat.le_of_ble_eq_true rfl, Nat.le_of_ble_eq_true rfl⟩ h1 dX10_make_13 (hE.2.2.2.2 _ _ _ _ ws (Nat.le_of_ble_eq_true rfl) (Nat.le_of_ble_eq_true rfl) rfl (Or.inr (Or.inl ⟨h0, h1, rfl, rfl⟩)))
      · obtain ⟨m, hm, rfl⟩ := nI_of2 (M := nI 8) (n := 8) (by decide +kernel) h1 hx8
        refine la_newarr (aty := .long) (D := .inr (.inl (fun _ => 0))) K 2 rfl rfl q718 (fun _ _ h => h) (fun _ => rfl) (by omega) (by decide) ⟨Nat.le_of_ble_eq_true rfl, by show 0 + m ≤ 300; omega⟩ dX10_make_13 (fun c => ?_)
        refine la_aastA K q2 10 ws.length 2 (by rw [List.getElem?_append_left (List.getElem?_eq_some_iff.mp hr).1]; exact hr) rfl (by rw [List.getElem?_append_right (Nat.le_refl _), Nat.sub_self]; rfl) rfl (fun _ _ h => h) q645 (by omega) hk dX10_make_15 ?_
        exact hE.2.2.1 _ _ _ _ (Nat.le_of_ble_eq_true rfl) (by show 0 + m ≤ 300; omega) rfl dX10_make_16 (Or.inr (Or.inr ⟨k, m, c, rfl, hk, hm, rfl, rfl, rfl⟩))
    rcases hg : g k with _ | c0
    · exact la_astore_n0 K dX10_make_6 (Nat.le_of_ble_eq_true rfl) rfl (goal _)
    · exact la_astore_n K dX10_make_6 (Nat.le_of_ble_eq_true rfl) rfl (goal _)
  · exact la_xaaldO K ⟨hz, hAs, hoff⟩ rfl (Nat.le_of_ble_eq_true rfl) (lt_rm_ok _ _ _) ⟨Nat.le_of_ble_eq_true rfl, Nat.le_of_ble_eq_true rfl⟩ q2 10 hr rfl (by omega) h0 dX10_make_5 (hE.2.2.2.2 _ _ _ _ ws (Nat.le_of_ble_eq_true rfl) (Nat.le_of_ble_eq_true rfl) rfl (Or.inl ⟨h0, rfl, rfl⟩))
theorem lb_X10_size (hoff : lt_off ω.1) {a b q1 q2 N : Nat} {g : Nat → Option Nat} (he : ws[q1]? = some (a, .inr (9, [.ref b]))) (hr : ws[q2]? = some (b, .inl (ω.2.2 10, N, .inr (.inr (.inr (.inr g)))))) (hN : N ≤ 4) (r : Int32) (qf mf : Nat → Nat) (ff : Nat → Nat → Int64) (hg : ∀ k c, k < N → g k = some c → ws[qf k]? = some (c, .inl (ω.2.2 2, mf k, .inr (.inl (ff k)))) ∧ mf k ≤ 8) : lt_C ω yX10_size cX10_size 2 (some .int) [] (lt_rm 0 3 240) lt_Zs [.ref a, .int r] ws (fun _ : Unit => ws) (fun o _ => (¬ lp_in r N ∧ o = .inr lt_idxN) ∨ ∃ k, r = nI k ∧ k < N ∧ ((g k = none ∧ o = .inr lt_NPE) ∨ (g k ≠ none ∧ o = .inl (some (.int (nI (mf k))))))) := by
  refine lt_C_of [some (.ref a), some (.int r)] rfl rfl (Nat.le_of_ble_eq_true rfl) ?_
  intro κ K hz hAs hnm htab hE
  refine la_aload_n K dX10_size_0 rfl ?_
  refine la_getf K in_X10 q1 0 he rfl (by decide) q646 rfl rfl dX10_size_1 ?_
  refine la_iload_n K dX10_size_4 rfl ?_
  by_cases h0 : lp_in r N
  · obtain ⟨k, hk, rfl⟩ := lp_in_N h0 (by omega)
    refine la_aaldR K q2 10 hr rfl rfl (by omega) hk dX10_size_5 ?_
    rcases h1 : g k with _ | c
    · exact la_xlen0 K ⟨hz, hAs, hoff⟩ rfl (Nat.zero_le _) (lt_rm_ok _ _ _) ⟨Nat.le_of_ble_eq_true rfl, Nat.le_of_ble_eq_true rfl⟩ dX10_size_6 (hE.2.2.2.2 _ _ _ _ () (Nat.le_of_ble_eq_true rfl) (Nat.le_of_ble_eq_true rfl) rfl (Or.inr ⟨k, rfl, hk, Or.inl ⟨h1, rfl⟩⟩))
    · obtain ⟨h2, h3⟩ := hg k c hk h1
      have h5 : g k ≠ none := by rw [h1]; exact fun z => by cases z
      refine la_alenR K (qf k) 2 h2 rfl dX10_size_6 ?_
      exact hE.1 _ _ _ _ () (Nat.zero_le _) (Nat.zero_le _) rfl dX10_size_7 (Or.inr ⟨k, rfl, hk, Or.inr ⟨h5, rfl⟩⟩)
  · exact la_xaaldO K ⟨hz, hAs, hoff⟩ rfl (Nat.zero_le _) (lt_rm_ok _ _ _) ⟨Nat.le_of_ble_eq_true rfl, Nat.le_of_ble_eq_true rfl⟩ q2 10 hr rfl (by omega) h0 dX10_size_5 (hE.2.2.2.2 _ _ _ _ () (Nat.le_of_ble_eq_true rfl) (Nat.le_of_ble_eq_true rfl) rfl (Or.inl ⟨h0, rfl⟩))
theorem lb_X10_get (hoff : lt_off ω.1) {a b q1 q2 N : Nat} {g : Nat → Option Nat} (he : ws[q1]? = some (a, .inr (9, [.ref b]))) (hr : ws[q2]? = some (b, .inl (ω.2.2 10, N, .inr (.inr (.inr (.inr g)))))) (hN : N ≤ 4) (r i : Int32) (qf mf : Nat → Nat) (ff : Nat → Nat → Int64) (hg : ∀ k c, k < N → g k = some c → ws[qf k]? = some (c, .inl (ω.2.2 2, mf k, .inr (.inl (ff k)))) ∧ mf k ≤ 8) : lt_C ω yX10_get cX10_get 3 (some .long) [] (lt_rm 0 3 240) lt_Zs [.ref a, .int r, .int i] ws (fun _ : Unit => ws) (fun o _ => (¬ lp_in r N ∧ o = .inr lt_idxN) ∨ ∃ k, r = nI k ∧ k < N ∧ ((g k = none ∧ o = .inr lt_NPE) ∨ (g k ≠ none ∧ ((¬ lp_in i (mf k) ∧ o = .inr lt_idxN) ∨ ∃ ki, i = nI ki ∧ ki < mf k ∧ o = .inl (some (.long (ff k ki))))))) := by
  refine lt_C_of [some (.ref a), some (.int r), some (.int i)] rfl rfl (Nat.le_of_ble_eq_true rfl) ?_
  intro κ K hz hAs hnm htab hE
  refine la_aload_n K dX10_get_0 rfl ?_
  refine la_getf K in_X10 q1 0 he rfl (by decide) q646 rfl rfl dX10_get_1 ?_
  refine la_iload_n K dX10_get_4 rfl ?_
  by_cases h0 : lp_in r N
  · obtain ⟨k, hk, rfl⟩ := lp_in_N h0 (by omega)
    refine la_aaldR K q2 10 hr rfl rfl (by omega) hk dX10_get_5 ?_
    refine la_iload_n K dX10_get_6 rfl ?_
    rcases h1 : g k with _ | c
    · exact la_xlald0 K ⟨hz, hAs, hoff⟩ rfl (Nat.zero_le _) (lt_rm_ok _ _ _) ⟨Nat.le_of_ble_eq_true rfl, Nat.le_of_ble_eq_true rfl⟩ dX10_get_7 (hE.2.2.2.2 _ _ _ _ () (Nat.le_of_ble_eq_true rfl) (Nat.le_of_ble_eq_true rfl) rfl (Or.inr ⟨k, rfl, hk, Or.inl ⟨h1, rfl⟩⟩))
    · obtain ⟨h2, h3⟩ := hg k c hk h1
      have h5 : g k ≠ none := by rw [h1]; exact fun z => by cases z
      by_cases h4 : lp_in i (mf k)
      · obtain ⟨ki, hki, rfl⟩ := lp_in_N h4 (by omega)
        refine la_lald K (qf k) h2 (by omega) hki dX10_get_7 ?_
        exact hE.2.1 _ _ _ _ () (Nat.zero_le _) (Nat.zero_le _) rfl dX10_get_8 (Or.inr ⟨k, rfl, hk, Or.inr ⟨h5, Or.inr ⟨ki, rfl, hki, rfl⟩⟩⟩)
      · exact la_xlaldO K ⟨hz, hAs, hoff⟩ rfl (Nat.zero_le _) (lt_rm_ok _ _ _) ⟨Nat.le_of_ble_eq_true rfl, Nat.le_of_ble_eq_true rfl⟩ (qf k) 2 h2 rfl (by omega) h4 dX10_get_7 (hE.2.2.2.2 _ _ _ _ () (Nat.le_of_ble_eq_true rfl) (Nat.le_of_ble_eq_true rfl) rfl (Or.inr ⟨k, rfl, hk, Or.inr ⟨h5, Or.inl ⟨h4, rfl⟩⟩⟩))
  · exact la_xaaldO K ⟨hz, hAs, hoff⟩ rfl (Nat.zero_le _) (lt_rm_ok _ _ _) ⟨Nat.le_of_ble_eq_true rfl, Nat.le_of_ble_eq_true rfl⟩ q2 10 hr rfl (by omega) h0 dX10_get_5 (hE.2.2.2.2 _ _ _ _ () (Nat.le_of_ble_eq_true rfl) (Nat.le_of_ble_eq_true rfl) rfl (Or.inl ⟨h0, rfl⟩))
end LTB
