/-! CASTS THAT FAIL, FIELDS AND METHODS OF null, WAYS INTO METHODS THAT MAY THROW. -/
theorem lt_fc {vm : Vm} {name : String} {c : ClassId} (h : vm.findClass name = some c) : ∃ k, vm.classes[c]? = some k ∧ k.name = name ∧ k.hidden = none ∧ k.loader = none := by
  obtain ⟨hlt, hp, _⟩ := Array.findIdx?_eq_some_iff_getElem.mp h
  refine ⟨vm.classes[c], by simp [hlt], ?_⟩
  simp only [Bool.and_eq_true, beq_iff_eq, Option.isNone_iff_eq_none] at hp
  exact ⟨hp.1.1.1, hp.1.1.2, hp.2⟩
def lt_hm : List String := ["module java.base of loader 'bootstrap'", "unnamed module of loader 'bootstrap'"]
theorem lt_home {vm : Vm} {k : Class} (hl : k.loader = none) (hpk : packageOf k.name = "") (hm : (vm.modules.all fun m => m.loader.isSome || m.name == "java.base" || !(castPackages_1.any fun p => m.packages.contains p)) = true) : vm.home k ∈ lt_hm := by
  have hcase : vm.moduleOf k = none ∨ ∃ m, vm.moduleOf k = some m ∧ m.name = "java.base" := by
    cases hq : vm.moduleOf k with
    | none => exact Or.inl rfl
    | some m =>
      refine Or.inr ⟨m, rfl, ?_⟩
      unfold Vm.moduleOf at hq
      split at hq
      · have := List.find?_some hq
        simpa using this
      · have h1 := List.find?_some hq
        have h2 := List.mem_of_find?_eq_some hq
        rw [List.all_eq_true] at hm
        have h3 := hm m h2
        simp only [Bool.and_eq_true, beq_iff_eq, hl, hpk] at h1
        have h4 : (castPackages_1.any fun p => m.packages.contains p) = true := by
          unfold castPackages_1
          simp only [List.any_cons, Bool.or_eq_true]
          exact Or.inl h1.2
        rw [h4, h1.1] at h3
        simpa using h3
  have hln : vm.loaderName k.loader = "'bootstrap'" := by rw [hl]; rfl
  unfold Vm.home
  rw [hln]
  rcases hcase with h | ⟨m, h, hn⟩
  · rw [h]; exact List.mem_cons_of_mem _ List.mem_cons_self
  · rw [h]
    show "module " ++ m.name ++ " of loader " ++ "'bootstrap'" ∈ lt_hm
    rw [hn]; exact List.mem_cons_self
def lt_bks : List String := ["LadderCalls$Bytes", "LadderCalls$Shorts", "LadderCalls$Ints", "LadderCalls$Longs"]
theorem lt_msg_len {vm : Vm} {a b : Class} (ha : a.name ∈ lt_bks) (hb : b.name ∈ lt_bks) (ha1 : a.hidden = none) (hb1 : b.hidden = none) (h1 : vm.home a ∈ lt_hm) (h2 : vm.home b ∈ lt_hm) : (checkcast.message vm a b).toList.length ≤ 250 ∧ ∃ r, (checkcast.message vm a b).toList = 'c' :: r := by
  have hs : ∀ k : Class, k.name ∈ lt_bks → k.hidden = none → k.shown.toList.length ≤ 18 := by
    intro k hk hh
    have e0 : k.shown = dotted k.name := by
      unfold Class.shown
      rw [hh]
    rw [e0]
    simp only [lt_bks, List.mem_cons, List.not_mem_nil, or_false] at hk
    rcases hk with e | e | e | e <;> rw [e] <;> decide +kernel
  have hh : ∀ x : String, x ∈ lt_hm → x.toList.length ≤ 38 := by
    intro x hx
    simp only [lt_hm, List.mem_cons, List.not_mem_nil, or_false] at hx
    rcases hx with e | e <;> rw [e] <;> decide +kernel
  have a1 := hs a ha ha1
  have b1 := hs b hb hb1
  have c1 := hh _ h1
  have c2 := hh _ h2
  have hho : (vm.homes a b).toList.length ≤ 140 := by
    unfold Vm.homes
    split
    · show (toString a.shown ++ toString " and " ++ toString b.shown ++ toString " are in " ++ toString (vm.home a)).toList.length ≤ 140
      simp only [String.toList_append, List.length_append]
      have d1 : (toString " and ").toList.length = 5 := by decide
      have d2 : (toString " are in ").toList.length = 8 := by decide
      show a.shown.toList.length + _ + b.shown.toList.length + _ + (vm.home a).toList.length ≤ 140
      omega
    · show (toString a.shown ++ toString " is in " ++ toString (vm.home a) ++ toString "; " ++ toString b.shown ++ toString " is in " ++ toString (vm.home b)).toList.length ≤ 140
      simp only [String.toList_append, List.length_append]
      have d1 : (toString " is in ").toList.length = 7 := by decide
      have d2 : (toString "; ").toList.length = 2 := by decide
      show a.shown.toList.length + _ + (vm.home a).toList.length + _ + b.shown.toList.length + _ + (vm.home b).toList.length ≤ 140
      omega
  have e : checkcast.message vm a b = toString "class " ++ toString a.shown ++ toString " cannot be cast to class " ++ toString b.shown ++ toString " (" ++ toString (vm.homes a b) ++ toString ")" := rfl
  rw [e]
  constructor
  · simp only [String.toList_append, List.length_append]
    have d1 : (toString "class ").toList.length = 6 := by decide
    have d2 : (toString " cannot be cast to class ").toList.length = 25 := by decide
    have d3 : (toString " (").toList.length = 2 := by decide
    have d4 : (toString ")").toList.length = 1 := by decide
    show _ + a.shown.toList.length + _ + b.shown.toList.length + _ + (vm.homes a b).toList.length + _ ≤ 250
    omega
  · simp only [String.toList_append]
    exact ⟨_, rfl⟩
section LTZ
variable {ω : la_O} {κ : la_K} {cc : ByteArray} {nL : Nat} {own : String} {R0 : Room} {n : Nat × Nat} {pc : Nat} {lv : List (Option Value)} {st rest : List Value} {ws : va_W}
/-- a cast that goes through -/
theorem la_castY (K : la_Cx ω κ cc nL own R0) {C nm : String} {T : u_T} {N ci a i : Nat} {fs : List Value} (q0 : Nat) (he : ws[q0]? = some (a, .inr (ci, fs))) (hc : la_cl[ci]? = some (C, T, N)) (hw1 : Cond.castable C nm ∈ lw_tbl) (hl : Cond.classLink own i nm ∈ lw_all) (hd : decode cc pc = .ok (.checkcast i, 3)) (kk : la_At ω κ n (pc + 3) lv (.ref a :: st) ws) : la_At ω κ n pc lv (.ref a :: st) ws := by
  obtain ⟨hx, hb, hml, hown, hts, hK, hG, hA, hR, hlk⟩ := K
  intro H locs ls hP hD hS hl1
  exact va_castY hx hb hown (hts _ hl) (la_Gu hG hw1 rfl) (va_recv hK hP hc he) hd (kk H locs ls hP hD hS hl1)
theorem la_castN (K : la_Cx ω κ cc nL own R0) {i : Nat} (hd : decode cc pc = .ok (.checkcast i, 3)) (kk : la_At ω κ n (pc + 3) lv (.null :: st) ws) : la_At ω κ n pc lv (.null :: st) ws := by
  obtain ⟨hx, hb, hml, hown, hts, hK, hG, hA, hR, hlk⟩ := K
  intro H locs ls hP hD hS hl1
  exact lv_castN hx hb hd (kk H locs ls hP hD hS hl1)
/-- a cast that fails -/
theorem la_xcast (K : la_Cx ω κ cc nL own R0) (hz : lt_H ω κ) (hlv : lv.length = nL) (hw : ((.ref 0 :: rest : List Value).map fun v => v.category).sum ≤ 40) (hR : lt_Rm R0) (hf : n.1 + 3 ≤ R0.cells ∧ n.2 + 1010 ≤ R0.slots) {C nm : String} {T : u_T} {N ci a i : Nat} {fs : List Value} (q0 : Nat) (he : ws[q0]? = some (a, .inr (ci, fs))) (hc : la_cl[ci]? = some (C, T, N)) (hno : Cond.not (.castable C nm) ∈ flatC (Jvm.Cond.and given_1 narrow_1)) (hC : C ∈ lt_bks) (hnm : nm ∈ lt_bks) (hl : Cond.classLink own i nm ∈ lw_all) (hd : decode cc pc = .ok (.checkcast i, 3)) (kt : la_Th ω κ (n.1 + 3, n.2 + 1010) pc lv lt_cceN ws) : la_At ω κ n pc lv (.ref a :: rest) ws := by
  refine la_vmMsg (rest := .ref a :: rest) (cls := lt_cceN) (nb := 1000) K hz.1 hz.2.1 hz.2.2 lt_cce_kd lt_cce_ok (by decide) hlv hw hR hf (fun H locs ls T hP _ hT X => ?_) kt
  obtain ⟨hx, hb, hml, hown, hts, hK, hG, hA, hRe, hlk⟩ := K
  obtain ⟨cell, g1, g2, g3⟩ := va_recv hK hP hc he
  have hpl : (la_e κ).platform.magicAccessors = ({} : Platform).magicAccessors := by rw [X.admits.platform]
  obtain ⟨cT, hcT, hcl⟩ := Cond.classLink_spec hown (hts _ hl) (la_e κ).platform hpl
  obtain ⟨hg₁, hwarm₁, hready₁⟩ := State.classEntry (e := la_e κ) X.warmed hcl
  generalize T.vm.noted (la_m κ).cls i (.cls cT) = vm₁ at hg₁ hwarm₁ hready₁
  have hal : (la_s κ).vm.Alike vm₁ := hwarm₁.alike
  have hcls : vm₁.findClass C = some cell.cls := by rw [hal.findClass]; exact g3
  have hct : vm₁.findClass nm = some cT := by rw [hal.findClass]; exact hcT
  obtain ⟨ks, k1, k2, k3, k4⟩ := lt_fc hcls
  obtain ⟨kt', l1, l2, l3, l4⟩ := lt_fc hct
  have hnot : vm₁.assignable cell.cls cT = false := by
    rw [hal.assignable]
    obtain ⟨c9, t9, u1, u2, u3⟩ := lt_nc hG hno
    cases g3.symm.trans u1
    cases hcT.symm.trans u2
    exact u3
  have hmod : (vm₁.modules.all fun m => m.loader.isSome || m.name == "java.base" || !(castPackages_1.any fun p => m.packages.contains p)) = true := by
    obtain ⟨S0, b, -, -, hm, hW⟩ := hG
    have e1 : (la_s κ).vm.modules = S0.vm.modules := by rw [hW.alike.1]
    have e2 : vm₁.modules = (la_s κ).vm.modules := by rw [hal.1]
    rw [e2, e1]
    exact hm
  have hpk : ∀ x : String, x ∈ lt_bks → packageOf x = "" := by
    intro x hx
    simp only [lt_bks, List.mem_cons, List.not_mem_nil, or_false] at hx
    rcases hx with e | e | e | e <;> rw [e] <;> decide +kernel
  obtain ⟨m1, r0, m2⟩ := lt_msg_len (vm := vm₁) (a := ks) (b := kt') (by rw [k2]; exact hC) (by rw [l2]; exact hnm) k3 l3 (lt_home k4 (by rw [k2]; exact hpk _ hC) hmod) (lt_home l4 (by rw [l2]; exact hpk _ hnm) hmod)
  refine ⟨vm₁, checkcast.message vm₁ ks kt', ?_, ?_, X.noted hwarm₁, fun target hrest => ?_⟩
  · rw [beq_eq_false_iff_ne]
    intro h
    have h2 := congrArg String.toList h
    rw [m2] at h2
    have h4 : notModelled.toList = '\u0000' :: " a message that is not modelled".toList := by decide
    rw [h4] at h2
    simp at h2
  · have b1 := stringBytes_size_le (stringToUtf16 (checkcast.message vm₁ ks kt'))
    have b2 := utf16_size_le (checkcast.message vm₁ ks kt')
    omega
  · have hdg : decode (la_c κ).code (F0 (la_m κ) pc ls (.ref a :: rest)).pc = .ok (.checkcast i, 3) := by rw [hb]; exact hd
    jvm_step X.here [hx, hdg, checkcast.wp_cold (e := la_e κ) (s := T) (f := F0 (la_m κ) pc ls (.ref a :: rest)) X.here.top rfl hg₁ hready₁,
      checkcast.wp_ready (e := la_e κ) (s := T.setVm vm₁) (f := F0 (la_m κ) pc ls (.ref a :: rest)) X.here.top hready₁ rfl]
    refine ⟨cell, by rw [hT]; exact g1, fun z h => (by rw [h] at g2; cases g2), ks, k1, kt', l1, ?_⟩
    rw [if_neg (by rw [hnot]; decide)]
    exact hrest
/-- a field of null, through the nest -/
theorem la_xgetfN0 (K : la_Cx ω κ cc nL own R0) (hz : lt_H ω κ) (hlv : lv.length = nL) (hw : (rest.map fun v => v.category).sum ≤ 40) (hR : lt_Rm R0) (hf : n.1 + 1 ≤ R0.cells ∧ n.2 + 8 ≤ R0.slots) {C host : String} {T : u_T} {N ci i : Nat} {ref : String} (hin : ∀ w ∈ u_ws C T N, w ∈ lw_all) (k : Nat) (hc : la_cl[ci]? = some (C, T, N)) (hk : k < N) (hl0 : Cond.fieldLinkNest own i ref (T k).2.1 (T k).2.2.1 host ∈ lw_tbl) (href : (T k).1 = ref) (hd : decode cc pc = .ok (.getfield i, 3)) (kt : la_Th ω κ (n.1 + 1, n.2 + 8) pc lv lt_NPE ws) : la_At ω κ n pc lv (.null :: rest) ws := by
  refine la_vmNpe (rest := rest) K hz.1 hz.2.1 hz.2.2 hlv hw ⟨by have := hR.1; omega, hR.2⟩ hf (fun H locs ls U hP _ hT X => ?_) kt
  obtain ⟨hx, hb, hml, hown, hts, hK, hG, hA, hRe, hlk⟩ := K
  have hpl : (la_e κ).platform.magicAccessors = ({} : Platform).magicAccessors := by rw [X.admits.platform]
  obtain ⟨ci', cfl, k', i', f', hh, -, hi', hlinks, hright⟩ := Cond.fieldLinkNest_spec hown (va_Nw.use (A := la_a κ) rfl (la_Gu hG hl0 rfl)) (la_e κ).platform hpl
  obtain ⟨hkk, hff⟩ := State.fieldFound?_spec hi'
  obtain ⟨vm', hgives, hW', hready, hfi⟩ := State.fieldEntryNest (e := la_e κ) X.warmed hlinks hright hkk hff
  refine ⟨vm', X.noted hW', fun target hrest => ?_⟩
  obtain ⟨hS0, hfc, kC, hkC, hkind⟩ := hK.1 ci _ hc
  obtain ⟨cf, kf, fi, f, hi, hsl⟩ := hS0 k hk
  have hst0 := (u_facts hfc hkC (u_lays hts hin hk) hi).1
  have hst : f'.isStatic = false := by
    rw [href] at hi
    cases hi.symm.trans hi'
    exact hst0
  have hdg : decode (la_c κ).code (F0 (la_m κ) pc ls (.null :: rest)).pc = .ok (.getfield i, 3) := by rw [hb]; exact hd
  jvm_step X.here [hx, hdg, getfield.wp_cold (e := la_e κ) (s := U) (f := F0 (la_m κ) pc ls (.null :: rest)) X.here.top hgives hready hfi,
    getfield.wp_readyNull (e := la_e κ) (s := U.setVm vm') (f := F0 (la_m κ) pc ls (.null :: rest)) X.here.top hready hst rfl, nullPointer]
  exact hrest
/-- a method of null -/
theorem la_xvirt0 (K : la_Cx ω κ cc nL own R0) (hz : lt_H ω κ) (hlv : lv.length = nL) (hw : (rest.map fun v => v.category).sum ≤ 40) (hR : lt_Rm R0) (hf : n.1 + 1 ≤ R0.cells ∧ n.2 + 8 ≤ R0.slots) {owner : String} {x : MethodName} {i k : Nat} {As : List Value} (hlink : Cond.methodLink own i x ∈ lw_all) (hsame : Cond.sameMethod x.cls owner x.name x.desc ∈ lw_all) (hdecl : Cond.declares ⟨owner, x.name, x.desc⟩ ∈ lw_tbl) (ho : owner ≠ "java/lang/invoke/MethodHandle" ∧ owner ≠ "java/lang/invoke/VarHandle" ∧ (parseMethodDescriptor x.desc).map (fun d => d.parameters.length) = some k) (hk : As.length = k) (hst : st = As.reverse ++ .null :: rest) (hd : decode cc pc = .ok (.invokevirtual i, 3)) (kt : la_Th ω κ (n.1 + 1, n.2 + 8) pc lv lt_NPE ws) : la_At ω κ n pc lv st ws := by
  subst hst
  refine la_vmNpe (rest := rest) K hz.1 hz.2.1 hz.2.2 hlv hw ⟨by have := hR.1; omega, hR.2⟩ hf (fun H locs ls U hP _ hT X => ?_) kt
  obtain ⟨hx, hb, hml, hown, hts, hK, hG, hA, hRe, hlk⟩ := K
  exact X.virtualNullUp hx hown (hts _ hlink) (hts _ hsame) (va_Nw.use rfl (la_Gu hG hdecl rfl)) ⟨ho.1, ho.2.1⟩ (g := F0 (la_m κ) pc ls _) rfl (argsL := As) (rest := rest) (fun sig h => by
    have e2 := ho.2.2
    rw [h] at e2
    exact hk.trans (Option.some.inj e2).symm) rfl (by rw [hb]; exact hd)
/-! ways into methods -/
theorem lt_invS (K : la_Cx ω κ cc nL own R0) {y : MethodName} {cc' : ByteArray} {nL' i k : Nat} {ret : Option FieldType} {As : List Value} (hok : la_Sok y cc' nL' ret k) (hlink : Cond.methodLink own i y ∈ lw_all) (hk : As.length = k) (hd : decode cc pc = .ok (.invokestatic i, 3)) : lt_Inv ω κ n pc (As.reverse ++ rest) rest ws y As := by
  obtain ⟨hx, hb, hml, hown, hts, hK, hG, hA, hRe, hlk⟩ := K
  intro H locs ls hP hD hS U hU X mk hn
  obtain ⟨methM, cM, hmethM, -, -, -, -, -, -, hsigM⟩ := Cond.code_spec hn (hts _ hok.2.2.1)
  obtain ⟨kP, hkP, -⟩ := className_of_methodNamed hn
  exact X.invokestatic hx hown (hts _ hlink) hn hmethM (Cond.static_spec hn hmethM (hts _ hok.1)) hkP (Cond.initialized_spec (findClass_of_methodNamed hn) hkP (hts _ hok.2.1)) ⟨hok.2.2.2.1, hok.2.2.2.2.1⟩ (g := F0 (la_m κ) pc ls _) rfl (argsL := As) (rest := rest) (by
    have e2 := hok.2.2.2.2.2
    rw [hsigM] at e2
    exact hk.trans (Option.some.inj e2).symm) rfl (by rw [hb]; exact hd)
theorem lt_codeC (K : la_Cx ω κ cc nL own R0) {y : MethodName} {cc' : ByteArray} {nL' : Nat} {ret : Option FieldType} (hw1 : Cond.code y cc' nL' ret ∈ lw_all) : lt_Code (la_s κ) y cc' nL' ret [] := by
  obtain ⟨hx, hb, hml, hown, hts, hK, hG, hA, hRe, hlk⟩ := K
  obtain ⟨mk, hn⟩ := Cond.code_named (hts _ hw1)
  exact lt_Code_of hn (hts _ hw1)
theorem lt_codeW (K : la_Cx ω κ cc nL own R0) {y : MethodName} {cc' : ByteArray} {nL' : Nat} {ret : Option FieldType} {hh : List (Nat × Nat × Nat × Nat)} (hw1 : Cond.codeWith y cc' nL' ret hh ∈ lw_all) : lt_Code (la_s κ) y cc' nL' ret hh := lt_Code_ofW (K.2.2.2.2.1 _ hw1)
/-- what a method's table says of its parameters -/
def lt_Sig (s : State) (y : MethodName) : Prop := ∀ (mk : MethodId) (meth : Method), s.methodNamed? y = some mk → s.vm.method? mk = some meth → parseMethodDescriptor y.desc = some meth.sig
theorem lt_sigC (K : la_Cx ω κ cc nL own R0) {y : MethodName} {cc' : ByteArray} {nL' : Nat} {ret : Option FieldType} (hw1 : Cond.code y cc' nL' ret ∈ lw_all) : lt_Sig (la_s κ) y := by
  intro mk meth hn hm
  obtain ⟨methM, cM, hmethM, -, -, -, -, -, -, hsigM⟩ := Cond.code_spec hn (K.2.2.2.2.1 _ hw1)
  cases hm.symm.trans hmethM
  exact hsigM
theorem lt_sigW (K : la_Cx ω κ cc nL own R0) {y : MethodName} {cc' : ByteArray} {nL' : Nat} {ret : Option FieldType} {hh : List (Nat × Nat × Nat × Nat)} (hw1 : Cond.codeWith y cc' nL' ret hh ∈ lw_all) : lt_Sig (la_s κ) y := by
  intro mk meth hn hm
  obtain ⟨mk', methM, c, h1, h2, -, -, -, -, -, -, h3⟩ := Cond.codeWith_spec (K.2.2.2.2.1 _ hw1)
  cases hn.symm.trans h1
  cases hm.symm.trans h2
  exact h3
theorem lt_invV (K : la_Cx ω κ cc nL own R0) {y : MethodName} {i k b : Nat} {As : List Value} (hsig : lt_Sig (la_s κ) y) (hlink : Cond.methodLink own i y ∈ lw_all) (hinst : Cond.instanceMethod y ∈ lw_all) (hsel : Cond.selects y.cls y y ∈ lw_all) (hy : y.cls ≠ "java/lang/invoke/MethodHandle" ∧ y.cls ≠ "java/lang/invoke/VarHandle" ∧ (parseMethodDescriptor y.desc).map (fun d => d.parameters.length) = some k) (q0 : Nat) {ci : Nat} {fs : List Value} {T : u_T} {N : Nat} (he : ws[q0]? = some (b, .inr (ci, fs))) (hc : la_cl[ci]? = some (y.cls, T, N)) (hk : As.length = k) (hd : decode cc pc = .ok (.invokevirtual i, 3)) : lt_Inv ω κ n pc (As.reverse ++ .ref b :: rest) rest ws y (.ref b :: As) := by
  obtain ⟨hx, hb, hml, hown, hts, hK, hG, hA, hRe, hlk⟩ := K
  intro H locs ls hP hD hS U hU X mk hn
  obtain ⟨cellB, g1, g2, g3⟩ := va_recv hK hP hc he
  obtain ⟨mk', methM, hnamed, hmethM, hstM, habM⟩ := Cond.instanceMethod_spec (hts _ hinst)
  cases hn.symm.trans hnamed
  obtain ⟨c2, r2, m2, q1, q2, q3, q4, kP, hkP, hkPi⟩ := Cond.selects_spec (hts _ hsel)
  cases g3.symm.trans q1
  cases (State.methodFound?_of_named hnamed ⟨hy.1, hy.2.1⟩).symm.trans q2
  cases hnamed.symm.trans q3
  have hselP : selectMethod (la_e κ).platform (la_s κ).vm cellB.cls mk = .method mk := by rw [Launch.admits_selectMethod X.admits]; exact q4
  exact X.invokevirtual hx hown (hts _ hlink) hnamed hmethM hstM hkP hkPi ⟨hy.1, hy.2.1⟩ (a := b) (cell := cellB) (by rw [hU]; exact g1) (fun z h => by rw [h] at g2; cases g2) hselP hmethM habM hkP hkPi (g := F0 (la_m κ) pc ls _) rfl (argsL := As) (rest := rest) (by
    have e2 := hy.2.2
    rw [hsig mk methM hn hmethM] at e2
    exact hk.trans (Option.some.inj e2).symm) rfl (by rw [hb]; exact hd)
theorem lt_invO (K : la_Cx ω κ cc nL own R0) {C owner : String} {x y : MethodName} {i k b : Nat} {As : List Value} (hlink : Cond.methodLink own i x ∈ lw_all) (hsame : Cond.sameMethod x.cls owner x.name x.desc ∈ lw_all) (hdecl : Cond.declares ⟨owner, x.name, x.desc⟩ ∈ lw_tbl) (hinst : Cond.instanceMethod y ∈ lw_all) (hsel : Cond.selects C x y ∈ lw_all) (ho : owner ≠ "java/lang/invoke/MethodHandle" ∧ owner ≠ "java/lang/invoke/VarHandle" ∧ (parseMethodDescriptor x.desc).map (fun d => d.parameters.length) = some k) (q0 : Nat) {ci : Nat} {fs : List Value} {T : u_T} {N : Nat} (he : ws[q0]? = some (b, .inr (ci, fs))) (hc : la_cl[ci]? = some (C, T, N)) (hk : As.length = k) (hd : decode cc pc = .ok (.invokevirtual i, 3)) : lt_Inv ω κ n pc (As.reverse ++ .ref b :: rest) rest ws y (.ref b :: As) := by
  obtain ⟨hx, hb, hml, hown, hts, hK, hG, hA, hRe, hlk⟩ := K
  intro H locs ls hP hD hS U hU X mk hnm
  obtain ⟨cellB, g1, g2, g3⟩ := va_recv hK hP hc he
  obtain ⟨r0, r, hn, hrm, hstR, hsigR⟩ := va_Decl.abs (la_Gu hG hdecl rfl)
  obtain ⟨cn, ck, r1, hcn, hck, hni, hff, hn1⟩ := Cond.sameMethod_found (hts _ hsame)
  cases hn.symm.trans hn1
  obtain ⟨mk', methM, hnamed, hmethM, -, habM⟩ := Cond.instanceMethod_spec (hts _ hinst)
  cases hnm.symm.trans hnamed
  obtain ⟨c2, r2, m2, q1, q2, q3, q4, kP, hkP, hkPi⟩ := Cond.selects_spec (hts _ hsel)
  cases g3.symm.trans q1
  cases hff.symm.trans q2
  cases hnamed.symm.trans q3
  have hselP : selectMethod (la_e κ).platform (la_s κ).vm cellB.cls r0 = .method mk := by rw [Launch.admits_selectMethod X.admits]; exact q4
  exact X.invokevirtualUp hx hown (hts _ hlink) (hts _ hsame) ⟨ho.1, ho.2.1⟩ hn hrm hstR (a := b) (cell := cellB) (by rw [hU]; exact g1) (fun z h => by rw [h] at g2; cases g2) hselP hmethM habM hkP hkPi (g := F0 (la_m κ) pc ls _) rfl (argsL := As) (rest := rest) (by
    have e2 := ho.2.2
    have e3 : parseMethodDescriptor x.desc = some r.sig := hsigR
    rw [e3] at e2
    exact hk.trans (Option.some.inj e2).symm) rfl (by rw [hb]; exact hd)
theorem lt_invI (K : la_Cx ω κ cc nL own R0) {y : MethodName} {cc' : ByteArray} {nL' i k a : Nat} {As : List Value} (hlink : Cond.methodLink own i y ∈ lw_all) (hinst : Cond.instanceMethod y ∈ lw_all) (hcode : Cond.code y cc' nL' none ∈ lw_all) (hy1 : y.name = "<init>") (hy : y.cls ≠ "java/lang/invoke/MethodHandle" ∧ y.cls ≠ "java/lang/invoke/VarHandle" ∧ (parseMethodDescriptor y.desc).map (fun d => d.parameters.length) = some k) (hk : As.length = k) (hd : decode cc pc = .ok (.invokespecial i, 3)) : lt_Inv ω κ n pc (As.reverse ++ .ref a :: rest) rest ws y (.ref a :: As) := by
  obtain ⟨hx, hb, hml, hown, hts, hK, hG, hA, hRe, hlk⟩ := K
  intro H locs ls hP hD hS U hU X mk hn
  have hpl : (la_e κ).platform.magicAccessors = ({} : Platform).magicAccessors := by rw [X.admits.platform]
  obtain ⟨mk', methM, cM, kP, vm₁, hnamed, hmethM, hcodeM, -, hlocalsM, -, hkP, -, hW₁, hstep₁⟩ := Steps.initColdArgs (e := la_e κ) X.here hx X.warmed hpl hown hy1 ⟨hy.1, hy.2.1⟩ (hts _ hlink) (hts _ hinst) (hts _ hcode) (f := F0 (la_m κ) pc ls (As.reverse ++ .ref a :: rest)) rfl (argsL := As) (rest := rest) (a := a) (fun sig h => by
    have e2 := hy.2.2
    rw [h] at e2
    exact hk.trans (Option.some.inj e2).symm) rfl (by rw [hb]; exact hd)
  cases hn.symm.trans hnamed
  exact ⟨vm₁, X.noted hW₁, hstep₁⟩
end LTZ
