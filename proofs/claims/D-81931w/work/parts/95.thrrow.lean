/-! ROWS OF A FRAME IN WHICH SOMETHING IS THROWN; the ends of methods that may throw. -/
def lt_NPE : String := "java/lang/NullPointerException"
/-- the launch keeps no traces -/
def lt_off (l : Launch) : Prop := ∀ e : Env, l.admits e → e.platform.stackTraces = false
/-- no cell that the method may write is a cell of statics -/
def lt_As (κ : la_K) : Prop := ∀ (q : Nat) (cell : Cell), la_A κ q → (la_s κ).heap[q]? = some cell → cell.vm.isStatics = false
section LTR
variable {ω : la_O} {κ : la_K} {cc : ByteArray} {nL : Nat} {own : String} {R0 : Room} {n : Nat × Nat} {pc : Nat} {lv : List (Option Value)} {st rest : List Value} {ws : va_W}
theorem lt_nc {U : State} (h : la_G U) {C T : String} (hw : Cond.not (.castable C T) ∈ flatC (Jvm.Cond.and given_1 narrow_1)) : va_Nc C T U := by
  obtain ⟨S0, b, -, h2, -, hW⟩ := h
  exact va_Nc.moved hW.alike (va_Nc.of (flat_of_before _ h2 _ hw))
/-- the handler that takes what is thrown -/
theorem la_Th_catch (K : la_Cx ω κ cc nL own R0) {hh : List (Nat × Nat × Nat × Nat)} (htab : lt_tab (la_c κ) = hh) {X : String} (names : List String) (j : Nat) {q0 : Nat × Nat × Nat × Nat} (hj : hh[j]? = some q0) (hcov : hh.all (fun q => decide (q.1 ≤ pc) && decide (pc < q.2.1) && decide (q.2.2.2 ≠ 0)) = true) (hlen : hh.length = names.length)
    (hlk : ∀ (i : Nat) (q : Nat × Nat × Nat × Nat) (nm : String), hh[i]? = some q → names[i]? = some nm → Cond.classLink own q.2.2.2 nm ∈ lw_all) (hno : ∀ (i : Nat) (nm : String), i < j → names[i]? = some nm → Cond.not (.castable X nm) ∈ flatC (Jvm.Cond.and given_1 narrow_1)) (hyes : ∃ nm, names[j]? = some nm ∧ Cond.castable X nm ∈ lw_tbl)
    (kk : ∀ a : Nat, la_At ω κ n q0.2.2.1 lv [.ref a] ws) : la_Th ω κ n pc lv X ws := by
  obtain ⟨hx, hb, hml, hown, hts, hK, hG, hA, hR, hlk'⟩ := K
  intro H locs ls a cell st hP hD hS hl hcell hobj hC T hT Xs
  have ht : (la_c κ).exceptionTable.toList.map (fun h => (h.startPc, h.endPc, h.handlerPc, h.catchType)) = hh := htab
  rw [← ht, List.getElem?_map] at hj
  obtain ⟨h, hje, hq⟩ := Option.map_eq_some_iff.mp hj
  rw [← ht, List.all_eq_true] at hcov
  obtain ⟨nm, hn1, hn2⟩ := hyes
  obtain ⟨vm', X', hfind⟩ := lt_search (fun h => h) hown (C := X) (g := F0 (la_m κ) pc ls st) rfl (a := a) (cell := cell) hobj hC (la_c κ).exceptionTable.toList names j h T (by rw [← hlen, ← ht, List.length_map]) (fun x hx => by
      have := hcov _ (List.mem_map_of_mem hx)
      simp only [Bool.and_eq_true, decide_eq_true_eq] at this
      exact ⟨by simp only [covers, Bool.and_eq_true, decide_eq_true_eq]; exact this.1, this.2⟩)
    (fun i x nm h1 h2 => hts _ (hlk i (x.startPc, x.endPc, x.handlerPc, x.catchType) nm (by rw [← ht, List.getElem?_map, h1]; rfl) h2)) (fun i nm hi h2 => lt_nc hG (hno i nm hi h2)) ⟨nm, hn1, la_Gu hG hn2 rfl⟩ hje (by rw [hT]; exact hcell) Xs
  obtain ⟨t, a1, b1⟩ := kk a H locs ls hP hD hS hl (T.setVm vm') hT X'
  refine ⟨t, lt_caught Xs rfl hfind ?_, b1⟩
  rw [← hq] at a1
  exact a1
/-- NullPointerException, thrown by the machine -/
theorem la_vmNpe (K : la_Cx ω κ cc nL own R0) (hz : lt_Zs (la_s κ)) (hAs : lt_As κ) (hoff : lt_off ω.1) (hlv : lv.length = nL) (hw : (rest.map fun v => v.category).sum ≤ 40) (hR : 7 < R0.frames ∧ 10280 ≤ R0.locals) (hf : n.1 + 1 ≤ R0.cells ∧ n.2 + 8 ≤ R0.slots)
    (hst : ∀ (H : Heap) (locs : List Loc) (ls : Array Slot) (T : State), va_P ω.2.1 la_cl ws H → va_S (la_A κ) (la_s κ).heap H locs → T.heap = H → Stand (la_p κ) ω.1 (la_e κ) (la_R κ) (la_s κ) (la_m κ) (la_a κ) (la_b κ) (la_h κ) (la_c κ) T locs n.1 n.2 →
      ∃ vm', Stand (la_p κ) ω.1 (la_e κ) (la_R κ) (la_s κ) (la_m κ) (la_a κ) (la_b κ) (la_h κ) (la_c κ) (T.setVm vm') locs n.1 n.2 ∧ ∀ target, Steps (la_p κ).tables (la_e κ) (la_b κ) (((T.setVm vm').setTop (F0 (la_m κ) pc ls rest)).pushFrame (.throwNew "java/lang/NullPointerException" none none)) target → Steps (la_p κ).tables (la_e κ) (la_b κ) (T.setTop (F0 (la_m κ) pc ls st)) target)
    (kt : la_Th ω κ (n.1 + 1, n.2 + 8) pc lv lt_NPE ws) : la_At ω κ n pc lv st ws := by
  obtain ⟨hx, hb, hml, hown, hts, hK, hG, hA, hRe, hlk⟩ := K
  subst hRe
  intro H locs ls hP hD hS hl T hT X
  obtain ⟨vm', X1, hgo⟩ := hst H locs ls T hP hS hT X
  have hmr : 2 * (F0 (la_m κ) pc ls rest).monitorRoom + ((F0 (la_m κ) pc ls rest).stack.map fun v => v.category).sum + 10240 ≤ (la_R κ).locals := by
    show 2 * 0 + (rest.map fun v => v.category).sum + 10240 ≤ _
    omega
  obtain ⟨T2, a, cell, X2, hsz, hold, hc, ho, hcls, hthr⟩ := lt_npe X1 hx (hoff _ X.admits) (lt_atoms hz hts lt_npe_kd) (fun x hx cell hc => hAs _ _ (hS.2.2 x hx) hc) (g := F0 (la_m κ) pc ls rest) rfl (by rw [hml, ← hlv]; exact hl.1) hR.1 hmr hf.1 hf.2
  have hH : (T.setVm vm').heap = H := hT
  rw [hH] at hsz hold
  have hP2 : va_P ω.2.1 la_cl ws T2.heap := hP.kept (fun k q hk => hold q.1 (hP k q hk).lt)
  have hS2 : va_S (la_A κ) (la_s κ).heap T2.heap locs := ⟨Nat.le_trans hS.1 hsz, fun q h1 h2 => (hold q (Nat.lt_of_lt_of_le h1 hS.1)).trans (hS.2.1 q h1 h2), hS.2.2⟩
  obtain ⟨t, a1, b1⟩ := kt T2.heap locs ls a cell rest hP2 hD hS2 hl hc ho hcls T2 rfl X2
  exact ⟨t, hgo t (hthr t a1), b1⟩
/-- an exception with a message, thrown by the machine -/
theorem la_vmMsg (K : la_Cx ω κ cc nL own R0) (hz : lt_Zs (la_s κ)) (hAs : lt_As κ) (hoff : lt_off ω.1) {cls : String} {names : List String} {nb : Nat} (hkd : (Bundle.messageArmAtoms cls names).all lt_kd = true) (hcls : Bundle.fit cls = true ∧ names.all Bundle.fit = true ∧ (cls == "java/lang/StackOverflowError") = false ∧ (cls == "java/lang/OutOfMemoryError") = false ∧ names.length ≤ 4) (hnb : nb ≤ 100000) (hlv : lv.length = nL) (hw : (rest.map fun v => v.category).sum ≤ 40) (hR : 8 < R0.frames ∧ 10280 ≤ R0.locals) (hf : n.1 + 3 ≤ R0.cells ∧ n.2 + (nb + 10) ≤ R0.slots)
    (hst : ∀ (H : Heap) (locs : List Loc) (ls : Array Slot) (T : State), va_P ω.2.1 la_cl ws H → va_S (la_A κ) (la_s κ).heap H locs → T.heap = H → Stand (la_p κ) ω.1 (la_e κ) (la_R κ) (la_s κ) (la_m κ) (la_a κ) (la_b κ) (la_h κ) (la_c κ) T locs n.1 n.2 →
      ∃ (vm' : Vm) (text : String), (text == notModelled) = false ∧ (stringBytes (stringToUtf16 text)).size ≤ nb ∧ Stand (la_p κ) ω.1 (la_e κ) (la_R κ) (la_s κ) (la_m κ) (la_a κ) (la_b κ) (la_h κ) (la_c κ) (T.setVm vm') locs n.1 n.2 ∧ ∀ target, Steps (la_p κ).tables (la_e κ) (la_b κ) (((T.setVm vm').setTop (F0 (la_m κ) pc ls rest)).pushFrame (.throwNew cls (some text) none)) target → Steps (la_p κ).tables (la_e κ) (la_b κ) (T.setTop (F0 (la_m κ) pc ls st)) target)
    (kt : la_Th ω κ (n.1 + 3, n.2 + (nb + 10)) pc lv cls ws) : la_At ω κ n pc lv st ws := by
  obtain ⟨hx, hb, hml, hown, hts, hK, hG, hA, hRe, hlk⟩ := K
  subst hRe
  intro H locs ls hP hD hS hl T hT X
  obtain ⟨vm', text, htx, hsb, X1, hgo⟩ := hst H locs ls T hP hS hT X
  have hmr : 2 * (F0 (la_m κ) pc ls rest).monitorRoom + ((F0 (la_m κ) pc ls rest).stack.map fun v => v.category).sum + 10240 ≤ (la_R κ).locals := by
    show 2 * 0 + (rest.map fun v => v.category).sum + 10240 ≤ _
    omega
  obtain ⟨T2, a, cell, X2, hsz, hold, hc, ho, hcl, hthr⟩ := lt_msg X1 hx (hoff _ X.admits) hcls.1 (List.all_eq_true.mp hcls.2.1) hcls.2.2.1 hcls.2.2.2.1 (lt_atoms hz hts hkd) (fun x hx cell hc => hAs _ _ (hS.2.2 x hx) hc) htx hsb (by rw [Launch.admits_arrayLengthLimit X.admits]; omega) (by rw [Launch.admits_maxHeapBytes X.admits]; simp only [componentBytes]; omega) (g := F0 (la_m κ) pc ls rest) rfl (by rw [hml, ← hlv]; exact hl.1) (by have := hcls.2.2.2.2; omega) hmr (by have := hcls.2.2.2.2; omega) hf.1 hf.2
  have hH : (T.setVm vm').heap = H := hT
  rw [hH] at hsz hold
  have hP2 : va_P ω.2.1 la_cl ws T2.heap := hP.kept (fun k q hk => hold q.1 (hP k q hk).lt)
  have hS2 : va_S (la_A κ) (la_s κ).heap T2.heap locs := ⟨Nat.le_trans hS.1 hsz, fun q h1 h2 => (hold q (Nat.lt_of_lt_of_le h1 hS.1)).trans (hS.2.1 q h1 h2), hS.2.2⟩
  obtain ⟨t, a1, b1⟩ := kt T2.heap locs ls a cell rest hP2 hD hS2 hl hc ho hcl T2 rfl X2
  exact ⟨t, hgo t (hthr t a1), b1⟩
end LTR
/-- how the method κ may end: by a value, or by what is thrown out of it -/
def lt_Ends (ω : la_O) (κ : la_K) (cc : ByteArray) (hh : List (Nat × Nat × Nat × Nat)) (ret : Option FieldType) (rm : Room) {S : Type} (wf : S → va_W) (post : lt_R → S → Prop) : Prop :=
  (∀ (n : Nat × Nat) (pc : Nat) (lv : List (Option Value)) (v : Int32) (u : S), n.1 ≤ rm.cells → n.2 ≤ rm.slots → ret = some .int → decode cc pc = .ok (.ireturn, 1) → post (.inl (some (.int v))) u → la_At ω κ n pc lv [.int v] (wf u)) ∧
  (∀ (n : Nat × Nat) (pc : Nat) (lv : List (Option Value)) (v : Int64) (u : S), n.1 ≤ rm.cells → n.2 ≤ rm.slots → ret = some .long → decode cc pc = .ok (.lreturn, 1) → post (.inl (some (.long v))) u → la_At ω κ n pc lv [.long v] (wf u)) ∧
  (∀ (n : Nat × Nat) (pc : Nat) (lv : List (Option Value)) (u : S), n.1 ≤ rm.cells → n.2 ≤ rm.slots → ret = none → decode cc pc = .ok (.return_, 1) → post (.inl none) u → la_At ω κ n pc lv [] (wf u)) ∧
  (∀ (n : Nat × Nat) (pc : Nat) (lv : List (Option Value)) (a : Nat) (u : S) (C : String), n.1 ≤ rm.cells → n.2 ≤ rm.slots → ret = some (.object C) → decode cc pc = .ok (.areturn, 1) → post (.inl (some (.ref a))) u → la_At ω κ n pc lv [.ref a] (wf u)) ∧
  (∀ (n : Nat × Nat) (pc : Nat) (lv : List (Option Value)) (X : String) (u : S), n.1 ≤ rm.cells → n.2 ≤ rm.slots → hh.all (fun q => decide (pc < q.1) || decide (q.2.1 ≤ pc)) = true → post (.inr X) u → la_Th ω κ n pc lv X (wf u))
section LTK
variable {ω : la_O} {cc : ByteArray} {nL : Nat} {ws : va_W} {y : MethodName} {ret : Option FieldType} {hh : List (Nat × Nat × Nat × Nat)} {rm : Room} {As : List Value} {S : Type} {wf : S → va_W} {post : lt_R → S → Prop}
theorem lt_C_of (lv0 : List (Option Value)) (h1 : lv_args 0 As = la_lp 0 lv0) (h2 : lv0.length = nL) (h3 : (lg_sl As).length ≤ nL) (body : ∀ κ : la_K, la_Cx ω κ cc nL y.cls rm → lt_Zs (la_s κ) → lt_As κ → (la_h κ).name = y.name → lt_tab (la_c κ) = hh → lt_Ends ω κ cc hh ret rm wf post → la_At ω κ (0, 0) 0 lv0 [] ws) : lt_C ω y cc nL ret hh rm lt_Zs As ws wf post := by
  intro sz p e s m args below meth c hx hb hml hr hlk hnm hhh hown hts hv
  obtain ⟨⟨rfl, hsz, hP, hK, hG, hD0⟩, hZ⟩ := hv
  subst hsz
  have hl := lv_entry As (n := nL) h3
  rw [lg_entry_eq]
  rw [h1, ← h2] at hl
  rw [← h2]
  have hAs : ∀ (q : Nat) (cell : Cell), va_A ws s.heap.size q → s.heap[q]? = some cell → cell.vm.isStatics = false := by
    rintro q cell (⟨k, e0, hk⟩ | hq) hc
    · have hat := hP k _ hk
      unfold va_at at hat
      cases e0 with
      | inl z =>
        have h5 : s.heap[q]? = some (vp_cell z.1 z.2) := hat
        cases hc.symm.trans h5
        obtain ⟨c9, N9, f9⟩ := z
        rcases f9 with f | f | f | f | f <;> rfl
      | inr o =>
        obtain ⟨r, hr1, cl9, g1, g2, g3, -⟩ := hat
        cases hc.symm.trans g1
        rw [g3]; rfl
    · exact absurd (Array.getElem?_eq_some_iff.mp hc).1 (Nat.not_lt.mpr hq)
  refine body (p, e, rm, s, m, As.toArray, below, meth, c, _, va_A ws s.heap.size) ⟨hx, hb, hml, hown, hts, hK, hG, fun q h => Or.inr h, rfl, hlk⟩ hZ hAs hnm hhh ⟨?_, ?_, ?_, ?_, ?_⟩ s.heap [] _ hP hD0.self va_S.rf hl
  · intro n pc lv v u hn1 hn2 hret hd hp H locs ls hP1 hD1 hS1 hl1
    refine W.widen hn1 hn2 ?_
    intro T hT X
    obtain ⟨t, a, b⟩ := W.iret (v := v) hx hb (hr.trans hret) (Qc := fun _ st oc t => (∃ (r : lt_R) (u : S), lt_out r oc t ∧ post r u ∧ la_B ω ws s.heap.size wf u t) ∧ va_F (va_A ws s.heap.size) st t) (free := va_A ws s.heap.size) (fun t ht hW => ⟨⟨.inl (some (.int v)), u, rfl, hp, by rw [ht]; exact hP1, hD1⟩, hS1.F ht⟩) hS1.2.2 hd hlk T hT X
    exact ⟨t, a, lt_MQ_of b⟩
  · intro n pc lv v u hn1 hn2 hret hd hp H locs ls hP1 hD1 hS1 hl1
    refine W.widen hn1 hn2 ?_
    intro T hT X
    obtain ⟨t, a, b⟩ := W.lret (v := v) hx hb (hr.trans hret) (Qc := fun _ st oc t => (∃ (r : lt_R) (u : S), lt_out r oc t ∧ post r u ∧ la_B ω ws s.heap.size wf u t) ∧ va_F (va_A ws s.heap.size) st t) (free := va_A ws s.heap.size) (fun t ht hW => ⟨⟨.inl (some (.long v)), u, rfl, hp, by rw [ht]; exact hP1, hD1⟩, hS1.F ht⟩) hS1.2.2 hd hlk T hT X
    exact ⟨t, a, lt_MQ_of b⟩
  · intro n pc lv u hn1 hn2 hret hd hp H locs ls hP1 hD1 hS1 hl1
    refine W.widen hn1 hn2 ?_
    intro T hT X
    obtain ⟨t, a, b⟩ := W.vret hx hb (hr.trans hret) (Qc := fun _ st oc t => (∃ (r : lt_R) (u : S), lt_out r oc t ∧ post r u ∧ la_B ω ws s.heap.size wf u t) ∧ va_F (va_A ws s.heap.size) st t) (free := va_A ws s.heap.size) (fun t ht hW => ⟨⟨.inl none, u, rfl, hp, by rw [ht]; exact hP1, hD1⟩, hS1.F ht⟩) hS1.2.2 hd hlk T hT X
    exact ⟨t, a, lt_MQ_of b⟩
  · intro n pc lv a0 u C hn1 hn2 hret hd hp H locs ls hP1 hD1 hS1 hl1
    refine W.widen hn1 hn2 ?_
    intro T hT X
    obtain ⟨t, a, b⟩ := W.aret (v := .ref a0) hx hb (hr.trans hret) (Or.inl ⟨C, rfl⟩) (Or.inr ⟨_, rfl⟩) (Qc := fun _ st oc t => (∃ (r : lt_R) (u : S), lt_out r oc t ∧ post r u ∧ la_B ω ws s.heap.size wf u t) ∧ va_F (va_A ws s.heap.size) st t) (free := va_A ws s.heap.size) (fun t ht hW => ⟨⟨.inl (some (.ref a0)), u, rfl, hp, by rw [ht]; exact hP1, hD1⟩, hS1.F ht⟩) hS1.2.2 hd hlk T hT X
    exact ⟨t, a, lt_MQ_of b⟩
  · intro n pc lv X u hn1 hn2 hcov hp H locs ls a cell st hP1 hD1 hS1 hl1 hcell hobj hC T hT X0
    have ht : c.exceptionTable.toList.map (fun h => (h.startPc, h.endPc, h.handlerPc, h.catchType)) = hh := hhh
    rw [← ht, List.all_eq_true] at hcov
    obtain ⟨b1, b2, b3, b4, b5⟩ := (stand_widen X0 hn1 hn2).leaveThrown a (g := F0 m pc ls st) rfl rfl rfl (fun x hx => by
      have := hcov _ (List.mem_map_of_mem hx)
      simp only [Bool.or_eq_true, decide_eq_true_eq] at this
      simp only [covers, Bool.and_eq_false_iff, decide_eq_false_iff_not]
      rcases this with h | h
      · exact Or.inl (by omega)
      · exact Or.inr (by omega)) hlk
    refine ⟨_, b1, .threw a, b2, b3, ⟨⟨.inr X, u, ⟨a, cell, rfl, by rw [← hT] at hcell; exact hcell, hobj, ?_⟩, hp, ?_, hD1⟩, ?_⟩, locs, b4, b5, hS1.2.2⟩
    · show T.vm.findClass X = some cell.cls
      rw [X0.warmed.alike.findClass]
      exact hC
    · show va_P ω.2.1 la_cl (wf u) T.heap
      rw [hT]; exact hP1
    · exact hS1.F hT
end LTK
