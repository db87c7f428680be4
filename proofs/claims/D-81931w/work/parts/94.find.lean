/-! HANDLERS: the search through a method's table of handlers, whose classes may not be resolved yet. -/
section LTF
variable {Q : Handler → Pre} {E : CtlPost} {e : Env} {d : Bool} {acts : List Action} {s : State} {f : JFrame} {a : Addr}
theorem lt_golink {x : ExceptionTableEntry} {t : List ExceptionTableEntry} {c : ClassId} {cell : Cell} (hx : covers x f.pc = true) (h0 : x.catchType ≠ 0) (hl : s.vm.ClassLinks e.platform f.method.cls x.catchType c) (hcell : s.heap[a]? = some cell) (hobj : ∀ k, cell.vm ≠ .statics k)
    (hk : ∃ k, s.vm.classes[cell.cls]? = some k) (hc : ∃ k, s.vm.classes[c]? = some k) :
    wp (findHandler.go f a (x :: t)) Q E e d acts s ↔ (if s.vm.assignable cell.cls c = true then Q (.found x.handlerPc) d acts (s.setVm (s.vm.noted f.method.cls x.catchType (.cls c))) else wp (findHandler.go f a t) Q E e d acts (s.setVm (s.vm.noted f.method.cls x.catchType (.cls c)))) := by
  simp only [covers] at hx
  obtain ⟨ha, ht⟩ := (resolveClass_links e.toSetting hl).op (op := VmOp.resolveClass f.method.cls x.catchType) rfl
  have hal : s.vm.Alike (s.vm.noted f.method.cls x.catchType (.cls c)) := (Vm.Alike.refl s.vm).noted _ _ _
  obtain ⟨k1, hk1⟩ := hk
  obtain ⟨k2, hk2⟩ := hc
  obtain ⟨k1', hk1', -⟩ := hal.2.2 _ _ hk1
  obtain ⟨k2', hk2', -⟩ := hal.2.2 _ _ hk2
  by_cases hfit : s.vm.assignable cell.cls c = true
  · have hfit' : (s.vm.noted f.method.cls x.catchType (.cls c)).assignable cell.cls c = true := by rw [hal.assignable]; exact hfit
    rw [if_pos hfit]
    simp [findHandler.go, hx, h0, ha, ht, hcell, hobj, hk1', hk2', hfit', VmOp.dirties, VmOp.acts]
  · have hfit' : (s.vm.noted f.method.cls x.catchType (.cls c)).assignable cell.cls c = false := by rw [hal.assignable]; simpa using hfit
    rw [if_neg hfit]
    simp [findHandler.go, hx, h0, ha, ht, hcell, hobj, hk1', hk2', hfit', VmOp.dirties, VmOp.acts]
end LTF
section LTS
variable {p : Program} {l : Launch} {e : Env} {R : Room} {s : State} {m : MethodId} {args : Array Value} {below : List Frame} {meth : Method} {c : Code} {locs : List Loc} {cells slots : Nat}
theorem lt_search (hown : ∀ {own : String}, s.vm.findClass own = some m.cls → s.vm.findClass own = some m.cls) {own C : String} (hO : s.vm.findClass own = some m.cls) {g : JFrame} (hg : g.method = m) {a : Addr} {cell : Cell} (hobj : cell.vm.isStatics = false) (hC : s.vm.findClass C = some cell.cls) :
    ∀ (es : List ExceptionTableEntry) (names : List String) (j : Nat) (h : ExceptionTableEntry) (T : State), es.length = names.length → (∀ x ∈ es, covers x g.pc = true ∧ x.catchType ≠ 0) → (∀ (i : Nat) (x : ExceptionTableEntry) (nm : String), es[i]? = some x → names[i]? = some nm → (Cond.classLink own x.catchType nm).before args s = true) →
      (∀ (i : Nat) (nm : String), i < j → names[i]? = some nm → va_Nc C nm s) → (∃ nm, names[j]? = some nm ∧ va_Nw (.castable C nm) s) → es[j]? = some h → T.heap[a]? = some cell → Stand p l e R s m args below meth c T locs cells slots →
      ∃ vm', Stand p l e R s m args below meth c (T.setVm vm') locs cells slots ∧ ∀ (Q : Handler → Pre) (E : CtlPost) (d : Bool) (acts : List Action), wp (findHandler.go g a es) Q E e d acts ((T.setTop g).pushFrame (.throwing a)) ↔ Q (.found h.handlerPc) d acts (((T.setTop g).pushFrame (.throwing a)).setVm vm') := by
  intro es
  induction es with
  | nil => intro names j h T _ _ _ _ _ hj; simp at hj
  | cons x es ih =>
    intro names j h T hlen hcov hlk hno hyes hj hcell X
    cases names with
    | nil => simp at hlen
    | cons nm names =>
      have hpl : e.platform.magicAccessors = ({} : Platform).magicAccessors := by rw [X.admits.platform]
      obtain ⟨cT, hcT, hcl⟩ := Cond.classLink_spec hO (hlk 0 x nm rfl rfl) e.platform hpl
      obtain ⟨dk, _, _, kt, hd, _, _, _, _, hkt, _, hopen⟩ := hcl.here
      have hcl₀ := X.warmed.classLinks hcl
      have hW' : s.WarmedH (T.vm.noted m.cls x.catchType (.cls cT)) := X.warmed.noted hd hopen (State.rightAt_cls hcl)
      have hal := X.warmed.alike
      obtain ⟨kt', hkt', -⟩ := hal.2.2 _ _ hkt
      obtain ⟨kc, hkc⟩ := Vm.classAt_of_findClass hC
      obtain ⟨kc', hkc', -⟩ := hal.2.2 _ _ hkc
      have X1 := X.noted hW'
      have hx := hcov x List.mem_cons_self
      have hgo : ∀ (Q : Handler → Pre) (E : CtlPost) (d : Bool) (acts : List Action), wp (findHandler.go g a (x :: es)) Q E e d acts ((T.setTop g).pushFrame (.throwing a)) ↔ (if T.vm.assignable cell.cls cT = true then Q (.found x.handlerPc) d acts (((T.setTop g).pushFrame (.throwing a)).setVm (T.vm.noted m.cls x.catchType (.cls cT))) else wp (findHandler.go g a es) Q E e d acts (((T.setTop g).pushFrame (.throwing a)).setVm (T.vm.noted m.cls x.catchType (.cls cT)))) := by
        intro Q E d acts
        have := lt_golink (Q := Q) (E := E) (e := e) (d := d) (acts := acts) (s := (T.setTop g).pushFrame (.throwing a)) (f := g) (a := a) (t := es) hx.1 hx.2 (c := cT) (cell := cell) (by rw [hg]; exact hcl₀) hcell (VmData.ne_statics_of hobj) ⟨kc', hkc'⟩ ⟨kt', hkt'⟩
        rw [hg] at this
        exact this
      cases j with
      | zero =>
        obtain ⟨nm', hn, hcast⟩ := hyes
        cases hn
        cases hj
        obtain ⟨c0, t0, f1, f2, f3⟩ := Cond.castable_spec (va_Nw.use (A := args) rfl hcast)
        cases hC.symm.trans f1
        cases hcT.symm.trans f2
        have hfit : T.vm.assignable cell.cls cT = true := by rw [hal.assignable]; exact f3
        exact ⟨_, X1, fun Q E d acts => by rw [hgo, if_pos hfit]⟩
      | succ j =>
        obtain ⟨c0, t0, f1, f2, f3⟩ := hno 0 nm (by omega) rfl
        cases hC.symm.trans f1
        cases hcT.symm.trans f2
        have hfit : ¬ T.vm.assignable cell.cls cT = true := by rw [hal.assignable, f3]; decide
        obtain ⟨vm', X2, hrest⟩ := ih names j h (T.setVm (T.vm.noted m.cls x.catchType (.cls cT))) (by simpa using hlen) (fun y hy => hcov y (List.mem_cons_of_mem _ hy)) (fun i y n h1 h2 => hlk (i + 1) y n h1 h2) (fun i n hi h2 => hno (i + 1) n (by omega) h2) hyes hj hcell X1
        refine ⟨vm', X2, fun Q E d acts => ?_⟩
        rw [hgo, if_neg hfit]
        exact hrest Q E d acts
theorem lt_caught {T : State} (X : Stand p l e R s m args below meth c T locs cells slots) {g : JFrame} (hg : g.method = m) {a : Addr} {pc : Nat} {vm' : Vm} (hfind : ∀ (Q : Handler → Pre) (E : CtlPost) (d : Bool) (acts : List Action), wp (findHandler.go g a c.exceptionTable.toList) Q E e d acts ((T.setTop g).pushFrame (.throwing a)) ↔ Q (.found pc) d acts (((T.setTop g).pushFrame (.throwing a)).setVm vm'))
    {target : State} (hrest : Steps p.tables e below ((T.setVm vm').setTop { g with pc := pc, stack := [.ref a] }) target) : Steps p.tables e below ((T.setTop g).pushFrame (.throwing a)) target := by
  subst hg
  have h := X.here
  obtain ⟨hgo, hw⟩ := h.throwing a
  have hF : ∀ (Q : Handler → Pre) (E : CtlPost) (d : Bool) (acts : List Action), wp (findHandler g a) Q E e d acts ((T.setTop g).pushFrame (.throwing a)) ↔ Q (.found pc) d acts (((T.setTop g).pushFrame (.throwing a)).setVm vm') := fun Q E d acts => by
    rw [W.findHandler_eq (s := (T.setTop g).pushFrame (.throwing a)) (meth := meth) (code := c) X.method' X.code]
    exact hfind Q E d acts
  have hstep : ∀ r : List Frame, (stepThrowing e ((T.setTop g).pushFrame (.throwing a)) a (.java g :: r)).1 = (((T.setTop g).pushFrame (.throwing a)).setVm vm').setFrames (.java { g with pc := pc, stack := [.ref a] } :: r) := by
    intro r
    simp only [stepThrowing, searchFrame, vmDo]
    generalize hr : Sem.go _ e false [] ((T.setTop g).pushFrame (.throwing a)) = res
    obtain ⟨as, rfl, ha⟩ := Sem.eq_ok_of hr (a := Handler.found pc) (s' := ((T.setTop g).pushFrame (.throwing a)).setVm vm') (acts' := []) (by simp [hF _ _ _ _])
    rfl
  refine Steps.head hgo hw ?_
  rw [stepThread_throwing (frames_entered h.top _), hstep]
  obtain ⟨g₀, hr⟩ := X.frames_eq
  have hr' : (T.setVm vm').frames = .java g₀ :: below := hr
  rw [State.setTop_of_frames _ hr'] at hrest
  have h1 : ∀ (u : State) (F G : List Frame), ((u.setFrames F).setVm vm').setFrames G = (u.setVm vm').setFrames G := fun u F G => by
    rw [show (u.setFrames F).setVm vm' = (u.setVm vm').setFrames F from rfl, State.setFrames_setFrames]
  rw [hr, List.tail_cons, State.pushFrame, h1, State.setTop_of_frames _ hr, h1]
  exact hrest
end LTS
