/-! CONTRACTS OF METHODS THAT MAY THROW, OR OF WHOSE CLASS NOBODY SAYS THAT IT IS INITIALISED (an interface's default): the callee's walk inside the caller's. -/
/-- a method's own end, returned or thrown -/
def lt_MQ (below : List Frame) (Qc : Array Value → State → Outcome → State → Prop) (a : Array Value) (s : State) (mc ms : Nat) (free : Addr → Prop) : State → Prop := fun t =>
  ∃ o, t.status = .running ∧ Ended t below o ∧ Qc a s o t ∧ ∃ L, s.WarmedH t.vm ∧ s.sameButNew ({ t with vm := s.vm } : State) L mc ms ∧ ∀ q ∈ L, free q.base
theorem lt_MQ_of {below : List Frame} {Qc : Array Value → State → Outcome → State → Prop} {a : Array Value} {s t : State} {mc ms : Nat} {free : Addr → Prop} (h : MQ below Qc a s mc ms free t) : lt_MQ below Qc a s mc ms free t := by
  obtain ⟨o, h1, h2, h3, L, ⟨-, h4, h5⟩, h6⟩ := h
  exact ⟨o, h1, h2, h3, L, h4, h5, h6⟩
theorem lt_weaken {tb : Tables} {e : Env} {f : Frame} {below : List Frame} {s t : State} (h : Steps tb e (f :: below) s t) : Steps tb e below s t := by
  obtain ⟨n, hn, hw⟩ := h
  exact ⟨n, hn, fun k hk => Within.weaken (mid := [f]) (hw k hk)⟩
def lt_tab (c : Code) : List (Nat × Nat × Nat × Nat) := c.exceptionTable.toList.map (fun h => (h.startPc, h.endPc, h.handlerPc, h.catchType))
/-- the code of the method y by its name -/
def lt_Code (s : State) (y : MethodName) (cc : ByteArray) (nL : Nat) (ret : Option FieldType) (hh : List (Nat × Nat × Nat × Nat)) : Prop :=
  ∃ (mk : MethodId) (meth : Method) (c : Code), s.methodNamed? y = some mk ∧ s.vm.method? mk = some meth ∧ meth.code = some c ∧ c.code = cc ∧ c.maxLocals = nL ∧ lt_tab c = hh ∧ meth.sig.returnType = ret ∧ meth.locks = false
theorem lt_Code_of {args : Array Value} {s : State} {y : MethodName} {mk : MethodId} {cc : ByteArray} {nL : Nat} {ret : Option FieldType} (hn : s.methodNamed? y = some mk) (h : (Cond.code y cc nL ret).before args s = true) : lt_Code s y cc nL ret [] := by
  obtain ⟨meth, c, h1, h2, h3, h4, h5, h6, h7, -⟩ := Cond.code_spec hn h
  refine ⟨mk, meth, c, hn, h1, h2, h3, h4, ?_, h5, h6⟩
  have e : c.exceptionTable = #[] := Array.isEmpty_iff.mp h7
  unfold lt_tab
  rw [e]
  rfl
theorem lt_Code_ofW {args : Array Value} {s : State} {y : MethodName} {cc : ByteArray} {nL : Nat} {ret : Option FieldType} {hh : List (Nat × Nat × Nat × Nat)} (h : (Cond.codeWith y cc nL ret hh).before args s = true) : lt_Code s y cc nL ret hh := by
  obtain ⟨m, meth, c, h1, h2, h3, h4, h5, h6, h7, h8, -⟩ := Cond.codeWith_spec h
  exact ⟨m, meth, c, h1, h2, h3, h4, h5, h6, h7, h8⟩
/-- the contract: the walk of the method's body, from any invocation of it -/
def lt_Met (l : Launch) (y : MethodName) (cc : ByteArray) (nL : Nat) (ret : Option FieldType) (hh : List (Nat × Nat × Nat × Nat)) (rm : Room) (Pc : Array Value → State → Prop) (Qc : Array Value → State → Outcome → State → Prop) (free : Addr → Prop) : Prop :=
  ∀ (p : Program) (e : Env) (s : State) (m : MethodId) (args : Array Value) (below : List Frame) (meth : Method) (c : Code),
    p.tables.exec = Jvm.exec → c.code = cc → c.maxLocals = nL → meth.sig.returnType = ret → meth.locks = false → meth.name = y.name → lt_tab c = hh → s.vm.findClass y.cls = some m.cls → (∀ w ∈ lw_all, w.before args s = true) → Pc args s →
    W p l e rm s m args below meth c s.heap [] 0 0 (lt_MQ below Qc args s rm.cells rm.slots free) (entryFrame m args nL)
section LTG
variable {p : Program} {l : Launch} {e : Env} {R : Room} {s : State} {m : MethodId} {args : Array Value} {below : List Frame} {meth : Method} {c : Code} {T : State} {locs : List Loc} {cells slots : Nat}
theorem lt_go (X : Stand p l e R s m args below meth c T locs cells slots) (hx : p.tables.exec = Jvm.exec) {y : MethodName} {cc : ByteArray} {nL : Nat} {ret : Option FieldType} {hh : List (Nat × Nat × Nat × Nat)} {rm : Room} {Pc : Array Value → State → Prop} {Qc : Array Value → State → Outcome → State → Prop} {free : Addr → Prop}
    (hM : lt_Met l y cc nL ret hh rm Pc Qc free) (hbl : FrameBlind Pc) (hy : plainName y.cls = true) {g : JFrame} (hg : g.method = m) (hsize : g.locals.size = c.maxLocals) {ig : Instr} {len : Nat} (hdg : decode c.code g.pc = .ok (ig, len))
    {mk : MethodId} {methk : Method} {ck : Code} {a : Array Value} (hn : s.methodNamed? y = some mk) (hmk : s.vm.method? mk = some methk) (hck : methk.code = some ck) (hcc : ck.code = cc) (hnL : ck.maxLocals = nL) (hrt : methk.sig.returnType = ret) (hlk : methk.locks = false) (hhh : lt_tab ck = hh)
    (hframes : rm.frames + 1 ≤ R.frames) (hlocals : 2 * g.monitorRoom + (g.stack.map fun v => v.category).sum + (nL + 11) + rm.locals ≤ R.locals) (hcells : cells + rm.cells ≤ R.cells) (hslots : slots + rm.slots ≤ R.slots)
    (hws : ∀ w ∈ lw_all, ∀ (a' : Array Value) (U : State), s.WarmedH U.vm → w.before a' U = true) (hP : Pc a T) :
    ∃ (o : Outcome) (t T' : State) (L : List Loc), Qc a (T.calling g mk a) o t ∧ (∀ q ∈ L, free q.base) ∧ Stand p l e R s m args below meth c T' (locs ++ L) (cells + rm.cells) (slots + rm.slots) ∧ T'.heap = t.heap ∧ T'.vm = t.vm ∧
      (∀ v, o = .returned v → ∀ acts, Steps p.tables e below (doInvoke e (T.setTop g) acts mk a).1 (T'.setTop { g with pc := g.pc + len, stack := v.toList ++ g.stack })) ∧
      (∀ x, o = .threw x → ∀ acts, Steps p.tables e below (doInvoke e (T.setTop g) acts mk a).1 ((T'.setTop g).pushFrame (.throwing x))) := by
  have hn' : T.methodNamed? y = some mk := X.named hn
  have hmk' : T.vm.method? mk = some methk := by rw [X.warmed.alike.method?]; exact hmk
  have hpk : T.plainMethod mk := State.plainMethod.of_named (plainFor_of_name hy) hn' hmk'
  subst hnL
  obtain ⟨Y, hent⟩ := X.into hg hsize hdg a (R' := rm) hmk' hck hlk hpk hframes hlocals hcells hslots
  obtain ⟨t, hst, o, hrun, hend, hq, L, hW, hsame, hL⟩ := hM p e (T.calling g mk a) mk a (.java g :: below) methk ck hx hcc rfl hrt hlk (name_of_methodNamed hn' hmk').1 hhh (findClass_of_methodNamed hn') (fun w hw => hws w hw _ _ X.warmed) (hbl _ _ _ _ hP) ((T.setTop g).pushFrame (.java (entryFrame mk a ck.maxLocals))) rfl Y
  cases o with
  | returned v =>
    obtain ⟨T', X', hW', -, ht⟩ := X.outOf hg hdg hend hW hsame
    refine ⟨.returned v, t, T', L, hq, hL, X', by rw [ht]; rfl, by rw [ht]; rfl, fun v' h acts => ?_, fun x h => by cases h⟩
    cases h
    rw [hent acts, ← ht]
    exact lt_weaken hst
  | threw x =>
    obtain ⟨T', X', hW', -, ht⟩ := X.outOfThrown hg hend hW hsame
    refine ⟨.threw x, t, T', L, hq, hL, X', by rw [ht]; rfl, by rw [ht]; rfl, (fun v h => by cases h), fun x' h acts => ?_⟩
    cases h
    rw [hent acts, ← ht]
    exact lt_weaken hst
end LTG
/-- how a call ends: what it returned, or the class of what it threw -/
abbrev lt_R : Type := Option Value ⊕ String
def lt_out (r : lt_R) (o : Outcome) (t : State) : Prop := match r with
  | .inl v => o = .returned v
  | .inr X => ∃ (a : Addr) (cell : Cell), o = .threw a ∧ t.heap[a]? = some cell ∧ cell.vm.isStatics = false ∧ t.vm.findClass X = some cell.cls
def lt_C (ω : la_O) (y : MethodName) (cc : ByteArray) (nL : Nat) (ret : Option FieldType) (hh : List (Nat × Nat × Nat × Nat)) (rm : Room) (Z : State → Prop) (As : List Value) (ws : va_W) {S : Type} (wf : S → va_W) (post : lt_R → S → Prop) : Prop :=
  ∀ sz : Nat, lt_Met ω.1 y cc nL ret hh rm (fun a U => la_Pre ω As ws sz a U ∧ Z U) (fun _ st oc t => (∃ (r : lt_R) (u : S), lt_out r oc t ∧ post r u ∧ la_B ω ws sz wf u t) ∧ va_F (va_A ws sz) st t) (va_A ws sz)
def lt_Zb (Z : State → Prop) : Prop := ∀ (U : State) (g : JFrame) (mk : MethodId) (a : Array Value), Z U → Z (U.calling g mk a)
/-- in the frame at pc an object of class X is being thrown -/
def la_Th (ω : la_O) (κ : la_K) (n : Nat × Nat) (pc : Nat) (lv : List (Option Value)) (X : String) (ws : va_W) : Prop :=
  ∀ (H : Heap) (locs : List Loc) (ls : Array Slot) (a : Addr) (cell : Cell) (st : List Value), va_P ω.2.1 la_cl ws H → va_D (la_A κ) ws → va_S (la_A κ) (la_s κ).heap H locs → lv_has ls lv.length (la_lp 0 lv) →
    H[a]? = some cell → cell.vm.isStatics = false → (la_s κ).vm.findClass X = some cell.cls →
    ∀ T : State, T.heap = H → Stand (la_p κ) ω.1 (la_e κ) (la_R κ) (la_s κ) (la_m κ) (la_a κ) (la_b κ) (la_h κ) (la_c κ) T locs n.1 n.2 → ∃ t, Steps (la_p κ).tables (la_e κ) (la_b κ) ((T.setTop (F0 (la_m κ) pc ls st)).pushFrame (.throwing a)) t ∧ la_Q κ t
section LTA
variable {ω : la_O} {κ : la_K} {cc : ByteArray} {nL : Nat} {own : String} {R0 : Room} {n : Nat × Nat} {pc : Nat} {lv : List (Option Value)} {st rest : List Value} {ws : va_W}
variable {y : MethodName} {cc' : ByteArray} {nL' : Nat} {ret : Option FieldType} {hh : List (Nat × Nat × Nat × Nat)} {rm : Room} {Z : State → Prop} {As : List Value} {S : Type} {wf : S → va_W} {post : lt_R → S → Prop}
/-- the step that an invoke instruction takes: it resolves, selects mk, and goes into it -/
def lt_Inv (ω : la_O) (κ : la_K) (n : Nat × Nat) (pc : Nat) (st rest : List Value) (ws : va_W) (y : MethodName) (As : List Value) : Prop :=
  ∀ (H : Heap) (locs : List Loc) (ls : Array Slot), va_P ω.2.1 la_cl ws H → va_D (la_A κ) ws → va_S (la_A κ) (la_s κ).heap H locs → ∀ T : State, T.heap = H → Stand (la_p κ) ω.1 (la_e κ) (la_R κ) (la_s κ) (la_m κ) (la_a κ) (la_b κ) (la_h κ) (la_c κ) T locs n.1 n.2 → ∀ mk : MethodId, (la_s κ).methodNamed? y = some mk →
    ∃ vm₁, Stand (la_p κ) ω.1 (la_e κ) (la_R κ) (la_s κ) (la_m κ) (la_a κ) (la_b κ) (la_h κ) (la_c κ) (T.setVm vm₁) locs n.1 n.2 ∧ ∀ target, (∀ acts, Steps (la_p κ).tables (la_e κ) (la_b κ) (doInvoke (la_e κ) ((T.setVm vm₁).setTop (F0 (la_m κ) pc ls rest)) acts mk As.toArray).1 target) → Steps (la_p κ).tables (la_e κ) (la_b κ) (T.setTop (F0 (la_m κ) pc ls st)) target
theorem lt_at (K : la_Cx ω κ cc nL own R0) (hM : lt_C ω y cc' nL' ret hh rm Z As ws wf post) (hZb : lt_Zb Z) (hy : plainName y.cls = true) (hcode : lt_Code (la_s κ) y cc' nL' ret hh) (hinv : lt_Inv ω κ n pc st rest ws y As) {ig : Instr} {len : Nat} (hd : decode cc pc = .ok (ig, len))
    (hlv : lv.length = nL) (hw : (rest.map fun v => v.category).sum ≤ 8) (hR : rm.frames + 1 ≤ R0.frames ∧ 8 + (nL' + 11) + rm.locals ≤ R0.locals) (hf : n.1 + rm.cells ≤ R0.cells ∧ n.2 + rm.slots ≤ R0.slots)
    (hZ : ∀ (H : Heap) (locs : List Loc), va_S (la_A κ) (la_s κ).heap H locs → ∀ U : State, U.heap = H → (la_s κ).WarmedH U.vm → Z U)
    (kk : ∀ (v : Option Value) (u : S), post (.inl v) u → la_At ω κ (n.1 + rm.cells, n.2 + rm.slots) (pc + len) lv (v.toList ++ rest) (wf u))
    (kt : ∀ (X : String) (u : S), post (.inr X) u → la_Th ω κ (n.1 + rm.cells, n.2 + rm.slots) pc lv X (wf u)) : la_At ω κ n pc lv st ws := by
  obtain ⟨hx, hb, hml, hown, hts, hK, hG, hA, hRe, hlk⟩ := K
  subst hRe
  obtain ⟨mk, methk, ck, hn, hmk, hck, hcc, hnk, hhk, hrk, hlkk⟩ := hcode
  intro H locs ls hP hD hS hl T hT X
  have hFc := la_fr hD hS hA
  obtain ⟨vm₁, X₁, hgo⟩ := hinv H locs ls hP hD hS T hT X mk hn
  have hw2 : 2 * (F0 (la_m κ) pc ls rest).monitorRoom + ((F0 (la_m κ) pc ls rest).stack.map fun v => v.category).sum ≤ 8 := lv_room hw
  obtain ⟨o, t, T', L, hq, hL, X', e1, e2, kr, kth⟩ := lt_go X₁ hx (hM H.size) (fun a U g mk h => ⟨la_blind a U g mk h.1, hZb U g mk a h.2⟩) hy (g := F0 (la_m κ) pc ls rest) rfl (by rw [hml, ← hlv]; exact hl.1) (by rw [hb]; exact hd) (a := As.toArray) hn hmk hck hcc hnk hrk hlkk hhk hR.1 (by omega) hf.1 hf.2
    (pay_in hts lw_self) ⟨la_pre hP hK hG hD hT X₁.warmed, hZ H locs hS _ hT X₁.warmed⟩
  obtain ⟨⟨r, u, hr, hp, hP1, hD1⟩, hz, hk⟩ := hq
  have h0 : ((T.setVm vm₁).calling (F0 (la_m κ) pc ls rest) mk As.toArray).heap = H := hT
  rw [h0] at hz hk
  have hS1 : va_S (la_A κ) (la_s κ).heap t.heap (locs ++ L) := ⟨Nat.le_trans hS.1 hz, fun q h1 h2 => by rw [hk q (Nat.lt_of_lt_of_le h1 hS.1) (fun z => h2 (hFc q z))]; exact hS.2.1 q h1 h2, fun q hq => by
      rcases List.mem_append.mp hq with h | h
      · exact hS.2.2 q h
      · exact hFc _ (hL q h)⟩
  have hD2 : va_D (la_A κ) (wf u) := hD1.weaken (fun _ _ _ h => hFc _ h)
  cases r with
  | inl v =>
    obtain ⟨t2, a1, b1⟩ := kk v u hp t.heap (locs ++ L) ls hP1 hD2 hS1 hl T' e1 X'
    exact ⟨t2, hgo t2 (fun acts => (kr v hr acts).trans a1), b1⟩
  | inr X0 =>
    obtain ⟨a, cell, ho, c1, c2, c3⟩ := hr
    obtain ⟨t2, a1, b1⟩ := kt X0 u hp t.heap (locs ++ L) ls a cell rest hP1 hD2 hS1 hl c1 c2 (by rw [← X'.warmed.alike.findClass, e2]; exact c3) T' e1 X'
    exact ⟨t2, hgo t2 (fun acts => (kth a ho acts).trans a1), b1⟩
/-- a call that returns f and changes nothing -/
theorem lt_atP (K : la_Cx ω κ cc nL own R0) {f : Int32} {lev : Nat} (hM : lt_C ω y cc' nL' ret hh (la_rm lev) (fun _ => True) As ws (fun _ : Unit => ws) (fun r _ => r = .inl (some (.int f)))) (hy : plainName y.cls = true) (hcode : lt_Code (la_s κ) y cc' nL' ret hh) (hinv : lt_Inv ω κ n pc st rest ws y As) {ig : Instr} {len : Nat} (hd : decode cc pc = .ok (ig, len))
    (hlv : lv.length = nL) (hw : (rest.map fun v => v.category).sum ≤ 8) (hR : (la_rm lev).frames + 1 ≤ R0.frames ∧ 8 + (nL' + 11) + (la_rm lev).locals ≤ R0.locals) (hf : n.1 ≤ R0.cells ∧ n.2 ≤ R0.slots)
    (kk : la_At ω κ n (pc + len) lv (.int f :: rest) ws) : la_At ω κ n pc lv st ws :=
  lt_at K hM (fun _ _ _ _ h => h) hy hcode hinv hd hlv hw hR hf (fun _ _ _ _ _ _ => trivial) (fun v u h => by cases h; exact kk) (fun X u h => by cases h)
/-- the end of a body that returns a boolean -/
theorem lt_CZ_of (lv0 : List (Option Value)) (h1 : lv_args 0 As = la_lp 0 lv0) (h2 : lv0.length = nL) (h3 : (lg_sl As).length ≤ nL) (body : ∀ κ : la_K, la_Cx ω κ cc nL y.cls rm → Z (la_s κ) → lt_tab (la_c κ) = hh → (∀ (pc : Nat) (lv : List (Option Value)) (v : Nat) (u : S), v < 2 → decode cc pc = .ok (.ireturn, 1) → post (.inl (some (.int (nI v)))) u → la_At ω κ (rm.cells, rm.slots) pc lv [.int (nI v)] (wf u)) → la_At ω κ (0, 0) 0 lv0 [] ws) : lt_C ω y cc nL (some .boolean) hh rm Z As ws wf post := by
  intro sz p e s m args below meth c hx hb hml hr hlk hnm hhh hown hts hv
  obtain ⟨⟨rfl, hsz, hP, hK, hG, hD0⟩, hZ⟩ := hv
  subst hsz
  have hl := lv_entry As (n := nL) h3
  rw [lg_entry_eq]
  rw [h1, ← h2] at hl
  rw [← h2]
  exact body (p, e, rm, s, m, As.toArray, below, meth, c, _, va_A ws s.heap.size) ⟨hx, hb, hml, hown, hts, hK, hG, fun q h => Or.inr h, rfl, hlk⟩ hZ hhh (fun pc lv v u h01 hd hp H locs ls hP1 hD1 hS1 hl1 T hT X => by
    obtain ⟨t, a, b⟩ := W.zret (v := nI v) hx hb hr (la_narz h01) (Qc := fun _ st oc t => (∃ (r : lt_R) (u : S), lt_out r oc t ∧ post r u ∧ la_B ω ws s.heap.size wf u t) ∧ va_F (va_A ws s.heap.size) st t) (free := va_A ws s.heap.size) (fun t ht hW => ⟨⟨.inl (some (.int (nI v))), u, rfl, hp, by rw [ht]; exact hP1, hD1⟩, hS1.F ht⟩) hS1.2.2 hd hlk T hT X
    exact ⟨t, a, lt_MQ_of b⟩) s.heap [] _ hP hD0.self va_S.rf hl
end LTA
/-! CALLS THAT LAND IN AN INTERFACE's DEFAULT METHOD -/
/-- what selection says of a receiver of class c, where the method r (rm) is named and the default m runs -/
def ld_Ok (vm : Vm) (c : ClassId) (r : MethodId) (rm : Method) (m : MethodId) : Prop :=
  vm.method? r = some rm ∧ selectMethod {} vm c r = .method m ∧ (∃ mk : Class, vm.classes[m.cls]? = some mk ∧ mk.isInterface = true) ∧
  ((c :: vm.superclasses c).any fun k => (declaredIn vm rm.name rm.desc k).any fun (_, z) => z.isPrivate || z.isStatic) = false ∧
  (∀ (k : ClassId) (h : Held), nearestHeld vm c rm.name rm.desc = some (k, h) → (∀ z, h = .default z → z = m) ∧ ∀ b, h ≠ .thrower b)
def ld_At (C : String) (x y : MethodName) (s : State) : Prop :=
  ∃ (c : ClassId) (r m : MethodId) (rm : Method), s.vm.findClass C = some c ∧ s.methodFound? x.cls x.name x.desc = some r ∧ s.methodNamed? y = some m ∧ ld_Ok s.vm c r rm m
theorem ld_of {args : Array Value} {s : State} {C : String} {x y : MethodName} (h : (Cond.landsInDefault C x y).before args s = true) : ld_At C x y s := by
  simp only [Cond.before, Cond.holds, Cond.value] at h
  cases hc : s.vm.findClass C with
  | none => simp [hc] at h
  | some c =>
  cases hr : s.methodFound? x.cls x.name x.desc with
  | none => simp [hc, hr] at h
  | some r =>
  cases hm : s.methodNamed? y with
  | none => simp [hc, hr, hm] at h
  | some m =>
  cases hrm : s.vm.method? r with
  | none => simp [hc, hr, hm, hrm] at h
  | some rm =>
  simp only [hc, hr, hm, hrm, Option.map_some, beq_iff_eq, Option.some.injEq] at h
  split at h
  · rename_i m' hsel
    simp only [Bool.and_eq_true, decide_eq_true_eq, Bool.not_eq_true', Option.any_eq_true] at h
    obtain ⟨⟨⟨⟨rfl, mk, hmk, hi⟩, -⟩, hway⟩, hnear⟩ := h
    refine ⟨c, r, m', rm, hc, hr, hm, hrm, hsel, ⟨mk, hmk, hi⟩, hway, fun k h hk => ⟨fun z hz => ?_, fun b hb => ?_⟩⟩
    · subst hz; rw [hk] at hnear; simpa using hnear
    · subst hb; rw [hk] at hnear; cases hnear
  · cases h
theorem ld_any {vm vm' : Vm} (h : vm.Alike vm') (f : Class → Bool) (hf : ∀ k : Class, f k.bare = f k) (c : ClassId) : (vm'.classes[c]?).any f = (vm.classes[c]?).any f := by
  cases hk : vm.classes[c]? with
  | none => rw [h.none hk]
  | some k =>
    obtain ⟨k', hk', he⟩ := h.2.2 _ _ hk
    rw [hk']
    show f k' = f k
    rw [← hf k', Class.bare_of he, hf]
theorem ld_near {vm vm' : Vm} (h : vm.Alike vm') (c : ClassId) (name desc : String) : nearestHeld vm' c name desc = nearestHeld vm c name desc := by
  have a1 : superinterfaceMethods vm' = superinterfaceMethods vm := (superinterfaceMethods_bare vm').symm.trans ((congrArg superinterfaceMethods h.bare_eq).trans (superinterfaceMethods_bare vm))
  have a2 : maximallySpecific vm' = maximallySpecific vm := (maximallySpecific_bare vm').symm.trans ((congrArg maximallySpecific h.bare_eq).trans (maximallySpecific_bare vm))
  have a3 := ld_any h (fun x => x.isInterface) (fun _ => rfl)
  have a4 := ld_any h (fun x => x.methods.any fun m => !m.isAbstract && !m.isStatic) (fun _ => rfl)
  have a5 : ∀ (g : ClassId → Bool) (k : ClassId), (vm'.classes[k]?).any (fun x => x.interfaces.any g) = (vm.classes[k]?).any (fun x => x.interfaces.any g) := fun g => ld_any h (fun x => x.interfaces.any g) (fun _ => rfl)
  simp only [nearestHeld, held, h.superclasses, h.declaredIn, h.superinterfaces, h.method?, a1, a2, a3, a4, a5]
theorem ld_Ok_alike {vm vm' : Vm} (h : vm.Alike vm') {c : ClassId} {r : MethodId} {rm : Method} {m : MethodId} (k : ld_Ok vm c r rm m) : ld_Ok vm' c r rm m := by
  obtain ⟨k1, k2, ⟨mk, k3, k4⟩, k5, k6⟩ := k
  obtain ⟨mk', e1, e2⟩ := h.2.2 _ _ k3
  refine ⟨by rw [h.method?]; exact k1, by rw [h.selectMethod]; exact k2, ⟨mk', e1, by rw [e2]; exact k4⟩, ?_, fun k hd hk => k6 k hd (by rw [← ld_near h]; exact hk)⟩
  simp only [h.superclasses, h.declaredIn]
  exact k5
theorem ld_At_moved {C : String} {x y : MethodName} {s U : State} (hW : s.WarmedH U.vm) (h : ld_At C x y s) : ld_At C x y U := by
  obtain ⟨c, r, m, rm, h1, h2, h3, h4⟩ := h
  have e1 := State.methodFound?_setVm (s := s) hW.alike x.cls x.name x.desc
  have e2 := State.methodNamed?_setVm (s := s) hW.alike (x := y)
  exact ⟨c, r, m, rm, by rw [hW.alike.findClass]; exact h1, (show (s.setVm U.vm).methodFound? x.cls x.name x.desc = some r from e1.trans h2), (show (s.setVm U.vm).methodNamed? y = some m from e2.trans h3), ld_Ok_alike hW.alike h4⟩
section LDS
variable {Q : Unit → Pre} {E : CtlPost} {e : Env} {d : Bool} {acts : List Action} {s : State} {f : JFrame}
theorem ld_select {Q : Selection → Pre} {c : ClassId} {r m : MethodId} {rmeth meth : Method} {mk : Class} (hsel : selectMethod e.platform s.vm c r = .method m) (hrm : s.vm.method? r = some rmeth) (hm : s.vm.method? m = some meth) (hmk : s.vm.classes[m.cls]? = some mk) (hitf : mk.isInterface = true)
    (hnear : ∀ (k : ClassId) (h : Held), nearestHeld s.vm c rmeth.name rmeth.desc = some (k, h) → (∀ z, h = .default z → z = m) ∧ ∀ b, h ≠ .thrower b) : wp (invokeinterface.selectVirtual c r) Q E e d acts s ↔ Q (.method m) d acts s := by
  by_cases hp : e.platform.privateHidesDefault = true
  · cases hn : nearestHeld s.vm c rmeth.name rmeth.desc with
    | none => simp [invokeinterface.selectVirtual, hrm, selectFor_method hsel hm, hmk, hitf, hp, hn]
    | some kh =>
      obtain ⟨k, h⟩ := kh
      obtain ⟨n1, n2⟩ := hnear k h hn
      cases h with
      | nothing => simp [invokeinterface.selectVirtual, hrm, selectFor_method hsel hm, hmk, hitf, hp, hn]
      | default z =>
        have := n1 z rfl
        subst this
        simp [invokeinterface.selectVirtual, hrm, selectFor_method hsel hm, hmk, hitf, hp, hn]
      | thrower b => exact absurd rfl (n2 b)
  · have hp : e.platform.privateHidesDefault = false := by simpa using hp
    simp [invokeinterface.selectVirtual, hrm, selectFor_method hsel hm, hmk, hitf, hp]
theorem ld_wp {index a : Nat} {r m : MethodId} {c' : ClassId} {k k' mk : Class} {rmeth meth : Method} {args rest : List Value} {cell : Cell} (hs : s.topJava?.isSome) (hnamed : namesResolved s.vm f.method.cls index c') (hk' : s.vm.classes[c']? = some k') (hclass : k'.isInterface = false) (hr : s.vm.methodReady f.method.cls index r)
    (hk : s.vm.classes[r.cls]? = some k) (hrm : s.vm.method? r = some rmeth) (hpoly : signaturePolymorphic k rmeth = false) (hstatic : rmeth.isStatic = false) (hlen : args.length = rmeth.sig.parameters.length) (hstack : f.stack = args.reverse ++ .ref a :: rest) (hcell : s.heap[a]? = some cell) (hobj : ∀ c, cell.vm ≠ .statics c)
    (hsel : selectMethod e.platform s.vm cell.cls r = .method m) (hm : s.vm.method? m = some meth) (habs : meth.isAbstract = false) (hmk : s.vm.classes[m.cls]? = some mk) (hitf : mk.isInterface = true)
    (hnear : ∀ (k : ClassId) (h : Held), nearestHeld s.vm cell.cls rmeth.name rmeth.desc = some (k, h) → (∀ z, h = .default z → z = m) ∧ ∀ b, h ≠ .thrower b) :
    wp (invokevirtual.sem index) Q E e d acts (s.setTop f) ↔ E (.invoke m (.ref a :: args).toArray) acts (s.setTop { f with stack := rest }) := by
  obtain ⟨kc, cf, ci, n, h1, h2, h3, h4⟩ := hnamed
  have hpre : ∀ {Q' : ClassId → Pre}, wp (Jvm.refClassAt index) Q' E e d acts (s.setTop f) ↔ Q' c' d acts (s.setTop f) := by
    intro Q'
    rcases h3 with h3 | h3 <;> simp [Jvm.refClassAt, Jvm.constantAt, State.method?_setTop f hs, h1, h2, h3, W.resolveClassAt_ready (State.method?_setTop f hs) h4]
  have hS := fun (Q' : Selection → Pre) (d' : Bool) (acts' : List Action) => ld_select (e := e) (E := E) (d := d') (acts := acts') (Q := Q') (s := s.setTop { f with stack := rest }) (show selectMethod e.platform (s.setTop { f with stack := rest }).vm cell.cls r = .method m from hsel) hrm hm hmk hitf hnear
  simp only [invokevirtual.sem, wp_bind', hpre, W.theClass, State.vm_setTop, hk', Option.some.injEq, exists_eq_left', W.ite, hclass, Bool.false_eq_true, if_false, wp_pure', W.resolveMethodAt_ready (State.method?_setTop f hs) hr]
  simp only [W.theMethod, State.vm_setTop, hrm, Option.some.injEq, exists_eq_left', Seam.isPolymorphic, wp_bind', W.theClass, hk, wp_pure', hpoly, W.ite, Bool.false_eq_true, if_false, hstatic, Jvm.popArgs, ← hlen, popN_top hs hstack]
  simp [hs, hcell, hobj, hS, hm, habs]
end LDS
section LDI
variable {p : Program} {l : Launch} {e : Env} {R : Room} {s : State} {m : MethodId} {args : Array Value} {below : List Frame} {meth : Method} {c : Code} {T : State} {locs : List Loc} {cells slots : Nat}
theorem ld_virtual (X : Stand p l e R s m args below meth c T locs cells slots) (hexec : p.tables.exec = Jvm.exec) {own C owner : String} {index : Nat} {x y : MethodName} (hown : s.vm.findClass own = some m.cls) (hlink : (Cond.methodLink own index x).before args s = true)
    (hsame : (Cond.sameMethod x.cls owner x.name x.desc).before args s = true) (hdecl : va_Decl s ⟨owner, x.name, x.desc⟩) (howner : owner ≠ "java/lang/invoke/MethodHandle" ∧ owner ≠ "java/lang/invoke/VarHandle") (hsel : ld_At C x y s) (hinst : (Cond.instanceMethod y).before args s = true)
    {b : Addr} {cellB : Cell} (hcell : T.heap[b]? = some cellB) (hobj : cellB.vm.isStatics = false) (hcls : s.vm.findClass C = some cellB.cls) {g : JFrame} (hg : g.method = m) {argsL rest : List Value} (hlen : ∀ sig, parseMethodDescriptor x.desc = some sig → argsL.length = sig.parameters.length)
    (hstack : g.stack = argsL.reverse ++ .ref b :: rest) (hdg : decode c.code g.pc = .ok (.invokevirtual index, 3)) {mk : MethodId} (hnamed : s.methodNamed? y = some mk) :
    ∃ vm', Stand p l e R s m args below meth c (T.setVm vm') locs cells slots ∧ ∀ target, (∀ acts, Steps p.tables e below (doInvoke e ((T.setVm vm').setTop { g with stack := rest }) acts mk (.ref b :: argsL).toArray).1 target) → Steps p.tables e below (T.setTop g) target := by
  obtain ⟨r0, r, hn, hrm, hstR, hsigR⟩ := hdecl
  obtain ⟨cn, ck, r1, hcn, hck, hni, hf, hn1⟩ := Cond.sameMethod_found hsame
  cases hn.symm.trans hn1
  obtain ⟨mk', methM, hnamed', hmethM, -, habM⟩ := Cond.instanceMethod_spec hinst
  cases hnamed.symm.trans hnamed'
  obtain ⟨c2, r2, m2, rm, q1, q2, q3, q5, q4, ⟨kP, hkP, hkPi⟩, -, q7⟩ := hsel
  cases hcls.symm.trans q1
  cases hf.symm.trans q2
  cases hnamed.symm.trans q3
  cases hrm.symm.trans q5
  have hselP : selectMethod e.platform s.vm cellB.cls r0 = .method mk := by rw [Launch.admits_selectMethod X.admits]; exact q4
  have hpl : e.platform.magicAccessors = ({} : Platform).magicAccessors := by rw [X.admits.platform]
  obtain ⟨ci, hl, hright⟩ := Cond.methodLink_specUp hown hcn hck hni hf hlink e.platform hpl (by rw [X.admits.platform])
  have hE : s.MethodEntryUp e T.vm m.cls index cn r0 ci := State.methodEntryUp X.warmed hl hright
  obtain ⟨kr, hkr, hnr⟩ := className_of_methodNamed hn
  obtain ⟨dk, cfile, nt, _, _, _, _, _, hd, hcf, hcp, -⟩ := hl.here
  have alike := hE.warmed.alike
  obtain ⟨dk₂, hdk₂, hres⟩ := hE.classReady
  obtain ⟨dk₃, hdk₃, hed⟩ := alike.2.2 _ _ hd
  cases hdk₂.symm.trans hdk₃
  obtain ⟨kr₂, hkr₂, her⟩ := alike.2.2 _ _ hkr
  obtain ⟨ck₂, hck₂, hec⟩ := alike.2.2 _ _ hck
  obtain ⟨mk₂, hmk₂, hem⟩ := alike.2.2 _ _ hkP
  refine ⟨T.vm.calledUp m.cls ci index cn r0, X.noted hE.warmed, fun target hrest => ?_⟩
  subst hg
  have hnear2 : ∀ (k : ClassId) (h : Held), nearestHeld (T.vm.calledUp g.method.cls ci index cn r0) cellB.cls r.name r.desc = some (k, h) → (∀ z, h = .default z → z = mk) ∧ ∀ b, h ≠ .thrower b := fun k h hk => q7 k h (by rw [← ld_near alike]; exact hk)
  jvm_step X.here [hexec, hdg, invokevirtual.wp_coldUp (e := e) (s := T) (s₀ := s) (f := g) X.here.top X.warmed hE hd hcf (Or.inl hcp) hck hni,
    ld_wp (e := e) (s := T.setVm (T.vm.calledUp g.method.cls ci index cn r0)) (f := g) (r := r0) (m := mk) (c' := cn) (k := kr₂) (k' := ck₂) (mk := mk₂) (rmeth := r) (meth := methM) (a := b) (args := argsL) (rest := rest) (cell := cellB)
      X.here.top ⟨dk₂, cfile, ci, nt, hdk₂, by rw [hed]; exact hcf, Or.inl hcp, dk₂, hdk₂, hres⟩ hck₂ (by rw [hec]; exact hni) hE.ready hkr₂
      (by show (T.vm.calledUp g.method.cls ci index cn r0).method? r0 = some r; rw [alike.method?]; exact hrm)
      (by rw [her]; show signaturePolymorphic kr r = false; simp [signaturePolymorphic, hnr, howner.1, howner.2]) hstR (hlen _ hsigR) hstack hcell (fun z h => by rw [h] at hobj; cases hobj)
      (by show selectMethod e.platform (T.vm.calledUp g.method.cls ci index cn r0) cellB.cls r0 = .method mk; rw [alike.selectMethod]; exact hselP)
      (by show (T.vm.calledUp g.method.cls ci index cn r0).method? mk = some methM; rw [alike.method?]; exact hmethM) habM hmk₂ (by rw [hem]; exact hkPi) hnear2]
  exact hrest
theorem ld_face (X : Stand p l e R s m args below meth c T locs cells slots) (hexec : p.tables.exec = Jvm.exec) {own C : String} {index count : Nat} {x y : MethodName} (hown : s.vm.findClass own = some m.cls) (hlink : (Cond.methodLink own index x).before args s = true)
    (hdecl : (Cond.declares x).before args s = true) (hface : (Cond.interfaceMethod x.cls x.cls x.name x.desc).before args s = true) (hsel : ld_At C x y s) (hinst : (Cond.instanceMethod y).before args s = true) (hpub : (Cond.publicMethod y).before args s = true) (hcast : (Cond.castable C x.cls).before args s = true) (hx : x.cls ≠ "java/lang/invoke/MethodHandle" ∧ x.cls ≠ "java/lang/invoke/VarHandle")
    {b : Addr} {cellB : Cell} {kB : Class} (hcell : T.heap[b]? = some cellB) (hobj : cellB.vm.isStatics = false) (hcls : s.vm.findClass C = some cellB.cls) (hkB : s.vm.classes[cellB.cls]? = some kB) {g : JFrame} (hg : g.method = m) {argsL rest : List Value} (hlen : ∀ sig, parseMethodDescriptor x.desc = some sig → argsL.length = sig.parameters.length)
    (hstack : g.stack = argsL.reverse ++ .ref b :: rest) (hdg : decode c.code g.pc = .ok (.invokeinterface index count, 5)) {mk : MethodId} (hnamed : s.methodNamed? y = some mk) :
    ∃ vm', Stand p l e R s m args below meth c (T.setVm vm') locs cells slots ∧ ∀ target, (∀ acts, Steps p.tables e below (doInvoke e ((T.setVm vm').setTop { g with stack := rest }) acts mk (.ref b :: argsL).toArray).1 target) → Steps p.tables e below (T.setTop g) target := by
  obtain ⟨r0, r, hn, hrm, hstR, hsigR⟩ := Cond.declares_spec hdecl
  obtain ⟨cL, kL, r1, hcL, hkL, hiL, hfoundL, hn1⟩ := Cond.interfaceMethod_spec hface
  cases hn.symm.trans hn1
  have hr0cls : r0.cls = cL := Option.some.inj ((findClass_of_methodNamed hn).symm.trans hcL)
  obtain ⟨mk', methM, hnamed', hmethM, -, habM⟩ := Cond.instanceMethod_spec hinst
  cases hnamed.symm.trans hnamed'
  obtain ⟨c2, r2, m2, rm, q1, q2, q3, q5, q4, -, q6, -⟩ := hsel
  cases hcls.symm.trans q1
  cases hfoundL.symm.trans q2
  cases hnamed.symm.trans q3
  cases hrm.symm.trans q5
  have hselP : selectMethod e.platform s.vm cellB.cls r0 = .method mk := by rw [Launch.admits_selectMethod X.admits]; exact q4
  have hpubM : hasFlag methM.accessFlags Acc.public_ = true := Cond.publicMethod_spec hnamed hmethM hpub
  obtain ⟨c3, t3, w1, w2, w3⟩ := Cond.castable_spec hcast
  cases hcls.symm.trans w1
  cases hcL.symm.trans w2
  exact X.invokeinterface hexec hown hlink hn hrm hstR (by rw [hr0cls]; exact hkL) hiL hx (a := b) (cell := cellB) (kcell := kB) hcell
    (fun z h => by rw [h] at hobj; cases hobj) hkB (by rw [hr0cls]; exact w3) hselP hmethM q6 hpubM habM (g := g) hg (argsL := argsL) (rest := rest) (hlen _ hsigR) hstack hdg
end LDI
/-- the words of the start that no table holds: the default's links -/
theorem ld_G {U : State} (h : la_G U) {C : String} {x y : MethodName} (hw : Cond.landsInDefault C x y ∈ flatC (Jvm.Cond.and given_1 narrow_1)) : ld_At C x y U := by
  obtain ⟨S0, b, -, h2, -, hW⟩ := h
  exact ld_At_moved hW (ld_of (flat_of_before _ h2 _ hw))
theorem ld_Gw {U : State} (h : la_G U) {w : Cond} (hw : w ∈ flatC (Jvm.Cond.and given_1 narrow_1)) (hk : (w.onTables && w.keeps) = true) (args : Array Value) : w.before args U = true := by
  obtain ⟨S0, b, -, h2, -, hW⟩ := h
  exact word_at hW (Or.inl hk) (flat_of_before _ h2 _ hw)
section LDR
variable {ω : la_O} {κ : la_K} {cc : ByteArray} {nL : Nat} {own : String} {R0 : Room} {n : Nat × Nat} {pc : Nat} {lv : List (Option Value)} {rest : List Value} {ws : va_W} {s p j i : Nat} {L : Nat}
def ld_yH : MethodName := ⟨"LadderCalls$Sends", "has", "(III)Z"⟩
theorem ld_codeH (K : la_Cx ω κ cc nL own R0) : lt_Code (la_s κ) yX11_has cX11_has 6 (some .boolean) [] := by
  obtain ⟨hx, hb, hml, hown, hts, hK, hG, hA, hRe, hlk⟩ := K
  obtain ⟨mk, methM, hnamed, -⟩ := Cond.instanceMethod_spec (hts _ q339)
  exact lt_Code_of hnamed (hts _ q341)
/-- has, through a class: x names it, the receiver at cell q0 is of class C -/
theorem ld_invV (K : la_Cx ω κ cc nL own R0) {xc C : String} {As : List Value} {b : Nat} (q0 : Nat) {ci : Nat} {fs : List Value} {T : u_T} {N : Nat} (he : ws[q0]? = some (b, .inr (ci, fs))) (hc : la_cl[ci]? = some (C, T, N)) (h1 : Cond.methodLink own i ⟨xc, "has", "(III)Z"⟩ ∈ flatC (Jvm.Cond.and given_1 narrow_1)) (h2 : Cond.sameMethod xc "LadderCalls$Sends" "has" "(III)Z" ∈ flatC (Jvm.Cond.and given_1 narrow_1)) (h3 : Cond.landsInDefault C ⟨xc, "has", "(III)Z"⟩ ⟨"LadderCalls$Sends", "has", "(III)Z"⟩ ∈ flatC (Jvm.Cond.and given_1 narrow_1)) (hl : As.length = 3) (hd : decode cc pc = .ok (.invokevirtual i, 3)) : lt_Inv ω κ n pc (As.reverse ++ .ref b :: rest) rest ws yX11_has (.ref b :: As) := by
  obtain ⟨hx, hb, hml, hown, hts, hK, hG, hA, hRe, hlk⟩ := K
  intro H locs ls hP hD hS U hU X mk hn
  obtain ⟨cellB, g1, g2, g3⟩ := va_recv hK hP hc he
  exact ld_virtual X hx hown (ld_Gw hG h1 rfl _) (ld_Gw hG h2 rfl _) (va_Decl.abs (la_Gu hG q337 rfl)) ⟨by decide, by decide⟩ (ld_G hG h3) (hts _ q339) (by rw [hU]; exact g1) g2 g3 (g := F0 (la_m κ) pc ls _) rfl (argsL := As) (rest := rest) (fun sig h => by
    have e : parseMethodDescriptor "(III)Z" = some sig := h
    have e2 : (parseMethodDescriptor "(III)Z").map (fun d => d.parameters.length) = some 3 := by decide +kernel
    rw [e] at e2
    exact hl.trans (Option.some.inj e2).symm) rfl (by rw [hb]; exact hd) hn
/-- has, through the interface -/
theorem ld_invF (K : la_Cx ω κ cc nL own R0) {C : String} {As : List Value} {b count : Nat} (q0 : Nat) {ci : Nat} {fs : List Value} {T : u_T} {N : Nat} (he : ws[q0]? = some (b, .inr (ci, fs))) (hc : la_cl[ci]? = some (C, T, N)) (h1 : Cond.methodLink own i ⟨"LadderCalls$Sends", "has", "(III)Z"⟩ ∈ lw_all) (h2 : Cond.castable C "LadderCalls$Sends" ∈ lw_tbl) (h3 : Cond.landsInDefault C ⟨"LadderCalls$Sends", "has", "(III)Z"⟩ ⟨"LadderCalls$Sends", "has", "(III)Z"⟩ ∈ flatC (Jvm.Cond.and given_1 narrow_1)) (hl : As.length = 3) (hd : decode cc pc = .ok (.invokeinterface i count, 5)) : lt_Inv ω κ n pc (As.reverse ++ .ref b :: rest) rest ws yX11_has (.ref b :: As) := by
  obtain ⟨hx, hb, hml, hown, hts, hK, hG, hA, hRe, hlk⟩ := K
  intro H locs ls hP hD hS U hU X mk hn
  obtain ⟨cellB, g1, g2, g3⟩ := va_recv hK hP hc he
  obtain ⟨kB, hkB⟩ := Vm.classAt_of_findClass g3
  exact ld_face X hx hown (hts _ h1) (va_Nw.use rfl (la_Gu hG q337 rfl)) (va_Nw.use rfl (la_Gu hG q413 rfl)) (ld_G hG h3) (hts _ q339) (va_Nw.use rfl (la_Gu hG q340 rfl)) (va_Nw.use rfl (la_Gu hG h2 rfl)) ⟨by decide, by decide⟩ (by rw [hU]; exact g1) g2 g3 hkB (g := F0 (la_m κ) pc ls _) rfl (argsL := As) (rest := rest) (fun sig h => by
    have e : parseMethodDescriptor "(III)Z" = some sig := h
    have e2 : (parseMethodDescriptor "(III)Z").map (fun d => d.parameters.length) = some 3 := by decide +kernel
    rw [e] at e2
    exact hl.trans (Option.some.inj e2).symm) rfl (by rw [hb]; exact hd) hn
end LDR
