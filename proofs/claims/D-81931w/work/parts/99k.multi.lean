/-! AN ARRAY OF ARRAYS, MADE AT ONCE (multianewarray). -/
/-- the outer array when i rows are made -/
def lt_oc (cO : ClassId) (M h i : Nat) : Cell := arrV cO M (fun j => if j < i then .ref (h + 1 + j) else .null)
def lt_mu (cO cI : ClassId) (M N : Nat) (U : State) : Nat → State
  | 0 => U.pushCell (lt_oc cO M U.heap.size 0)
  | i + 1 => ((lt_mu cO cI M N U i).pushCell (arrV cI N (fun _ => .int 0))).setCell U.heap.size (lt_oc cO M U.heap.size (i + 1))
section LMU
variable {cO cI : ClassId} {M N : Nat} {U : State}
theorem lt_mu_size : ∀ i, (lt_mu cO cI M N U i).heap.size = U.heap.size + 1 + i
  | 0 => by show (U.heap.push _).size = _; rw [Array.size_push]
  | i + 1 => by
    show (((lt_mu cO cI M N U i).heap.push _).setIfInBounds _ _).size = _
    rw [Array.size_setIfInBounds, Array.size_push, lt_mu_size i]
    omega
theorem lt_mu_vm : ∀ i, (lt_mu cO cI M N U i).vm = U.vm
  | 0 => rfl
  | i + 1 => lt_mu_vm i
theorem lt_mu_old : ∀ i (q : Nat), q < U.heap.size → (lt_mu cO cI M N U i).heap[q]? = U.heap[q]?
  | 0, q, hq => by show (U.heap.push _)[q]? = _; rw [Array.getElem?_push, if_neg (Nat.ne_of_lt hq)]
  | i + 1, q, hq => by
    show (((lt_mu cO cI M N U i).heap.push _).setIfInBounds _ _)[q]? = _
    rw [Array.getElem?_setIfInBounds, if_neg (by omega), Array.getElem?_push, if_neg (by rw [lt_mu_size]; omega)]
    exact lt_mu_old i q hq
theorem lt_mu_outer : ∀ i, (lt_mu cO cI M N U i).heap[U.heap.size]? = some (lt_oc cO M U.heap.size i)
  | 0 => by show (U.heap.push _)[U.heap.size]? = _; rw [Array.getElem?_push_size]
  | i + 1 => by
    show (((lt_mu cO cI M N U i).heap.push _).setIfInBounds _ _)[U.heap.size]? = _
    rw [Array.getElem?_setIfInBounds, if_pos rfl, if_pos (by rw [Array.size_push, lt_mu_size]; omega)]
theorem lt_mu_inner : ∀ i j, j < i → (lt_mu cO cI M N U i).heap[U.heap.size + 1 + j]? = some (arrV cI N (fun _ => .int 0))
  | 0, j, hj => by omega
  | i + 1, j, hj => by
    show (((lt_mu cO cI M N U i).heap.push _).setIfInBounds _ _)[U.heap.size + 1 + j]? = _
    rw [Array.getElem?_setIfInBounds, if_neg (by omega), Array.getElem?_push, lt_mu_size]
    by_cases e : j = i
    · rw [if_pos (by omega)]
    · rw [if_neg (by omega)]
      exact lt_mu_inner i j (by omega)
theorem lt_oc_step {h i : Nat} : (lt_oc cO M h i).setSlot i (.ref (h + 1 + i)) = lt_oc cO M h (i + 1) := by
  unfold lt_oc
  rw [arrV_store]
  congr 1
  funext j
  unfold updV
  by_cases e : j = i
  · subst e
    simp
  · by_cases e2 : j < i
    · simp [e, e2, Nat.lt_succ_of_lt e2]
    · have : ¬ j < i + 1 := by omega
      simp [e, e2, this]
end LMU
section LMW
variable {E : CtlPost} {e : Env} {d : Bool} {acts : List Action} {s : State}
theorem lt_newArr {c : ClassId} {k : Class} {comp : ClassId} {ty : FieldType} {n : Nat} {v : Value} (hk : s.vm.classes[c]? = some k) (hkind : k.kind = .array comp ty) (hfv : fits ty v = true) (hdv : v.isDefault = true) (hlimit : ¬ n > e.platform.arrayLengthLimit) (hheap : ¬ n * componentBytes ty > e.platform.maxHeapBytes) (h1 : s.heap.size < e.platform.maxCells) (h2 : s.slotsUsed + n ≤ e.platform.maxSlots) {Q : Addr → Pre} (hq : Q s.heap.size d acts (s.pushCell { cls := c, slots := Array.replicate n v, vm := .none })) : wp (Jvm.newArray c n v) Q E e d acts s := by
  have hfit : ∀ i x, (Array.replicate n v)[i]? = some x → s.fitsSlot c .none i x = true := by
    intro i x hx
    simp only [Array.getElem?_replicate] at hx
    split at hx
    · cases hx; simp [State.fitsSlot, State.slotType?, hk, hkind, hfv]
    · cases hx
  have hdef : allocActs (Array.replicate n v) s.heap.size acts = acts := by
    have hall : ((Array.replicate n v).all (·.isDefault)) = true := by
      rw [Array.all_replicate]; split <;> simp [hdv]
    unfold allocActs; rw [if_pos hall]
  simp only [Jvm.newArray, Jvm.arrayFits, wp_bind', W.ask, W.ite, hlimit, if_false, wp_pure', W.theClass, hk, Option.some.injEq, exists_eq_left', hkind, hheap, W.alloc, W.stop, hdef, Array.size_replicate]
  split
  · omega
  · exact ⟨h1, h2, hfit, hq⟩
end LMW
section LMX
variable {E : CtlPost} {e : Env} {d : Bool} {acts : List Action} {s : State} {f : JFrame}
theorem lt_make1 {cI comp : ClassId} {k : Class} {N : Nat} (hk : s.vm.classes[cI]? = some k) (hkind : k.kind = .array comp .int) (hN : N < 100000) (hlimit : ¬ N > e.platform.arrayLengthLimit) (hheap : ¬ N * componentBytes .int > e.platform.maxHeapBytes) (h1 : s.heap.size < e.platform.maxCells) (h2 : s.slotsUsed + N ≤ e.platform.maxSlots) {Q : Addr → Pre} (hq : Q s.heap.size d acts (s.pushCell (arrV cI N (fun _ => .int 0)))) : wp (multianewarray.make cI [nI N]) Q E e d acts s := by
  have hn : ¬ nI N < 0 := fun z => vp_in_nI (Nat.lt_succ_self N) (by omega) (Or.inl z)
  rw [multianewarray.make]
  simp only [wp_bind', W.ite, hn, if_false, wp_pure', W.theClass, hk, Option.some.injEq, exists_eq_left', hkind]
  refine lt_newArr hk hkind rfl rfl (by rw [nI_clamp (by omega)]; exact hlimit) (by rw [nI_clamp (by omega)]; exact hheap) h1 (by rw [nI_clamp (by omega)]; exact h2) ?_
  rw [nI_clamp (by omega), arrV_new]
  exact hq
theorem lt_multi_cold {index dims c : Nat} {vm' : Vm} (hs : s.topJava?.isSome) (hg : (Jvm.resolveClass f.method.cls index).Gives e.toSetting s.vm (.ok c) vm') (hr : vm'.classReady f.method.cls index c) (hsz : vm'.classes.size ≤ s.vm.classes.size) {Q : Unit → Pre} :
    wp (multianewarray.sem index dims) Q E e d acts (s.setTop f) ↔ wp (multianewarray.sem index dims) Q E e d acts ((s.setVm vm').setTop f) := by
  simp only [multianewarray.sem, wp_bind']
  exact W.resolveClassAt_transfer (s := s.setTop f) (State.method?_setTop f hs) hg hr
end LMX
section LMS
variable {p : Program} {l : Launch} {e : Env} {R : Room} {s : State} {m : MethodId} {args : Array Value} {below : List Frame} {meth : Method} {c : Code} {U : State} {locs : List Loc} {cells slots : Nat} {cO cI : ClassId} {M N : Nat}
theorem lt_mu_stand (X : Stand p l e R s m args below meth c U locs cells slots) : ∀ i, ∃ L : List Loc, (∀ q ∈ L, q.base = U.heap.size) ∧ Stand p l e R s m args below meth c (lt_mu cO cI M N U i) (locs ++ L) (cells + 1 + i) (slots + M + N * i)
  | 0 => ⟨[], fun q h => (by cases h), by
      have := X.pushed (lt_oc cO M U.heap.size 0)
      rw [show (lt_oc cO M U.heap.size 0).slots.size = M from arrV_size ..] at this
      rw [List.append_nil]
      exact this⟩
  | i + 1 => by
    obtain ⟨L, hL, Y⟩ := lt_mu_stand X i
    have Y1 := Y.pushed (arrV cI N (fun _ => .int 0))
    rw [show (arrV cI N (fun _ => Value.int 0)).slots.size = N from arrV_size ..] at Y1
    have hc : ((lt_mu cO cI M N U i).pushCell (arrV cI N (fun _ => .int 0))).heap[U.heap.size]? = some (lt_oc cO M U.heap.size i) := by
      show ((lt_mu cO cI M N U i).heap.push _)[U.heap.size]? = _
      rw [Array.getElem?_push, if_neg (by rw [lt_mu_size]; omega)]
      exact lt_mu_outer i
    have Y2 := Y1.stored hc i (.ref (U.heap.size + 1 + i))
    rw [lt_oc_step] at Y2
    refine ⟨L ++ [⟨U.heap.size, i⟩], fun q hq => ?_, ?_⟩
    · rcases List.mem_append.mp hq with h | h
      · exact hL q h
      · rw [List.mem_singleton.mp h]
    · rw [← List.append_assoc, show slots + M + N * (i + 1) = slots + M + N * i + N by rw [Nat.mul_succ]; omega]
      exact Y2
end LMS
section LMV
variable {E : CtlPost} {e : Env} {d : Bool} {acts : List Action} {U : State} {g : JFrame} {cO cI cP : ClassId} {M N : Nat}
theorem lt_make2 {kO kI : Class} (hkO : U.vm.classes[cO]? = some kO) (hkindO : kO.kind = .array cI (.array .int)) (hkI : U.vm.classes[cI]? = some kI) (hkindI : kI.kind = .array cP .int) (hM0 : 0 < M) (hM : M < 100000) (hN : N < 100000)
    (hlim : ∀ n, n < 100000 → ¬ n > e.platform.arrayLengthLimit) (hheap : ∀ n (ty : FieldType), componentBytes ty = 4 → n < 100000 → ¬ n * componentBytes ty > e.platform.maxHeapBytes)
    (hr0 : U.heap.size < e.platform.maxCells ∧ U.slotsUsed + M ≤ e.platform.maxSlots) (hr : ∀ i, i < M → (lt_mu cO cI M N U i).heap.size < e.platform.maxCells ∧ (lt_mu cO cI M N U i).slotsUsed + N ≤ e.platform.maxSlots)
    {Q : Addr → Pre} (hq : ∀ d' acts', Q U.heap.size d' acts' ((lt_mu cO cI M N U M).setTop g)) : wp (multianewarray.make cO [nI M, nI N]) Q E e d acts (U.setTop g) := by
  have hnM : ¬ nI M < 0 := fun z => vp_in_nI (Nat.lt_succ_self M) (by omega) (Or.inl z)
  have hM1 : (nI M == 0) = false := by
    rw [beq_eq_false_iff_ne]
    intro z
    have := (nI_eq (a := M) (b := 0) (by omega) (by omega)).mp z
    omega
  rw [multianewarray.make]
  simp only [wp_bind', W.ite, hnM, if_false, wp_pure', W.theClass, State.vm_setTop, hkO, Option.some.injEq, exists_eq_left', hkindO]
  refine lt_newArr (s := U.setTop g) hkO hkindO rfl rfl (by rw [nI_clamp (by omega)]; exact hlim M hM) (by rw [nI_clamp (by omega)]; exact hheap M _ rfl hM) hr0.1 (by rw [nI_clamp (by omega)]; exact hr0.2) ?_
  rw [nI_clamp (by omega), arrV_new, State.pushCell_setTop]
  simp only [hM1, Bool.false_eq_true, if_false, wp_bind', wp_pure', W.ite, Std.Legacy.Range.forIn_eq_forIn_range']
  have hoc : arrV cO M (fun _ => Value.null) = lt_oc cO M U.heap.size 0 := by
    unfold lt_oc
    congr 1
  have hrg : ([:M] : Std.Legacy.Range).size = M - 0 := by simp [Std.Legacy.Range.size]
  rw [hoc, hrg]
  refine wp_forIn_inv (fun rest s' => ∃ i, i ≤ M ∧ rest = List.range' i (M - i) ∧ s' = (lt_mu cO cI M N U i).setTop g) _ _ ⟨0, Nat.zero_le _, rfl, rfl⟩ (fun x rest s' d' acts' Q' hI hk => ?_) (fun s' d' acts' hI => ?_)
  · obtain ⟨i, hi, hrs, rfl⟩ := hI
    have hlt : i < M := by
      rcases Nat.lt_or_ge i M with h | h
      · exact h
      · rw [show M - i = 0 by omega] at hrs; cases hrs
    rw [show M - i = (M - (i + 1)) + 1 by omega, List.range'_succ] at hrs
    cases hrs
    simp only [wp_bind', wp_pure']
    refine lt_make1 (s := (lt_mu cO cI M N U x).setTop g) (by show (lt_mu cO cI M N U x).vm.classes[cI]? = _; rw [lt_mu_vm]; exact hkI) hkindI hN (hlim N hN) (hheap N _ rfl hN) (hr x hlt).1 (hr x hlt).2 ?_
    rw [State.pushCell_setTop]
    have hsz : ((lt_mu cO cI M N U x).setTop g).heap.size = U.heap.size + 1 + x := lt_mu_size x
    rw [hsz]
    rw [wp_bind']
    refine (W.writeLoc _ _ _ _).mpr ?_
    refine ⟨lt_oc cO M U.heap.size x, ?_, (fun h => by cases h), ?_, ?_, ?_⟩
    · show ((lt_mu cO cI M N U x).heap.push _)[U.heap.size]? = _
      rw [Array.getElem?_push, if_neg (by rw [lt_mu_size]; omega)]
      exact lt_mu_outer x
    · rw [show (lt_oc cO M U.heap.size x).slots.size = M from arrV_size ..]; exact hlt
    · show State.fitsSlot (((lt_mu cO cI M N U x).pushCell (arrV cI N (fun _ => .int 0))).setTop g) cO .none x (.ref _) = true
      rw [State.fitsSlot_setTop]
      have hv : ((lt_mu cO cI M N U x).pushCell (arrV cI N (fun _ => .int 0))).vm.classes[cO]? = some kO := by show (lt_mu cO cI M N U x).vm.classes[cO]? = _; rw [lt_mu_vm]; exact hkO
      simp [State.fitsSlot, State.slotType?, lt_mu_vm, hkO, hkindO, fits]
    · refine hk _ _ _ ⟨x + 1, hlt, rfl, ?_⟩
      rw [lt_oc_step]
      rfl
  · obtain ⟨i, hi, hrs, rfl⟩ := hI
    have : i = M := by
      rcases Nat.lt_or_ge i M with h | h
      · rw [show M - i = (M - (i + 1)) + 1 by omega, List.range'_succ] at hrs; cases hrs
      · omega
    subst this
    exact hq _ _
end LMV
section LMT
variable {p : Program} {l : Launch} {e : Env} {R : Room} {s : State} {m : MethodId} {args : Array Value} {below : List Frame} {meth : Method} {c : Code} {T : State} {locs : List Loc} {cells slots : Nat} {cO cI cP : ClassId} {M N : Nat}
theorem lt_multi (X : Stand p l e R s m args below meth c T locs cells slots) (hexec : p.tables.exec = Jvm.exec) {own nmO : String} {index : Nat} (hown : s.vm.findClass own = some m.cls) (hlink : (Cond.classLink own index nmO).before args s = true) (hO : s.vm.findClass nmO = some cO) {kO kI : Class} (hkO : s.vm.classes[cO]? = some kO) (hkindO : kO.kind = .array cI (.array .int)) (hkI : s.vm.classes[cI]? = some kI) (hkindI : kI.kind = .array cP .int)
    (hM0 : 0 < M) (hM : M < 100000) (hN : N < 100000) (hcells : cells + 1 + M ≤ R.cells) (hslots : slots + M + N * M ≤ R.slots) {g : JFrame} (hg : g.method = m) {rest : List Value} (hstack : g.stack = .int (nI N) :: .int (nI M) :: rest) (hdg : decode c.code g.pc = .ok (.multianewarray index 2, 4)) :
    ∃ vm₁, s.WarmedH vm₁ ∧ ∀ target, Steps p.tables e below ((lt_mu cO cI M N (T.setVm vm₁) M).setTop { g with pc := g.pc + 4, stack := .ref T.heap.size :: rest }) target → Steps p.tables e below (T.setTop g) target := by
  subst hg
  have hpl : e.platform.magicAccessors = ({} : Platform).magicAccessors := by rw [X.admits.platform]
  obtain ⟨cc', hfcc, hcl⟩ := Cond.classLink_spec hown hlink e.platform hpl
  cases hO.symm.trans hfcc
  obtain ⟨hg₁, hwarm₁, hready₁⟩ := State.classEntry (e := e) X.warmed hcl
  generalize hv : T.vm.noted g.method.cls index (.cls cO) = vm₁ at hg₁ hwarm₁ hready₁
  have hsz : vm₁.classes.size ≤ T.vm.classes.size := by rw [← hv, Vm.size_noted]; exact Nat.le_refl _
  have hal : s.vm.Alike vm₁ := hwarm₁.alike
  obtain ⟨kO₁, hkO₁, heO⟩ := hal.2.2 _ _ hkO
  obtain ⟨kI₁, hkI₁, heI⟩ := hal.2.2 _ _ hkI
  have hkindO₁ : kO₁.kind = .array cI (.array .int) := by rw [heO]; exact hkindO
  have hkindI₁ : kI₁.kind = .array cP .int := by rw [heI]; exact hkindI
  have X₁ := X.noted hwarm₁
  have hlim : ∀ n, n < 100000 → ¬ n > e.platform.arrayLengthLimit := fun n hn => by rw [Launch.admits_arrayLengthLimit X.admits]; omega
  have hheap : ∀ n (ty : FieldType), componentBytes ty = 4 → n < 100000 → ¬ n * componentBytes ty > e.platform.maxHeapBytes := fun n ty h hn => by rw [Launch.admits_maxHeapBytes X.admits, h]; omega
  refine ⟨vm₁, hwarm₁, fun target hrest => ?_⟩
  jvm_step X.here [hexec, hdg, lt_multi_cold (e := e) (s := T) (f := g) X.here.top hg₁ hready₁ hsz]
  have hp : ∀ (Q' : List Value → Pre) (E' : CtlPost) (d' : Bool) (acts' : List Action), wp (Jvm.popN 2) Q' E' e d' acts' ((T.setVm vm₁).setTop g) ↔ Q' [.int (nI M), .int (nI N)] true acts' ((T.setVm vm₁).setTop { g with stack := rest }) := fun Q' E' d' acts' => popN_top (s := T.setVm vm₁) (args := [.int (nI M), .int (nI N)]) X.here.top hstack
  have hr0 : (T.setVm vm₁).heap.size < e.platform.maxCells ∧ (T.setVm vm₁).slotsUsed + M ≤ e.platform.maxSlots := by
    obtain ⟨r1, r2⟩ := X₁.roomAbove (show cells + 1 ≤ R.cells by omega) (show slots + M ≤ R.slots by omega)
    exact ⟨by omega, r2⟩
  have hr : ∀ i, i < M → (lt_mu cO cI M N (T.setVm vm₁) i).heap.size < e.platform.maxCells ∧ (lt_mu cO cI M N (T.setVm vm₁) i).slotsUsed + N ≤ e.platform.maxSlots := by
    intro i hi
    obtain ⟨L, -, Y⟩ := lt_mu_stand (cO := cO) (cI := cI) (M := M) (N := N) X₁ i
    have hmul : N * i + N ≤ N * M := by rw [← Nat.mul_succ]; exact Nat.mul_le_mul_left _ hi
    obtain ⟨r1, r2⟩ := Y.roomAbove (show cells + 1 + i + 1 ≤ R.cells by omega) (show slots + M + N * i + N ≤ R.slots by omega)
    exact ⟨by omega, r2⟩
  simp only [multianewarray.sem, wp_bind', W.resolveClassAt_ready (s := (T.setVm vm₁).setTop g) (State.method?_setTop g X.here.top) hready₁, hp, List.mapM_cons, List.mapM_nil, wp_pure']
  refine lt_make2 (U := T.setVm vm₁) (g := { g with stack := rest }) hkO₁ hkindO₁ hkI₁ hkindI₁ hM0 hM hN hlim hheap hr0 hr (fun d' acts' => ?_)
  have htop : (lt_mu cO cI M N (T.setVm vm₁) M).topJava?.isSome := by
    obtain ⟨L, -, Y⟩ := lt_mu_stand (cO := cO) (cI := cI) (M := M) (N := N) X₁ M
    exact Y.here.top
  simp only [wp_bind', W.mark, W.pushRef, State.topJava?_setTop' _ htop, Option.some.injEq, exists_eq_left', State.setTop_setTop]
  intro acts2
  rw [afterInstr_ok]
  exact hrest
end LMT
