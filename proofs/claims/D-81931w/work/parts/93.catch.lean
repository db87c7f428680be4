/-! THE STATICS THAT A THROW READS; HANDLERS; rows of a frame in which something is thrown. -/
/-- beside la_G: the cells of statics are as they were at the law's start -/
def lt_Zs (U : State) : Prop := ∃ (S0 : State) (b : Nat), (∀ w ∈ lw_tbl, w.before #[Value.ref b] S0 = true) ∧ (Jvm.Cond.and given_1 narrow_1).before #[Value.ref b] S0 = true ∧ modulesRight_1 S0 = true ∧ S0.WarmedH U.vm ∧ ∀ (q : Nat) (cell : Cell), S0.heap[q]? = some cell → cell.vm.isStatics = true → U.heap[q]? = some cell
theorem lt_Zs_G {U : State} (h : lt_Zs U) : la_G U := by
  obtain ⟨S0, b, h1, h2, h3, h4, -⟩ := h
  exact ⟨S0, b, h1, h2, h3, h4⟩
theorem lt_Zs_moved {s U : State} (h : lt_Zs s) (hW : s.WarmedH U.vm) (hh : ∀ (q : Nat) (cell : Cell), s.heap[q]? = some cell → cell.vm.isStatics = true → U.heap[q]? = some cell) : lt_Zs U := by
  obtain ⟨S0, b, h1, h2, h3, h4, h5⟩ := h
  exact ⟨S0, b, h1, h2, h3, State.WarmedH.trans h4 hW, fun q cell a b => hh q cell (h5 q cell a b) b⟩
theorem lt_Zs_b : lt_Zb lt_Zs := fun U g mk a h => lt_Zs_moved h (State.WarmedH.refl U) (fun _ _ a _ => a)
def lt_sw : List Cond := [.laysStatic Bundle.tN "UNASSIGNED_STACK" Bundle.steD, .laysStatic Bundle.tN "SUPPRESSED_SENTINEL" Bundle.listD, .isRef (.static Bundle.tN "UNASSIGNED_STACK" Bundle.steD), .isRef (.static Bundle.tN "SUPPRESSED_SENTINEL" Bundle.listD)]
theorem lt_lays {S0 U : State} {A args : Array Value} {o n d : String} (hW : S0.WarmedH U.vm) (hh : ∀ (q : Nat) (cell : Cell), S0.heap[q]? = some cell → cell.vm.isStatics = true → U.heap[q]? = some cell) (h : (Cond.laysStatic o n d).before A S0 = true) :
    (Cond.laysStatic o n d).before args U = true ∧ ((Cond.isRef (.static o n d)).before A S0 = true → (Cond.isRef (.static o n d)).before args U = true) := by
  obtain ⟨c, k, i, f, a, cell, hc, hf, hst, hka, hcell, hiss, hcc, hlt, hty⟩ := Cond.laysStatic_spec h
  obtain ⟨k', hf0, he⟩ := State.fieldFound?_setVm (s := S0) hW.alike hf
  have hf' : U.fieldFound? o n d = some (c, k', i, f) := hf0
  have hc' : U.vm.findClass o = some c := by rw [hW.alike.findClass]; exact hc
  have hka' : k'.statics = some a := (congrArg Class.statics he).trans hka
  have hty' : k'.staticTypes[f.slot]? = some f.type := by rw [Eq.trans (congrArg Class.staticTypes he) rfl]; exact hty
  have hcell' := hh a cell hcell hiss
  constructor
  · simp [Cond.before, Cond.holds, Cond.value, hc', hf', hka', hcell', hst, hiss, hcc, hlt, hty']
  · intro hr
    have e0 : (Term.static o n d).eval A S0 none [] S0 = cell.slots[f.slot]? := by simp [Term.eval, State.fieldNamed?, hf, hst, hka, hcell, hiss]
    have eU : (Term.static o n d).eval args U none [] U = cell.slots[f.slot]? := by simp [Term.eval, State.fieldNamed?, hf', hst, hka', hcell', hiss]
    simp only [Cond.before, Cond.holds, Cond.value] at hr ⊢
    rw [e0] at hr
    rw [eU]
    exact hr
theorem lt_sw_at {U : State} (h : lt_Zs U) (args : Array Value) : ∀ w ∈ lt_sw, w.before args U = true := by
  obtain ⟨S0, b, h1, h2, h3, h4, h5⟩ := h
  have l1 := lt_lays (args := args) h4 h5 (h1 (.laysStatic Bundle.tN "UNASSIGNED_STACK" Bundle.steD) q517)
  have l2 := lt_lays (args := args) h4 h5 (h1 (.laysStatic Bundle.tN "SUPPRESSED_SENTINEL" Bundle.listD) (by decide +kernel))
  have r1 := l1.2 (flat_of_before _ h2 _ (by decide +kernel))
  have r2 := l2.2 (flat_of_before _ h2 _ (by decide +kernel))
  intro w hw
  simp only [lt_sw, List.mem_cons, List.not_mem_nil, or_false] at hw
  rcases hw with rfl | rfl | rfl | rfl
  · exact l1.1
  · exact l2.1
  · exact r1
  · exact r2
def lt_kd (w : Cond) : Bool := (decide (w ∈ lw_tbl) && (goodWord w || la_nw w)) || decide (w ∈ lt_sw)
theorem lt_at_word {U : State} {args : Array Value} (h : lt_Zs U) (hts : ∀ w ∈ lw_all, w.before args U = true) {w : Cond} (hk : lt_kd w = true) : w.before args U = true := by
  unfold lt_kd at hk
  rw [Bool.or_eq_true, Bool.and_eq_true, Bool.or_eq_true, decide_eq_true_eq, decide_eq_true_eq] at hk
  rcases hk with ⟨h1, h2 | h2⟩ | h1
  · exact hts w (List.mem_filter.mpr ⟨h1, h2⟩)
  · exact va_Nw.use (la_nw_on h2) (la_Gu (lt_Zs_G h) h1 h2)
  · exact lt_sw_at h args w h1
theorem lt_npe_kd : (Bundle.npeArmAtoms 8).all lt_kd = true := by decide +kernel
def lt_idxN : String := "java/lang/ArrayIndexOutOfBoundsException"
def lt_nasN : String := "java/lang/NegativeArraySizeException"
def lt_cceN : String := "java/lang/ClassCastException"
def lt_up2 : List String := ["java/lang/RuntimeException", "java/lang/Exception"]
def lt_up3 : List String := ["java/lang/IndexOutOfBoundsException", "java/lang/RuntimeException", "java/lang/Exception"]
theorem lt_idx_kd : (Bundle.messageArmAtoms lt_idxN lt_up3).all lt_kd = true := by decide +kernel
theorem lt_nas_kd : (Bundle.messageArmAtoms lt_nasN lt_up2).all lt_kd = true := by decide +kernel
theorem lt_cce_kd : (Bundle.messageArmAtoms lt_cceN lt_up2).all lt_kd = true := by decide +kernel
theorem lt_atoms {U : State} {args : Array Value} (h : lt_Zs U) (hts : ∀ w ∈ lw_all, w.before args U = true) {L : List Cond} (hk : L.all lt_kd = true) : ∀ w ∈ L, w.before args U = true := fun w hw => lt_at_word h hts (List.all_eq_true.mp hk w hw)
