/-! ROWS OF INSTRUCTIONS THAT THROW; rows of arrays of arrays, of bytes and of shorts; ways into methods that may throw. -/
def lt_H (ω : la_O) (κ : la_K) : Prop := lt_Zs (la_s κ) ∧ lt_As κ ∧ lt_off ω.1
def lt_Rm (R0 : Room) : Prop := 8 < R0.frames ∧ 10280 ≤ R0.locals
section LTW

theorem lt_anew {Q : Unit → Pre} {E : CtlPost} {e : Env} {d : Bool} {acts : List Action} {s : State} {f : JFrame} {index : Nat} {comp c : ClassId} {n : Int32} {rest : List Value} {kc k : Class} {type : FieldType}
    (hs : s.topJava?.isSome) (hr : s.vm.classReady f.method.cls index comp) (hkc : s.vm.classes[comp]? = some kc)
    (hc : (s.vm.classes.findIdx? fun x => match x.kind with | .array component _ => component == comp | _ => false) = some c)
    (hk : s.vm.classes[c]? = some k) (hkind : k.kind = .array comp type) (hstack : f.stack = .int n :: rest) (hn : n < 0) :
    wp (anewarray.sem index) Q E e d acts (s.setTop f) ↔ E (.throwNew "java/lang/NegativeArraySizeException" (some (toString n))) acts (s.setTop { f with stack := rest }) := by
  simp only [anewarray.sem, wp_bind', W.resolveClassAt_ready (State.method?_setTop f hs) hr,
    W.arrayClassOf'_ready (s := s.setTop f) (show (s.setTop f).vm.classes[comp]? = some kc from hkc) (show ((s.setTop f).vm.classes.findIdx? _) = some c from hc),
    W.popInt, State.topJava?_setTop' _ hs, Option.some.injEq, exists_eq_left', hstack, List.cons.injEq,
    Value.int.injEq, exists_cons_eq, State.setTop_setTop, W.ite, hn, if_true, wp_pure', W.mark]
  simp
theorem lt_asg {s : State} {c : ClassId} : s.vm.assignable c c = true := by
  show (c == c || _) = true
  simp
end LTW
section LTX
variable {ω : la_O} {κ : la_K} {cc : ByteArray} {nL : Nat} {own : String} {R0 : Room} {n : Nat × Nat} {pc : Nat} {lv : List (Option Value)} {st rest : List Value} {ws : va_W}
theorem la_xnpe (K : la_Cx ω κ cc nL own R0) (hz : lt_H ω κ) (hlv : lv.length = nL) (hw : (rest.map fun v => v.category).sum ≤ 40) (hR : lt_Rm R0) (hf : n.1 + 1 ≤ R0.cells ∧ n.2 + 8 ≤ R0.slots)
    (hst : ∀ (locs : List Loc) (ls : Array Slot) (T : State), Stand (la_p κ) ω.1 (la_e κ) (la_R κ) (la_s κ) (la_m κ) (la_a κ) (la_b κ) (la_h κ) (la_c κ) T locs n.1 n.2 → ∀ target, Steps (la_p κ).tables (la_e κ) (la_b κ) ((T.setTop (F0 (la_m κ) pc ls rest)).pushFrame (.throwNew "java/lang/NullPointerException" none none)) target → Steps (la_p κ).tables (la_e κ) (la_b κ) (T.setTop (F0 (la_m κ) pc ls st)) target)
    (kt : la_Th ω κ (n.1 + 1, n.2 + 8) pc lv lt_NPE ws) : la_At ω κ n pc lv st ws :=
  la_vmNpe (rest := rest) K hz.1 hz.2.1 hz.2.2 hlv hw ⟨by have := hR.1; omega, hR.2⟩ hf (fun H locs ls T _ _ _ X => ⟨T.vm, X, hst locs ls T X⟩) kt
theorem la_xlen0 (K : la_Cx ω κ cc nL own R0) (hz : lt_H ω κ) (hlv : lv.length = nL) (hw : (rest.map fun v => v.category).sum ≤ 40) (hR : lt_Rm R0) (hf : n.1 + 1 ≤ R0.cells ∧ n.2 + 8 ≤ R0.slots) (hd : decode cc pc = .ok (.arraylength, 1)) (kt : la_Th ω κ (n.1 + 1, n.2 + 8) pc lv lt_NPE ws) : la_At ω κ n pc lv (.null :: rest) ws :=
  la_xnpe (rest := rest) K hz hlv hw hR hf (fun locs ls T X => X.arraylengthNull K.1 (g := F0 (la_m κ) pc ls (.null :: rest)) rfl rfl (by rw [K.2.1]; exact hd)) kt
theorem la_xbald0 (K : la_Cx ω κ cc nL own R0) (hz : lt_H ω κ) (hlv : lv.length = nL) (hw : (rest.map fun v => v.category).sum ≤ 40) (hR : lt_Rm R0) (hf : n.1 + 1 ≤ R0.cells ∧ n.2 + 8 ≤ R0.slots) {i : Int32} (hd : decode cc pc = .ok (.baload, 1)) (kt : la_Th ω κ (n.1 + 1, n.2 + 8) pc lv lt_NPE ws) : la_At ω κ n pc lv (.int i :: .null :: rest) ws :=
  la_xnpe (rest := rest) K hz hlv hw hR hf (fun locs ls T X => X.baloadNull K.1 (g := F0 (la_m κ) pc ls (.int i :: .null :: rest)) rfl rfl (by rw [K.2.1]; exact hd)) kt
theorem la_xsald0 (K : la_Cx ω κ cc nL own R0) (hz : lt_H ω κ) (hlv : lv.length = nL) (hw : (rest.map fun v => v.category).sum ≤ 40) (hR : lt_Rm R0) (hf : n.1 + 1 ≤ R0.cells ∧ n.2 + 8 ≤ R0.slots) {i : Int32} (hd : decode cc pc = .ok (.saload, 1)) (kt : la_Th ω κ (n.1 + 1, n.2 + 8) pc lv lt_NPE ws) : la_At ω κ n pc lv (.int i :: .null :: rest) ws :=
  la_xnpe (rest := rest) K hz hlv hw hR hf (fun locs ls T X => X.saloadNull K.1 (g := F0 (la_m κ) pc ls (.int i :: .null :: rest)) rfl rfl (by rw [K.2.1]; exact hd)) kt
theorem la_xiald0 (K : la_Cx ω κ cc nL own R0) (hz : lt_H ω κ) (hlv : lv.length = nL) (hw : (rest.map fun v => v.category).sum ≤ 40) (hR : lt_Rm R0) (hf : n.1 + 1 ≤ R0.cells ∧ n.2 + 8 ≤ R0.slots) {i : Int32} (hd : decode cc pc = .ok (.iaload, 1)) (kt : la_Th ω κ (n.1 + 1, n.2 + 8) pc lv lt_NPE ws) : la_At ω κ n pc lv (.int i :: .null :: rest) ws :=
  la_xnpe (rest := rest) K hz hlv hw hR hf (fun locs ls T X => X.ialoadNull K.1 (g := F0 (la_m κ) pc ls (.int i :: .null :: rest)) rfl rfl (by rw [K.2.1]; exact hd)) kt
theorem la_xlald0 (K : la_Cx ω κ cc nL own R0) (hz : lt_H ω κ) (hlv : lv.length = nL) (hw : (rest.map fun v => v.category).sum ≤ 40) (hR : lt_Rm R0) (hf : n.1 + 1 ≤ R0.cells ∧ n.2 + 8 ≤ R0.slots) {i : Int32} (hd : decode cc pc = .ok (.laload, 1)) (kt : la_Th ω κ (n.1 + 1, n.2 + 8) pc lv lt_NPE ws) : la_At ω κ n pc lv (.int i :: .null :: rest) ws :=
  la_xnpe (rest := rest) K hz hlv hw hR hf (fun locs ls T X => X.laloadNull K.1 (g := F0 (la_m κ) pc ls (.int i :: .null :: rest)) rfl rfl (by rw [K.2.1]; exact hd)) kt
theorem la_xbast0 (K : la_Cx ω κ cc nL own R0) (hz : lt_H ω κ) (hlv : lv.length = nL) (hw : (rest.map fun v => v.category).sum ≤ 40) (hR : lt_Rm R0) (hf : n.1 + 1 ≤ R0.cells ∧ n.2 + 8 ≤ R0.slots) {i : Int32} {x : Int32} (hd : decode cc pc = .ok (.bastore, 1)) (kt : la_Th ω κ (n.1 + 1, n.2 + 8) pc lv lt_NPE ws) : la_At ω κ n pc lv (.int x :: .int i :: .null :: rest) ws :=
  la_xnpe (rest := rest) K hz hlv hw hR hf (fun locs ls T X => X.bastoreNull K.1 (g := F0 (la_m κ) pc ls (.int x :: .int i :: .null :: rest)) rfl rfl (by rw [K.2.1]; exact hd)) kt
theorem la_xsast0 (K : la_Cx ω κ cc nL own R0) (hz : lt_H ω κ) (hlv : lv.length = nL) (hw : (rest.map fun v => v.category).sum ≤ 40) (hR : lt_Rm R0) (hf : n.1 + 1 ≤ R0.cells ∧ n.2 + 8 ≤ R0.slots) {i : Int32} {x : Int32} (hd : decode cc pc = .ok (.sastore, 1)) (kt : la_Th ω κ (n.1 + 1, n.2 + 8) pc lv lt_NPE ws) : la_At ω κ n pc lv (.int x :: .int i :: .null :: rest) ws :=
  la_xnpe (rest := rest) K hz hlv hw hR hf (fun locs ls T X => X.sastoreNull K.1 (g := F0 (la_m κ) pc ls (.int x :: .int i :: .null :: rest)) rfl rfl (by rw [K.2.1]; exact hd)) kt
theorem la_xiast0 (K : la_Cx ω κ cc nL own R0) (hz : lt_H ω κ) (hlv : lv.length = nL) (hw : (rest.map fun v => v.category).sum ≤ 40) (hR : lt_Rm R0) (hf : n.1 + 1 ≤ R0.cells ∧ n.2 + 8 ≤ R0.slots) {i : Int32} {x : Int32} (hd : decode cc pc = .ok (.iastore, 1)) (kt : la_Th ω κ (n.1 + 1, n.2 + 8) pc lv lt_NPE ws) : la_At ω κ n pc lv (.int x :: .int i :: .null :: rest) ws :=
  la_xnpe (rest := rest) K hz hlv hw hR hf (fun locs ls T X => X.iastoreNull K.1 (g := F0 (la_m κ) pc ls (.int x :: .int i :: .null :: rest)) rfl rfl (by rw [K.2.1]; exact hd)) kt
theorem la_xlast0 (K : la_Cx ω κ cc nL own R0) (hz : lt_H ω κ) (hlv : lv.length = nL) (hw : (rest.map fun v => v.category).sum ≤ 40) (hR : lt_Rm R0) (hf : n.1 + 1 ≤ R0.cells ∧ n.2 + 8 ≤ R0.slots) {i : Int32} {x : Int64} (hd : decode cc pc = .ok (.lastore, 1)) (kt : la_Th ω κ (n.1 + 1, n.2 + 8) pc lv lt_NPE ws) : la_At ω κ n pc lv (.long x :: .int i :: .null :: rest) ws :=
  la_xnpe (rest := rest) K hz hlv hw hR hf (fun locs ls T X => X.lastoreNull K.1 (g := F0 (la_m κ) pc ls (.long x :: .int i :: .null :: rest)) rfl rfl (by rw [K.2.1]; exact hd)) kt
theorem lt_idx_ok : Bundle.fit lt_idxN = true ∧ lt_up3.all Bundle.fit = true ∧ (lt_idxN == "java/lang/StackOverflowError") = false ∧ (lt_idxN == "java/lang/OutOfMemoryError") = false ∧ lt_up3.length ≤ 4 := by decide +kernel
theorem lt_nas_ok : Bundle.fit lt_nasN = true ∧ lt_up2.all Bundle.fit = true ∧ (lt_nasN == "java/lang/StackOverflowError") = false ∧ (lt_nasN == "java/lang/OutOfMemoryError") = false ∧ lt_up2.length ≤ 4 := by decide +kernel
theorem lt_cce_ok : Bundle.fit lt_cceN = true ∧ lt_up2.all Bundle.fit = true ∧ (lt_cceN == "java/lang/StackOverflowError") = false ∧ (lt_cceN == "java/lang/OutOfMemoryError") = false ∧ lt_up2.length ≤ 4 := by decide +kernel
theorem lt_outs {i : Int32} {N : Nat} (h : ¬ lp_in i N) : i < 0 ∨ N ≤ i.toNatClampNeg := Classical.byContradiction fun z => h (vp_in_iff.mp z)
theorem la_xidx (K : la_Cx ω κ cc nL own R0) (hz : lt_H ω κ) (hlv : lv.length = nL) (hw : (rest.map fun v => v.category).sum ≤ 40) (hR : lt_Rm R0) (hf : n.1 + 3 ≤ R0.cells ∧ n.2 + 222 ≤ R0.slots) {a N : Nat} {i : Int32} (q0 : Nat) {cA : ClassId} {D : (Nat → Int32) ⊕ (Nat → Int64) ⊕ (Nat → UInt32) ⊕ (Nat → UInt64) ⊕ (Nat → Option Nat)} (he : ws[q0]? = some (a, .inl (cA, N, D))) (hN : N < 2 ^ 31)
    (hst : ∀ (locs : List Loc) (ls : Array Slot) (T : State), Stand (la_p κ) ω.1 (la_e κ) (la_R κ) (la_s κ) (la_m κ) (la_a κ) (la_b κ) (la_h κ) (la_c κ) T locs n.1 n.2 → T.heap[a]? = some (vp_cell cA (N, D)) → ∀ target, Steps (la_p κ).tables (la_e κ) (la_b κ) ((T.setTop (F0 (la_m κ) pc ls rest)).pushFrame (.throwNew "java/lang/ArrayIndexOutOfBoundsException" (some (toString "Index " ++ toString i ++ toString " out of bounds for length " ++ toString N)) none)) target → Steps (la_p κ).tables (la_e κ) (la_b κ) (T.setTop (F0 (la_m κ) pc ls st)) target)
    (kt : la_Th ω κ (n.1 + 3, n.2 + 222) pc lv lt_idxN ws) : la_At ω κ n pc lv st ws :=
  la_vmMsg (rest := rest) (cls := lt_idxN) (nb := 212) K hz.1 hz.2.1 hz.2.2 lt_idx_kd lt_idx_ok (by decide) hlv hw hR hf (fun H locs ls T hP _ hT X => ⟨T.vm, (toString "Index " ++ toString i ++ toString " out of bounds for length " ++ toString N), index_text_modelled i N, index_text_bytes i hN, X, hst locs ls T X (by rw [hT]; exact hP q0 _ he)⟩) kt
theorem la_xbaldO (K : la_Cx ω κ cc nL own R0) (hz : lt_H ω κ) (hlv : lv.length = nL) (hw : (rest.map fun v => v.category).sum ≤ 40) (hR : lt_Rm R0) (hf : n.1 + 3 ≤ R0.cells ∧ n.2 + 222 ≤ R0.slots) {a N : Nat} {i : Int32} (q0 t0 : Nat) {cA : ClassId} {f : Nat → Int32} (he : ws[q0]? = some (a, .inl (cA, N, .inl f))) (ht : (la_ty ω.2.2)[t0]? = some (cA, .byte)) (hN : N < 2 ^ 31) (ho : ¬ lp_in i N) (hd : decode cc pc = .ok (.baload, 1)) (kt : la_Th ω κ (n.1 + 3, n.2 + 222) pc lv lt_idxN ws) : la_At ω κ n pc lv (.int i :: .ref a :: rest) ws :=
  la_xidx (rest := rest) (i := i) K hz hlv hw hR hf q0 he hN (fun locs ls T X hc => by
    have := X.baloadOut K.1 (j := i) hc ((K.2.2.2.2.2.1.2 t0 _ ht).1 N (fun j => .int (f j))) (by show i < 0 ∨ (arrV _ _ _).slots.size ≤ _; rw [arrV_size]; exact lt_outs ho) (g := F0 (la_m κ) pc ls (.int i :: .ref a :: rest)) rfl rfl (by rw [K.2.1]; exact hd)
    have e : (vp_cell cA (N, .inl f)).slots.size = N := arrV_size ..
    rw [e] at this
    exact this) kt
theorem la_xbastO (K : la_Cx ω κ cc nL own R0) (hz : lt_H ω κ) (hlv : lv.length = nL) (hw : (rest.map fun v => v.category).sum ≤ 40) (hR : lt_Rm R0) (hf : n.1 + 3 ≤ R0.cells ∧ n.2 + 222 ≤ R0.slots) {a N : Nat} {i : Int32} {x : Int32} (q0 t0 : Nat) {cA : ClassId} {f : Nat → Int32} (he : ws[q0]? = some (a, .inl (cA, N, .inl f))) (ht : (la_ty ω.2.2)[t0]? = some (cA, .byte)) (hN : N < 2 ^ 31) (ho : ¬ lp_in i N) (hd : decode cc pc = .ok (.bastore, 1)) (kt : la_Th ω κ (n.1 + 3, n.2 + 222) pc lv lt_idxN ws) : la_At ω κ n pc lv (.int x :: .int i :: .ref a :: rest) ws :=
  la_xidx (rest := rest) (i := i) K hz hlv hw hR hf q0 he hN (fun locs ls T X hc => by
    have := X.bastoreOut K.1 (j := i) (x := x) hc ((K.2.2.2.2.2.1.2 t0 _ ht).1 N (fun j => .int (f j))) (by show i < 0 ∨ (arrV _ _ _).slots.size ≤ _; rw [arrV_size]; exact lt_outs ho) (g := F0 (la_m κ) pc ls (.int x :: .int i :: .ref a :: rest)) rfl rfl (by rw [K.2.1]; exact hd)
    have e : (vp_cell cA (N, .inl f)).slots.size = N := arrV_size ..
    rw [e] at this
    exact this) kt
theorem la_xsaldO (K : la_Cx ω κ cc nL own R0) (hz : lt_H ω κ) (hlv : lv.length = nL) (hw : (rest.map fun v => v.category).sum ≤ 40) (hR : lt_Rm R0) (hf : n.1 + 3 ≤ R0.cells ∧ n.2 + 222 ≤ R0.slots) {a N : Nat} {i : Int32} (q0 t0 : Nat) {cA : ClassId} {f : Nat → Int32} (he : ws[q0]? = some (a, .inl (cA, N, .inl f))) (ht : (la_ty ω.2.2)[t0]? = some (cA, .short)) (hN : N < 2 ^ 31) (ho : ¬ lp_in i N) (hd : decode cc pc = .ok (.saload, 1)) (kt : la_Th ω κ (n.1 + 3, n.2 + 222) pc lv lt_idxN ws) : la_At ω κ n pc lv (.int i :: .ref a :: rest) ws :=
  la_xidx (rest := rest) (i := i) K hz hlv hw hR hf q0 he hN (fun locs ls T X hc => by
    have := X.saloadOut K.1 (j := i) hc ((K.2.2.2.2.2.1.2 t0 _ ht).1 N (fun j => .int (f j))) (by show i < 0 ∨ (arrV _ _ _).slots.size ≤ _; rw [arrV_size]; exact lt_outs ho) (g := F0 (la_m κ) pc ls (.int i :: .ref a :: rest)) rfl rfl (by rw [K.2.1]; exact hd)
    have e : (vp_cell cA (N, .inl f)).slots.size = N := arrV_size ..
    rw [e] at this
    exact this) kt
theorem la_xsastO (K : la_Cx ω κ cc nL own R0) (hz : lt_H ω κ) (hlv : lv.length = nL) (hw : (rest.map fun v => v.category).sum ≤ 40) (hR : lt_Rm R0) (hf : n.1 + 3 ≤ R0.cells ∧ n.2 + 222 ≤ R0.slots) {a N : Nat} {i : Int32} {x : Int32} (q0 t0 : Nat) {cA : ClassId} {f : Nat → Int32} (he : ws[q0]? = some (a, .inl (cA, N, .inl f))) (ht : (la_ty ω.2.2)[t0]? = some (cA, .short)) (hN : N < 2 ^ 31) (ho : ¬ lp_in i N) (hd : decode cc pc = .ok (.sastore, 1)) (kt : la_Th ω κ (n.1 + 3, n.2 + 222) pc lv lt_idxN ws) : la_At ω κ n pc lv (.int x :: .int i :: .ref a :: rest) ws :=
  la_xidx (rest := rest) (i := i) K hz hlv hw hR hf q0 he hN (fun locs ls T X hc => by
    have := X.sastoreOut K.1 (j := i) (x := x) hc ((K.2.2.2.2.2.1.2 t0 _ ht).1 N (fun j => .int (f j))) (by show i < 0 ∨ (arrV _ _ _).slots.size ≤ _; rw [arrV_size]; exact lt_outs ho) (g := F0 (la_m κ) pc ls (.int x :: .int i :: .ref a :: rest)) rfl rfl (by rw [K.2.1]; exact hd)
    have e : (vp_cell cA (N, .inl f)).slots.size = N := arrV_size ..
    rw [e] at this
    exact this) kt
theorem la_xialdO (K : la_Cx ω κ cc nL own R0) (hz : lt_H ω κ) (hlv : lv.length = nL) (hw : (rest.map fun v => v.category).sum ≤ 40) (hR : lt_Rm R0) (hf : n.1 + 3 ≤ R0.cells ∧ n.2 + 222 ≤ R0.slots) {a N : Nat} {i : Int32} (q0 t0 : Nat) {cA : ClassId} {f : Nat → Int32} (he : ws[q0]? = some (a, .inl (cA, N, .inl f))) (ht : (la_ty ω.2.2)[t0]? = some (cA, .int)) (hN : N < 2 ^ 31) (ho : ¬ lp_in i N) (hd : decode cc pc = .ok (.iaload, 1)) (kt : la_Th ω κ (n.1 + 3, n.2 + 222) pc lv lt_idxN ws) : la_At ω κ n pc lv (.int i :: .ref a :: rest) ws :=
  la_xidx (rest := rest) (i := i) K hz hlv hw hR hf q0 he hN (fun locs ls T X hc => by
    have := X.ialoadOut K.1 (j := i) hc ((K.2.2.2.2.2.1.2 t0 _ ht).1 N (fun j => .int (f j))) (by show i < 0 ∨ (arrV _ _ _).slots.size ≤ _; rw [arrV_size]; exact lt_outs ho) (g := F0 (la_m κ) pc ls (.int i :: .ref a :: rest)) rfl rfl (by rw [K.2.1]; exact hd)
    have e : (vp_cell cA (N, .inl f)).slots.size = N := arrV_size ..
    rw [e] at this
    exact this) kt
theorem la_xiastO (K : la_Cx ω κ cc nL own R0) (hz : lt_H ω κ) (hlv : lv.length = nL) (hw : (rest.map fun v => v.category).sum ≤ 40) (hR : lt_Rm R0) (hf : n.1 + 3 ≤ R0.cells ∧ n.2 + 222 ≤ R0.slots) {a N : Nat} {i : Int32} {x : Int32} (q0 t0 : Nat) {cA : ClassId} {f : Nat → Int32} (he : ws[q0]? = some (a, .inl (cA, N, .inl f))) (ht : (la_ty ω.2.2)[t0]? = some (cA, .int)) (hN : N < 2 ^ 31) (ho : ¬ lp_in i N) (hd : decode cc pc = .ok (.iastore, 1)) (kt : la_Th ω κ (n.1 + 3, n.2 + 222) pc lv lt_idxN ws) : la_At ω κ n pc lv (.int x :: .int i :: .ref a :: rest) ws :=
  la_xidx (rest := rest) (i := i) K hz hlv hw hR hf q0 he hN (fun locs ls T X hc => by
    have := X.iastoreOut K.1 (j := i) (x := x) hc ((K.2.2.2.2.2.1.2 t0 _ ht).1 N (fun j => .int (f j))) (by show i < 0 ∨ (arrV _ _ _).slots.size ≤ _; rw [arrV_size]; exact lt_outs ho) (g := F0 (la_m κ) pc ls (.int x :: .int i :: .ref a :: rest)) rfl rfl (by rw [K.2.1]; exact hd)
    have e : (vp_cell cA (N, .inl f)).slots.size = N := arrV_size ..
    rw [e] at this
    exact this) kt
theorem la_xlaldO (K : la_Cx ω κ cc nL own R0) (hz : lt_H ω κ) (hlv : lv.length = nL) (hw : (rest.map fun v => v.category).sum ≤ 40) (hR : lt_Rm R0) (hf : n.1 + 3 ≤ R0.cells ∧ n.2 + 222 ≤ R0.slots) {a N : Nat} {i : Int32} (q0 t0 : Nat) {cA : ClassId} {f : Nat → Int64} (he : ws[q0]? = some (a, .inl (cA, N, .inr (.inl f)))) (ht : (la_ty ω.2.2)[t0]? = some (cA, .long)) (hN : N < 2 ^ 31) (ho : ¬ lp_in i N) (hd : decode cc pc = .ok (.laload, 1)) (kt : la_Th ω κ (n.1 + 3, n.2 + 222) pc lv lt_idxN ws) : la_At ω κ n pc lv (.int i :: .ref a :: rest) ws :=
  la_xidx (rest := rest) (i := i) K hz hlv hw hR hf q0 he hN (fun locs ls T X hc => by
    have := X.laloadOut K.1 (j := i) hc ((K.2.2.2.2.2.1.2 t0 _ ht).1 N (fun j => .long (f j))) (by show i < 0 ∨ (arrV _ _ _).slots.size ≤ _; rw [arrV_size]; exact lt_outs ho) (g := F0 (la_m κ) pc ls (.int i :: .ref a :: rest)) rfl rfl (by rw [K.2.1]; exact hd)
    have e : (vp_cell cA (N, .inr (.inl f))).slots.size = N := arrV_size ..
    rw [e] at this
    exact this) kt
theorem la_xlastO (K : la_Cx ω κ cc nL own R0) (hz : lt_H ω κ) (hlv : lv.length = nL) (hw : (rest.map fun v => v.category).sum ≤ 40) (hR : lt_Rm R0) (hf : n.1 + 3 ≤ R0.cells ∧ n.2 + 222 ≤ R0.slots) {a N : Nat} {i : Int32} {x : Int64} (q0 t0 : Nat) {cA : ClassId} {f : Nat → Int64} (he : ws[q0]? = some (a, .inl (cA, N, .inr (.inl f)))) (ht : (la_ty ω.2.2)[t0]? = some (cA, .long)) (hN : N < 2 ^ 31) (ho : ¬ lp_in i N) (hd : decode cc pc = .ok (.lastore, 1)) (kt : la_Th ω κ (n.1 + 3, n.2 + 222) pc lv lt_idxN ws) : la_At ω κ n pc lv (.long x :: .int i :: .ref a :: rest) ws :=
  la_xidx (rest := rest) (i := i) K hz hlv hw hR hf q0 he hN (fun locs ls T X hc => by
    have := X.lastoreOut K.1 (j := i) (x := x) hc ((K.2.2.2.2.2.1.2 t0 _ ht).1 N (fun j => .long (f j))) (by show i < 0 ∨ (arrV _ _ _).slots.size ≤ _; rw [arrV_size]; exact lt_outs ho) (g := F0 (la_m κ) pc ls (.long x :: .int i :: .ref a :: rest)) rfl rfl (by rw [K.2.1]; exact hd)
    have e : (vp_cell cA (N, .inr (.inl f))).slots.size = N := arrV_size ..
    rw [e] at this
    exact this) kt
theorem la_xaaldO (K : la_Cx ω κ cc nL own R0) (hz : lt_H ω κ) (hlv : lv.length = nL) (hw : (rest.map fun v => v.category).sum ≤ 40) (hR : lt_Rm R0) (hf : n.1 + 3 ≤ R0.cells ∧ n.2 + 222 ≤ R0.slots) {a N : Nat} {i : Int32} (q0 t0 : Nat) {cA : ClassId} {ty : FieldType} {f : Nat → Option Nat} (he : ws[q0]? = some (a, .inl (cA, N, .inr (.inr (.inr (.inr f)))))) (ht : (la_ty ω.2.2)[t0]? = some (cA, ty)) (hN : N < 2 ^ 31) (ho : ¬ lp_in i N) (hd : decode cc pc = .ok (.aaload, 1)) (kt : la_Th ω κ (n.1 + 3, n.2 + 222) pc lv lt_idxN ws) : la_At ω κ n pc lv (.int i :: .ref a :: rest) ws :=
  la_xidx (rest := rest) (i := i) K hz hlv hw hR hf q0 he hN (fun locs ls T X hc => by
    have := X.aaloadOut K.1 (j := i) hc ((K.2.2.2.2.2.1.2 t0 _ ht).1 N (fun j => va_rf (f j))) (by show i < 0 ∨ (arrV _ _ _).slots.size ≤ _; rw [arrV_size]; exact lt_outs ho) (g := F0 (la_m κ) pc ls (.int i :: .ref a :: rest)) rfl rfl (by rw [K.2.1]; exact hd)
    have e : (vp_cell cA (N, .inr (.inr (.inr (.inr f))))).slots.size = N := arrV_size ..
    rw [e] at this
    exact this) kt
theorem la_xneg (K : la_Cx ω κ cc nL own R0) (hz : lt_H ω κ) (hlv : lv.length = nL) (hw : (rest.map fun v => v.category).sum ≤ 40) (hR : lt_Rm R0) (hf : n.1 + 3 ≤ R0.cells ∧ n.2 + 54 ≤ R0.slots) {i : Int32} (hi : i < 0) {aty : ArrayType} (hd : decode cc pc = .ok (.newarray aty, 2)) (kt : la_Th ω κ (n.1 + 3, n.2 + 54) pc lv lt_nasN ws) : la_At ω κ n pc lv (.int i :: rest) ws :=
  la_vmMsg (rest := rest) (cls := lt_nasN) (nb := 44) K hz.1 hz.2.1 hz.2.2 lt_nas_kd lt_nas_ok (by decide) hlv hw hR hf (fun H locs ls T hP _ hT X => ⟨T.vm, toString i, negative_text_modelled hi, negative_text_bytes i, X, X.newarrayNegative K.1 (g := F0 (la_m κ) pc ls (.int i :: rest)) rfl hi rfl (by rw [K.2.1]; exact hd)⟩) kt
theorem lt_ao {U : State} (h : la_G U) {t : FieldType} (hw : Cond.arrayOver (.array t) ∈ lw_tbl) (args : Array Value) : (Cond.arrayOver (.array t)).before args U = true := by
  obtain ⟨S0, b, h1, -, -, hW⟩ := h
  have h0 := h1 _ hw
  have hvm := hW.alike
  obtain ⟨comp, c, k, f1, f2, f3, f4, f5⟩ := arrayOverA_spec h0
  obtain ⟨k', hk', he⟩ := hvm.2.2 _ _ f3
  have hi : (U.vm.classes.findIdx? fun (x : Class) => match x.kind with | .array component _ => component == comp | _ => false) = some c := by
    rw [hvm.findIdx?_eq _ (fun _ => rfl)]
    exact f2
  have hkind : k'.kind = .array comp (.array t) := by rw [he]; exact f4
  have g1 : U.vm.findClass (FieldType.array t).toString = some comp := by rw [hvm.findClass]; exact f1
  have g2 : U.vm.findClass ("[" ++ (FieldType.array t).toString) = some c := by rw [hvm.findClass]; exact f5
  unfold Cond.before Cond.holds
  simp only [Cond.value]
  rw [g1, Option.bind_some]
  refine (congrArg (fun o : Option Nat => (o.bind (fun c => (U.vm.classes[c]?).map fun (k : Class) => match k.kind with | .array _ ty => decide (ty = FieldType.array t) && decide (U.vm.findClass ("[" ++ (FieldType.array t).toString) = some c) | _ => false) == some true)) hi).trans ?_
  simp [hk', hkind, g2]
theorem la_xnegA (K : la_Cx ω κ cc nL own R0) (hz : lt_H ω κ) (hlv : lv.length = nL) (hw : (rest.map fun v => v.category).sum ≤ 40) (hR : lt_Rm R0) (hf : n.1 + 3 ≤ R0.cells ∧ n.2 + 54 ≤ R0.slots) {i : Int32} (hi : i < 0) {index : Nat} {t : FieldType} (hw1 : Cond.arrayOver (.array t) ∈ lw_tbl) (hl : Cond.classLink own index (FieldType.array t).toString ∈ lw_all) (hd : decode cc pc = .ok (.anewarray index, 3)) (kt : la_Th ω κ (n.1 + 3, n.2 + 54) pc lv lt_nasN ws) : la_At ω κ n pc lv (.int i :: rest) ws := by
  refine la_vmMsg (rest := rest) (cls := lt_nasN) (nb := 44) K hz.1 hz.2.1 hz.2.2 lt_nas_kd lt_nas_ok (by decide) hlv hw hR hf (fun H locs ls T hP _ hT X => ?_) kt
  obtain ⟨hx, hb, hml, hown, hts, hK, hG, hA, hRe, hlk⟩ := K
  have hpl : (la_e κ).platform.magicAccessors = ({} : Platform).magicAccessors := by rw [X.admits.platform]
  obtain ⟨comp, cA, kA, hcomp, hidx, hkA, hkindA, hnameA⟩ := arrayOverA_spec (lt_ao hG hw1 #[])
  obtain ⟨kComp, hkComp, -⟩ := Vm.findClass_spec hcomp
  obtain ⟨cc', hfcc, hcl⟩ := Cond.classLink_spec hown (hts _ hl) (la_e κ).platform hpl
  cases hcomp.symm.trans hfcc
  obtain ⟨hg₁, hwarm₁, hready₁⟩ := State.classEntry (e := la_e κ) X.warmed hcl
  generalize T.vm.noted (la_m κ).cls index (.cls comp) = vm₁ at hg₁ hwarm₁ hready₁
  have hal : (la_s κ).vm.Alike vm₁ := hwarm₁.alike
  obtain ⟨kComp₁, hkComp₁, -⟩ := hal.2.2 _ _ hkComp
  obtain ⟨kA₁, hkA₁, heA⟩ := hal.2.2 _ _ hkA
  have hkindA₁ : kA₁.kind = .array comp (.array t) := by rw [heA]; exact hkindA
  have hidx₁ : (vm₁.classes.findIdx? fun x => match x.kind with | .array component _ => component == comp | _ => false) = some cA := by
    rw [hal.findIdx?_eq _ (fun _ => rfl)]; exact hidx
  refine ⟨vm₁, toString i, negative_text_modelled hi, negative_text_bytes i, X.noted hwarm₁, fun target hrest => ?_⟩
  have hdg : decode (la_c κ).code (F0 (la_m κ) pc ls (.int i :: rest)).pc = .ok (.anewarray index, 3) := by rw [hb]; exact hd
  jvm_step X.here [hx, hdg, anewarray.wp_cold (e := la_e κ) (s := T) (f := F0 (la_m κ) pc ls (.int i :: rest)) X.here.top hg₁ hready₁, lt_anew (e := la_e κ) (s := T.setVm vm₁) (f := F0 (la_m κ) pc ls (.int i :: rest)) (n := i) (rest := rest) X.here.top hready₁ hkComp₁ hidx₁ hkA₁ hkindA₁ rfl hi]
  exact hrest
end LTX
section LTY
variable {ω : la_O} {κ : la_K} {cc : ByteArray} {nL : Nat} {own : String} {R0 : Room} {n : Nat × Nat} {pc : Nat} {lv : List (Option Value)} {st rest : List Value} {ws : va_W}
/-- an element of an array of references, null or not -/
theorem la_aaldR (K : la_Cx ω κ cc nL own R0) {a N i : Nat} {f : Nat → Option Nat} {ty : FieldType} (q0 t0 : Nat) {cA : ClassId} (he : ws[q0]? = some (a, .inl (cA, N, .inr (.inr (.inr (.inr f)))))) (ht : (la_ty ω.2.2)[t0]? = some (cA, ty)) (hr : ty.isReference = true) (hN : N < 2 ^ 31) (hi : i < N) (hd : decode cc pc = .ok (.aaload, 1)) (kk : la_At ω κ n (pc + 1) lv (va_rf (f i) :: st) ws) : la_At ω κ n pc lv (.int (nI i) :: .ref a :: st) ws := by
  obtain ⟨hx, hb, hml, hown, hts, hK, hG, hA, hR, hlk⟩ := K
  intro H locs ls hP hD hS hl
  have hin := vp_in_nI hi hN
  have hlt : (nI i).toNatClampNeg < N := Nat.not_le.mp fun q => hin (Or.inr q)
  refine W.aald (v := va_rf (f (nI i).toNatClampNeg)) (ty := ty) hx hb (hP q0 _ he) ((hK.2 t0 _ ht).1 N (fun j => va_rf (f j))) hr (fun q => by cases q) (by show ¬ (nI i < 0 ∨ (arrV _ _ _).slots.size ≤ _); rw [arrV_size]; exact hin) (by show (arrV _ _ _).slots[_]? = _; rw [arrV_read _ _ hlt]) rfl rfl hd ?_
  rw [nI_clamp (by omega)]
  exact kk H locs ls hP hD hS hl
theorem la_bald (K : la_Cx ω κ cc nL own R0) {a N i : Nat} {f : Nat → Int32} (q0 : Nat) (he : ws[q0]? = some (a, .inl (ω.2.2 3, N, .inl f))) (hN : N < 2 ^ 31) (hi : i < N) (hd : decode cc pc = .ok (.baload, 1)) (kk : la_At ω κ n (pc + 1) lv (.int (f i) :: st) ws) : la_At ω κ n pc lv (.int (nI i) :: .ref a :: st) ws := by
  obtain ⟨hx, hb, hml, hown, hts, hK, hG, hA, hR, hlk⟩ := K
  intro H locs ls hP hD hS hl
  refine va_bald hx hb hK hP q0 3 he rfl (vp_in_nI hi hN) hd ?_
  rw [nI_clamp (by omega)]
  exact kk H locs ls hP hD hS hl
theorem la_sald (K : la_Cx ω κ cc nL own R0) {a N i : Nat} {f : Nat → Int32} (q0 : Nat) (he : ws[q0]? = some (a, .inl (ω.2.2 4, N, .inl f))) (hN : N < 2 ^ 31) (hi : i < N) (hd : decode cc pc = .ok (.saload, 1)) (kk : la_At ω κ n (pc + 1) lv (.int (f i) :: st) ws) : la_At ω κ n pc lv (.int (nI i) :: .ref a :: st) ws := by
  obtain ⟨hx, hb, hml, hown, hts, hK, hG, hA, hR, hlk⟩ := K
  intro H locs ls hP hD hS hl
  refine va_sald hx hb hK hP q0 4 he rfl (vp_in_nI hi hN) hd ?_
  rw [nI_clamp (by omega)]
  exact kk H locs ls hP hD hS hl
theorem la_bast (K : la_Cx ω κ cc nL own R0) {a N i : Nat} {x : Int32} {f : Nat → Int32} (q0 : Nat) (he : ws[q0]? = some (a, .inl (ω.2.2 3, N, .inl f))) (hN : N < 2 ^ 31) (hi : i < N) (hd : decode cc pc = .ok (.bastore, 1)) (kk : la_At ω κ n (pc + 1) lv st (ws.set q0 (a, .inl (ω.2.2 3, N, .inl (va_up f i x.toInt8.toInt32))))) : la_At ω κ n pc lv (.int x :: .int (nI i) :: .ref a :: st) ws := by
  obtain ⟨hx, hb, hml, hown, hts, hK, hG, hA, hR, hlk⟩ := K
  intro H locs ls hP hD hS hl
  refine va_bast hx hb hK hP hD hS q0 3 he rfl (vp_in_nI hi hN) hd fun H1 locs1 hP1 hD1 hS1 => ?_
  rw [nI_clamp (by omega)] at hP1 hD1
  exact kk H1 locs1 ls hP1 hD1 hS1 hl
theorem la_sast (K : la_Cx ω κ cc nL own R0) {a N i : Nat} {x : Int32} {f : Nat → Int32} (q0 : Nat) (he : ws[q0]? = some (a, .inl (ω.2.2 4, N, .inl f))) (hN : N < 2 ^ 31) (hi : i < N) (hd : decode cc pc = .ok (.sastore, 1)) (kk : la_At ω κ n (pc + 1) lv st (ws.set q0 (a, .inl (ω.2.2 4, N, .inl (va_up f i x.toInt16.toInt32))))) : la_At ω κ n pc lv (.int x :: .int (nI i) :: .ref a :: st) ws := by
  obtain ⟨hx, hb, hml, hown, hts, hK, hG, hA, hR, hlk⟩ := K
  intro H locs ls hP hD hS hl
  refine va_sast hx hb hK hP hD hS q0 4 he rfl (vp_in_nI hi hN) hd fun H1 locs1 hP1 hD1 hS1 => ?_
  rw [nI_clamp (by omega)] at hP1 hD1
  exact kk H1 locs1 ls hP1 hD1 hS1 hl
/-- an array is made -/
theorem la_newarr (K : la_Cx ω κ cc nL own R0) {aty : ArrayType} {ty : FieldType} (t0 : Nat) {cA : ClassId} (ht : (la_ty ω.2.2)[t0]? = some (cA, ty)) (hty : newarray.typeOf aty = ty) (hcl : Cond.arrayClass (newarray.typeOf aty) ∈ lw_all) (hRA : ∀ (U : State) (c : ClassId), va_RA U c ty → U.vm.findClass ("[" ++ ty.toString) = some c) {N : Nat} {D : (Nat → Int32) ⊕ (Nat → Int64) ⊕ (Nat → UInt32) ⊕ (Nat → UInt64) ⊕ (Nat → Option Nat)} (hD0 : ∀ c : ClassId, vp_cell c (N, D) = arrV c N (fun _ => defaultValue ty)) (hN : N < 100000) (hcb : componentBytes ty ≤ 8) (hf : n.1 + 1 ≤ R0.cells ∧ n.2 + N ≤ R0.slots) (hd : decode cc pc = .ok (.newarray aty, 2)) (kk : ∀ q : Nat, la_At ω κ (n.1 + 1, n.2 + N) (pc + 2) lv (.ref q :: st) (ws ++ [(q, .inl (cA, N, D))])) : la_At ω κ n pc lv (.int (nI N) :: st) ws := by
  obtain ⟨hx, hb, hml, hown, hts, hK, hG, hA, hR, hlk⟩ := K
  subst hR
  intro H locs ls hP hD hS hl
  refine va_newa hx hb (hts _ hcl) hty hK hP hD hS hA hD0 (fun q => vp_in_nI (Nat.lt_succ_self N) (by omega) (Or.inl q)) (nI_clamp (by omega)) (by calc N * componentBytes ty ≤ N * 8 := Nat.mul_le_mul_left _ hcb
    _ ≤ 536870912 := by omega) hf.1 hf.2 hd (fun q c H1 hK1 hP1 hD1 hS1 => ?_)
  have e : c = cA := by
    have h1 := hRA _ _ (hK1.2 (la_ty ω.2.2).length (c, ty) (by rw [List.getElem?_append_right (Nat.le_refl _), Nat.sub_self]; rfl)).2
    have h2 := hRA _ _ (hK.2 t0 _ ht).2
    exact Option.some.inj (h1.symm.trans h2)
  subst e
  exact kk q H1 locs ls hP1 hD1 hS1 hl
/-- an array of arrays is made -/
theorem la_newarrA (K : la_Cx ω κ cc nL own R0) {index : Nat} {t : FieldType} (t0 : Nat) {cA : ClassId} (ht : (la_ty ω.2.2)[t0]? = some (cA, .array t)) (hw1 : Cond.arrayOver (.array t) ∈ lw_tbl) (hl1 : Cond.classLink own index (FieldType.array t).toString ∈ lw_all) {N : Nat} (hN : N < 1000) (hf : n.1 + 1 ≤ R0.cells ∧ n.2 + N ≤ R0.slots) (hd : decode cc pc = .ok (.anewarray index, 3)) (kk : ∀ q : Nat, la_At ω κ (n.1 + 1, n.2 + N) (pc + 3) lv (.ref q :: st) (ws ++ [(q, .inl (cA, N, .inr (.inr (.inr (.inr (fun _ => none))))))])) : la_At ω κ n pc lv (.int (nI N) :: st) ws := by
  obtain ⟨hx, hb, hml, hown, hts, hK, hG, hA, hR, hlk⟩ := K
  subst hR
  intro H locs ls hP hD hS hl
  have hc : (nI N).toNatClampNeg = N := nI_clamp (by omega)
  refine W.anewA hx hb hown (hts _ hl1) (lt_ao hG hw1 _) rfl hd rfl (fun q => vp_in_nI (Nat.lt_succ_self N) (by omega) (Or.inl q)) (by rw [hc]; omega) hf.1 (by rw [hc]; exact hf.2) fun c kA comp f1 f2 f3 f4 => ?_
  rw [hc]
  have e : c = cA := Option.some.inj (f1.symm.trans (hK.2 t0 _ ht).2)
  subst e
  generalize hH1 : H.push ({ cls := c, slots := Array.replicate N .null, vm := .none } : Cell) = H1
  have z1 : H1.size = H.size + 1 := by rw [← hH1, Array.size_push]
  have e1 : H1[H.size]? = some (arrV c N (fun _ => .null)) := by rw [← hH1, Array.getElem?_push_size, ← arrV_new]
  have o1 : ∀ q : Nat, q < H.size → H1[q]? = H[q]? := fun q hq => by rw [← hH1, Array.getElem?_push, if_neg (Nat.ne_of_lt hq)]
  have hk : ∀ (k : Nat) (x : Nat × va_E), ws[k]? = some x → H1[x.1]? = H[x.1]? := fun k x hx => o1 x.1 ((hP k x hx).lt)
  refine kk H.size H1 locs ls ((hP.kept hk).app (fun k x hx => ?_)) (hD.push hP rfl (hA _ hS.1)) ⟨Nat.le_trans hS.1 (by omega), fun x h1 h2 => (o1 x (Nat.lt_of_lt_of_le h1 hS.1)).trans (hS.2.1 x h1 h2), hS.2.2⟩ hl
  have hz : k < 1 := (List.getElem?_eq_some_iff.mp hx).1
  rw [show k = 0 by omega] at hx
  cases hx
  show H1[H.size]? = some (vp_cell _ _)
  rw [vp_cell_q]
  exact e1
/-- an array is put into an array of arrays -/
theorem la_aastA (K : la_Cx ω κ cc nL own R0) {a N i v M : Nat} {f : Nat → Option Nat} {t : FieldType} (q0 t0 qk t1 : Nat) {cA cB : ClassId} {D : (Nat → Int32) ⊕ (Nat → Int64) ⊕ (Nat → UInt32) ⊕ (Nat → UInt64) ⊕ (Nat → Option Nat)} (he : ws[q0]? = some (a, .inl (cA, N, .inr (.inr (.inr (.inr f)))))) (ht : (la_ty ω.2.2)[t0]? = some (cA, .array t)) (hv : ws[qk]? = some (v, .inl (cB, M, D))) (ht1 : (la_ty ω.2.2)[t1]? = some (cB, t)) (hRA : ∀ (U : State) (c : ClassId), va_RA U c t → U.vm.findClass (FieldType.array t).toString = some c) (hw1 : Cond.arrayOver (.array t) ∈ lw_tbl) (hN : N < 2 ^ 31) (hi : i < N) (hd : decode cc pc = .ok (.aastore, 1)) (kk : la_At ω κ n (pc + 1) lv st (ws.set q0 (a, .inl (cA, N, .inr (.inr (.inr (.inr (va_up f i (some v)))))))) ) : la_At ω κ n pc lv (.ref v :: .int (nI i) :: .ref a :: st) ws := by
  obtain ⟨hx, hb, hml, hown, hts, hK, hG, hA, hR, hlk⟩ := K
  intro H locs ls hP hD hS hl
  have hin := vp_in_nI hi hN
  have hlt : (nI i).toNatClampNeg < N := Nat.not_le.mp fun q => hin (Or.inr q)
  have h0 : ¬ nI i < 0 := fun q => hin (Or.inl q)
  obtain ⟨comp, c, kA, f1, f2, f3, f4, f5⟩ := arrayOverA_spec (lt_ao hG hw1 #[])
  have e : c = cA := Option.some.inj (f5.symm.trans (hK.2 t0 _ ht).2)
  subst e
  have e2 : comp = cB := Option.some.inj (f1.symm.trans (hRA _ _ (hK.2 t1 _ ht1).2))
  subst e2
  have hcl : ∀ x : ClassId × vp_A, (vp_cell x.1 x.2).cls = x.1 ∧ (∀ q, (vp_cell x.1 x.2).vm ≠ .statics q) := by
    rintro ⟨c9, N9, f9⟩
    rcases f9 with f | f | f | f | f <;> exact ⟨rfl, fun q h => by cases h⟩
  obtain ⟨c1, c2⟩ := hcl (comp, M, D)
  obtain ⟨-, kB, hkB, cB', hkindB⟩ := (hK.2 t1 _ ht1).1 0 (fun _ => .null)
  refine W.aast hx hb (hP q0 _ he) (fun q h => by cases h) (fun h => by cases h) f3 f4 rfl hkB ⟨h0, by show _ < (arrV _ _ _).slots.size; rw [arrV_size]; exact hlt⟩ (hP qk _ hv) c2 (by rw [c1]; exact hkB) (by rw [c1]; exact lt_asg) rfl rfl hd fun H1 e z oq => ?_
  refine kk H1 _ ls (hP.set hD he ?_ oq) (hD.set he) (hS.put z oq (hD.2 q0 _ he)) hl
  show H1[a]? = some (vp_cell _ _)
  rw [e]
  rw [vp_cell_q, vp_cell_q, arrV_store]
  congr 2
  funext q
  rw [nI_clamp (by omega)]
  by_cases hq : q = i
  · subst hq
    simp [updV, va_up, va_rf]
  · simp [updV, va_up, hq]
end LTY
