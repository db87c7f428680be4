-- abbrev q244 := @q244
-- abbrev q47 := @q47
-- abbrev q245 := @q245
/-! THE FRAME OF ALL WALKS: a running method as one bundle, the world as a list of cells, one row an instruction. Printed by core.py. -/
abbrev la_O : Type := Launch × va_G × (Nat → ClassId)
abbrev la_K : Type := Program × Env × Room × State × MethodId × Array Value × List Frame × Method × Code × (State → Prop) × (Nat → Prop)
abbrev la_p (κ : la_K) : Program := κ.1
abbrev la_e (κ : la_K) : Env := κ.2.1
abbrev la_R (κ : la_K) : Room := κ.2.2.1
abbrev la_s (κ : la_K) : State := κ.2.2.2.1
abbrev la_m (κ : la_K) : MethodId := κ.2.2.2.2.1
abbrev la_a (κ : la_K) : Array Value := κ.2.2.2.2.2.1
abbrev la_b (κ : la_K) : List Frame := κ.2.2.2.2.2.2.1
abbrev la_h (κ : la_K) : Method := κ.2.2.2.2.2.2.2.1
abbrev la_c (κ : la_K) : Code := κ.2.2.2.2.2.2.2.2.1
abbrev la_Q (κ : la_K) : State → Prop := κ.2.2.2.2.2.2.2.2.2.1
abbrev la_A (κ : la_K) : Nat → Prop := κ.2.2.2.2.2.2.2.2.2.2
/-- all classes of the run whose objects are known by their fields -/
def la_cl : List vw_C := [(RX0, TX0, 31), (RX1, TX1, 1), (RX2, TX2, 2), (RX3, TX3, 2), (RX4, TX4, 4), (RX5, TX5, 32), (RX7, TX7, 1), (RX8, TX8, 1), (RX9, TX9, 1), (RX10, TX10, 1)]
/-- the array classes of the run -/
def la_ty (E : Nat → ClassId) : List (ClassId × FieldType) := [(E 0, .int), (E 1, .boolean), (E 2, .long), (E 3, .byte), (E 4, .short), (E 5, .object "LadderCalls$Near"), (E 6, .object "LadderCalls$Book"), (E 7, .array .int), (E 8, .array .byte), (E 9, .array .short), (E 10, .array .long)]
/-- the kinds of words that don't ride in the lists but are taken along here -/
def la_fc (a b n d : String) : Bool := a == "LadderCalls$Sends" && b == "LadderCalls$Sends" && ((n == "sends" && d == "(I)I") || (n == "has" && d == "(III)Z"))
def la_nw (w : Cond) : Bool := match w with
  | .fieldLinkNest .. => true
  | .methodLinkNest .. => true
  | .castable .. => true
  | .declares .. => true
  | .publicMethod .. => true
  | .unhidden .. => true
  | .interfaceMethod a b n d => la_fc a b n d
  | _ => false
theorem la_nw_on {w : Cond} (h : la_nw w = true) : w.onTables = true := by
  unfold la_nw at h
  split at h
  · rfl
  · rfl
  · rfl
  · rfl
  · rfl
  · rfl
  · rfl
  · cases h
theorem la_nw_moved {w : Cond} (h : la_nw w = true) {s U : State} (hW : s.WarmedH U.vm) (hz : va_Nw w s) (z1 : va_Nw (.declares ⟨"LadderCalls$Sends", "sends", "(I)I"⟩) s) (z2 : va_Nw (.declares ⟨"LadderCalls$Sends", "has", "(III)Z"⟩) s) : va_Nw w U := by
  unfold la_nw at h
  split at h
  · exact va_Nw.warmF hW hz
  · exact va_Nw.warmM hW hz
  · exact va_Nw.warmC hW hz
  · exact va_Nw.warmD hW hz
  · exact va_tabs rfl (rfl : (s.setVm U.vm).vm = U.vm) (by rw [Cond.publicMethod_setVm hW.alike]; exact hz)
  · exact va_tabs rfl (rfl : (s.setVm U.vm).vm = U.vm) (by rw [Cond.unhidden_setVm hW.alike]; exact hz)
  · unfold la_fc at h
    simp only [Bool.and_eq_true, Bool.or_eq_true, beq_iff_eq] at h
    obtain ⟨⟨rfl, rfl⟩, ⟨rfl, rfl⟩ | ⟨rfl, rfl⟩⟩ := h
    · obtain ⟨r, meth, hn, -⟩ := Cond.declares_spec z1
      exact va_tabs rfl (rfl : (s.setVm U.vm).vm = U.vm) (by rw [Cond.interfaceMethod_setVm hW.alike (r := r) hn ⟨by decide, by decide⟩]; exact hz)
    · obtain ⟨r, meth, hn, -⟩ := Cond.declares_spec z2
      exact va_tabs rfl (rfl : (s.setVm U.vm).vm = U.vm) (by rw [Cond.interfaceMethod_setVm hW.alike (r := r) hn ⟨by decide, by decide⟩]; exact hz)
  · cases h
/-- what holds of every state of the run, beside the lists of words: its tables are warmer than those of a start of the law at which all the words hold -/
def la_G (U : State) : Prop := ∃ (S0 : State) (b : Nat), (∀ w ∈ lw_tbl, w.before #[Value.ref b] S0 = true) ∧ (Jvm.Cond.and given_1 narrow_1).before #[Value.ref b] S0 = true ∧ modulesRight_1 S0 = true ∧ S0.WarmedH U.vm
theorem la_Gu {U : State} (h : la_G U) {w : Cond} (hw : w ∈ lw_tbl) (hn : la_nw w = true) : va_Nw w U := by
  obtain ⟨S0, b, h1, -, -, hW⟩ := h
  have z : ∀ w ∈ lw_tbl, la_nw w = true → va_Nw w S0 := fun w a c => va_Nw.of (la_nw_on c) (h1 w a)
  exact la_nw_moved hn hW (z w hw hn) (z _ q329 rfl) (z _ q337 rfl)
theorem la_G_moved {s U : State} (hW : s.WarmedH U.vm) (h : la_G s) : la_G U := by
  obtain ⟨S0, b, h1, h2, h3, h4⟩ := h
  exact ⟨S0, b, h1, h2, h3, State.WarmedH.trans h4 hW⟩
theorem la_G_same {s U : State} (hv : s.vm = U.vm) (h : la_G s) : la_G U := by
  obtain ⟨S0, b, h1, h2, h3, h4⟩ := h
  exact ⟨S0, b, h1, h2, h3, hv ▸ h4⟩
/-- the locals by a list: a place is known, or not -/
def la_lp : Nat → List (Option Value) → List (Nat × Value)
  | _, [] => []
  | i, none :: t => la_lp (i + 1) t
  | i, some v :: t => (i, v) :: la_lp (i + 1) t
theorem la_lp_iff : ∀ (lv : List (Option Value)) (i : Nat) (q : Nat × Value), q ∈ la_lp i lv ↔ ∃ k, q.1 = i + k ∧ lv[k]? = some (some q.2)
  | [], i, q => by simp [la_lp]
  | none :: t, i, q => by
    rw [la_lp, la_lp_iff t (i + 1) q]
    constructor
    · rintro ⟨k, h1, h2⟩
      exact ⟨k + 1, by omega, by simpa using h2⟩
    · rintro ⟨k, h1, h2⟩
      cases k with
      | zero => simp at h2
      | succ k => exact ⟨k, by omega, by simpa using h2⟩
  | some v :: t, i, q => by
    rw [la_lp, List.mem_cons, la_lp_iff t (i + 1) q]
    constructor
    · rintro (rfl | ⟨k, h1, h2⟩)
      · exact ⟨0, rfl, rfl⟩
      · exact ⟨k + 1, by omega, by simpa using h2⟩
    · rintro ⟨k, h1, h2⟩
      cases k with
      | zero =>
        left
        simp at h2
        obtain ⟨a, b⟩ := q
        simp at h1 h2
        rw [h1, h2]
      | succ k => exact Or.inr ⟨k, by omega, by simpa using h2⟩
theorem la_lp_at {ls : Array Slot} {lv : List (Option Value)} {k : Nat} {v : Value} (h : lv_has ls lv.length (la_lp 0 lv)) (hv : lv[k]? = some (some v)) : ls[k]? = some (.val v) :=
  h.2.2 (k, v) ((la_lp_iff lv 0 (k, v)).mpr ⟨k, by simp, hv⟩)
/-- the place ahead holds no long -/
def la_ok (lv : List (Option Value)) (k : Nat) : Bool := match k with
  | 0 => true
  | j + 1 => match lv[j]? with
    | some (some v) => v.category == 1
    | _ => true
theorem la_ok_at {lv : List (Option Value)} {j : Nat} {v : Value} (h : la_ok lv (j + 1) = true) (hv : lv[j]? = some (some v)) : v.category = 1 := by
  unfold la_ok at h
  simpa [hv] using h
theorem la_lp_put {ls : Array Slot} {lv : List (Option Value)} {k : Nat} {v : Value} (hk : k < lv.length) (hok : la_ok lv k = true) (h : lv_has ls lv.length ((k, v) :: (la_lp 0 lv).filter (fun q => !(q.1 == k) && !(q.1 + 1 == k && q.2.category == 2)))) : lv_has ls (lv.set k (some v)).length (la_lp 0 (lv.set k (some v))) := by
  refine ⟨by rw [List.length_set]; exact h.1, h.2.1, fun q hq => ?_⟩
  obtain ⟨j, hj, hv⟩ := (la_lp_iff _ _ _).mp hq
  rw [Nat.zero_add] at hj
  by_cases e : j = k
  · subst e
    rw [List.getElem?_set_self hk] at hv
    have e2 : v = q.2 := Option.some.inj (Option.some.inj hv)
    have h3 := h.2.2 (j, v) List.mem_cons_self
    rw [hj, ← e2]
    exact h3
  · rw [List.getElem?_set_ne (Ne.symm e)] at hv
    refine h.2.2 q (List.mem_cons_of_mem _ (List.mem_filter.mpr ⟨(la_lp_iff _ _ _).mpr ⟨j, by omega, hv⟩, ?_⟩))
    have h1 : ¬ q.1 = k := by rw [hj]; exact e
    by_cases h2 : q.1 + 1 = k
    · rw [← h2, hj] at hok
      have h3 := la_ok_at hok hv
      simp [h1, h3]
    · simp [h1, h2]
theorem la_lp_put2 {ls : Array Slot} {lv : List (Option Value)} {k : Nat} {v : Value} (hk : k + 1 < lv.length) (hok : la_ok lv k = true) (h : lv_has ls lv.length ((k, v) :: (la_lp 0 lv).filter (fun q => !(q.1 == k) && (!(q.1 == k + 1) && !(q.1 + 1 == k && q.2.category == 2))))) : lv_has ls ((lv.set k (some v)).set (k + 1) none).length (la_lp 0 ((lv.set k (some v)).set (k + 1) none)) := by
  refine ⟨by rw [List.length_set, List.length_set]; exact h.1, h.2.1, fun q hq => ?_⟩
  obtain ⟨j, hj, hv⟩ := (la_lp_iff _ _ _).mp hq
  rw [Nat.zero_add] at hj
  by_cases e1 : j = k + 1
  · subst e1
    rw [List.getElem?_set_self (by rw [List.length_set]; exact hk)] at hv
    cases hv
  rw [List.getElem?_set_ne (Ne.symm e1)] at hv
  by_cases e : j = k
  · subst e
    rw [List.getElem?_set_self (by omega)] at hv
    have e2 : v = q.2 := Option.some.inj (Option.some.inj hv)
    have h3 := h.2.2 (j, v) List.mem_cons_self
    rw [hj, ← e2]
    exact h3
  · rw [List.getElem?_set_ne (Ne.symm e)] at hv
    refine h.2.2 q (List.mem_cons_of_mem _ (List.mem_filter.mpr ⟨(la_lp_iff _ _ _).mpr ⟨j, by omega, hv⟩, ?_⟩))
    have h1 : ¬ q.1 = k := by rw [hj]; exact e
    have h4 : ¬ q.1 = k + 1 := by rw [hj]; exact e1
    by_cases h2 : q.1 + 1 = k
    · rw [← h2, hj] at hok
      have h3 := la_ok_at hok hv
      simp [h1, h4, h3]
    · simp [h1, h4, h2]
/-- the machine, in the method κ, with n cells and slots made, at pc with locals lv, stack st and the world ws, comes to its goal -/
def la_At (ω : la_O) (κ : la_K) (n : Nat × Nat) (pc : Nat) (lv : List (Option Value)) (st : List Value) (ws : va_W) : Prop :=
  ∀ (H : Heap) (locs : List Loc) (ls : Array Slot), va_P ω.2.1 la_cl ws H → va_D (la_A κ) ws → va_S (la_A κ) (la_s κ).heap H locs → lv_has ls lv.length (la_lp 0 lv) →
    W (la_p κ) ω.1 (la_e κ) (la_R κ) (la_s κ) (la_m κ) (la_a κ) (la_b κ) (la_h κ) (la_c κ) H locs n.1 n.2 (la_Q κ) (F0 (la_m κ) pc ls st)
/-- what is fixed while the method κ runs: its code cc, its locals nL, its class own, its room R0 -/
def la_Cx (ω : la_O) (κ : la_K) (cc : ByteArray) (nL : Nat) (own : String) (R0 : Room) : Prop :=
  (la_p κ).tables.exec = Jvm.exec ∧ (la_c κ).code = cc ∧ (la_c κ).maxLocals = nL ∧ (la_s κ).vm.findClass own = some (la_m κ).cls ∧ (∀ w ∈ lw_all, w.before (la_a κ) (la_s κ) = true) ∧ va_K ω.2.1 la_cl (la_ty ω.2.2) (la_s κ) ∧ la_G (la_s κ) ∧ (∀ q : Nat, (la_s κ).heap.size ≤ q → la_A κ q) ∧ la_R κ = R0 ∧ (la_h κ).locks = false
section LA
variable {ω : la_O} {κ : la_K} {cc : ByteArray} {nL : Nat} {own : String} {R0 : Room} {n : Nat × Nat} {pc : Nat} {lv : List (Option Value)} {st : List Value} {ws : va_W}
/-- fewer locals known -/
theorem la_few {lv' : List (Option Value)} (hn : lv'.length = lv.length) (h : ∀ (k : Nat) (v : Value), lv'[k]? = some (some v) → lv[k]? = some (some v)) (kk : la_At ω κ n pc lv' st ws) : la_At ω κ n pc lv st ws := by
  intro H locs ls hP hD hS hl
  refine kk H locs ls hP hD hS ⟨hl.1.trans hn.symm, hl.2.1, fun q hq => ?_⟩
  obtain ⟨j, hj, hv⟩ := (la_lp_iff _ _ _).mp hq
  exact hl.2.2 q ((la_lp_iff _ _ _).mpr ⟨j, hj, h j _ hv⟩)
/-- an int on top of the stack by another name -/
theorem la_top {x y : Int32} (e : x = y) (kk : la_At ω κ n pc lv (.int y :: st) ws) : la_At ω κ n pc lv (.int x :: st) ws := by rw [e]; exact kk

theorem la_iload_n (K : la_Cx ω κ cc nL own R0) {k : Fin 4} {x : Int32} (hd : decode cc pc = .ok (.iload_n k, 1)) (hv : lv[(k : Nat)]? = some (some (.int x))) (kk : la_At ω κ n (pc + 1) lv (.int x :: st) ws) : la_At ω κ n pc lv st ws := by
  obtain ⟨hx, hb, hml, hown, hts, hK, hG, hA, hR, hlk⟩ := K
  intro H locs ls hP hD hS hl
  exact lv_iload_n hx hb hd rfl (la_lp_at hl hv) (kk H locs ls hP hD hS hl)
theorem la_iload (K : la_Cx ω κ cc nL own R0) {k : Nat} {x : Int32} (hd : decode cc pc = .ok (.iload k, 2)) (hv : lv[k]? = some (some (.int x))) (kk : la_At ω κ n (pc + 2) lv (.int x :: st) ws) : la_At ω κ n pc lv st ws := by
  obtain ⟨hx, hb, hml, hown, hts, hK, hG, hA, hR, hlk⟩ := K
  intro H locs ls hP hD hS hl
  exact lv_iload hx hb hd (la_lp_at hl hv) (kk H locs ls hP hD hS hl)
theorem la_lload_n (K : la_Cx ω κ cc nL own R0) {k : Fin 4} {x : Int64} (hd : decode cc pc = .ok (.lload_n k, 1)) (hv : lv[(k : Nat)]? = some (some (.long x))) (kk : la_At ω κ n (pc + 1) lv (.long x :: st) ws) : la_At ω κ n pc lv st ws := by
  obtain ⟨hx, hb, hml, hown, hts, hK, hG, hA, hR, hlk⟩ := K
  intro H locs ls hP hD hS hl
  exact lv_lload_n hx hb hd rfl (la_lp_at hl hv) (kk H locs ls hP hD hS hl)
theorem la_lload (K : la_Cx ω κ cc nL own R0) {k : Nat} {x : Int64} (hd : decode cc pc = .ok (.lload k, 2)) (hv : lv[k]? = some (some (.long x))) (kk : la_At ω κ n (pc + 2) lv (.long x :: st) ws) : la_At ω κ n pc lv st ws := by
  obtain ⟨hx, hb, hml, hown, hts, hK, hG, hA, hR, hlk⟩ := K
  intro H locs ls hP hD hS hl
  exact lv_lload hx hb hd (la_lp_at hl hv) (kk H locs ls hP hD hS hl)
theorem la_aload_n (K : la_Cx ω κ cc nL own R0) {k : Fin 4} {x : Nat} (hd : decode cc pc = .ok (.aload_n k, 1)) (hv : lv[(k : Nat)]? = some (some (.ref x))) (kk : la_At ω κ n (pc + 1) lv (.ref x :: st) ws) : la_At ω κ n pc lv st ws := by
  obtain ⟨hx, hb, hml, hown, hts, hK, hG, hA, hR, hlk⟩ := K
  intro H locs ls hP hD hS hl
  exact lv_aload_n hx hb hd rfl (la_lp_at hl hv) (kk H locs ls hP hD hS hl)
theorem la_aload (K : la_Cx ω κ cc nL own R0) {k : Nat} {x : Nat} (hd : decode cc pc = .ok (.aload k, 2)) (hv : lv[k]? = some (some (.ref x))) (kk : la_At ω κ n (pc + 2) lv (.ref x :: st) ws) : la_At ω κ n pc lv st ws := by
  obtain ⟨hx, hb, hml, hown, hts, hK, hG, hA, hR, hlk⟩ := K
  intro H locs ls hP hD hS hl
  exact lv_aload hx hb hd (la_lp_at hl hv) (kk H locs ls hP hD hS hl)
theorem la_aload_n0 (K : la_Cx ω κ cc nL own R0) {k : Fin 4} (hd : decode cc pc = .ok (.aload_n k, 1)) (hv : lv[(k : Nat)]? = some (some .null)) (kk : la_At ω κ n (pc + 1) lv (.null :: st) ws) : la_At ω κ n pc lv st ws := by
  obtain ⟨hx, hb, hml, hown, hts, hK, hG, hA, hR, hlk⟩ := K
  intro H locs ls hP hD hS hl
  exact lv_aload_nN hx hb hd rfl (la_lp_at hl hv) (kk H locs ls hP hD hS hl)
theorem la_aload0 (K : la_Cx ω κ cc nL own R0) {k : Nat} (hd : decode cc pc = .ok (.aload k, 2)) (hv : lv[k]? = some (some .null)) (kk : la_At ω κ n (pc + 2) lv (.null :: st) ws) : la_At ω κ n pc lv st ws := by
  obtain ⟨hx, hb, hml, hown, hts, hK, hG, hA, hR, hlk⟩ := K
  intro H locs ls hP hD hS hl
  exact lv_aloadN hx hb hd (la_lp_at hl hv) (kk H locs ls hP hD hS hl)
theorem la_istore_n (K : la_Cx ω κ cc nL own R0) {k : Fin 4} {x : Int32} (hd : decode cc pc = .ok (.istore_n k, 1)) (hk : (k : Nat) < lv.length) (hok : la_ok lv k = true) (kk : la_At ω κ n (pc + 1) (lv.set k (some (.int x))) st ws) : la_At ω κ n pc lv (.int x :: st) ws := by
  obtain ⟨hx, hb, hml, hown, hts, hK, hG, hA, hR, hlk⟩ := K
  intro H locs ls hP hD hS hl
  exact lv_istore_n hx hb hd rfl hl hk rfl (fun ls' hl' => kk H locs ls' hP hD hS (la_lp_put hk hok hl'))
theorem la_istore (K : la_Cx ω κ cc nL own R0) {k : Nat} {x : Int32} (hd : decode cc pc = .ok (.istore k, 2)) (hk : k < lv.length) (hok : la_ok lv k = true) (kk : la_At ω κ n (pc + 2) (lv.set k (some (.int x))) st ws) : la_At ω κ n pc lv (.int x :: st) ws := by
  obtain ⟨hx, hb, hml, hown, hts, hK, hG, hA, hR, hlk⟩ := K
  intro H locs ls hP hD hS hl
  exact lv_istore hx hb hd hl hk rfl (fun ls' hl' => kk H locs ls' hP hD hS (la_lp_put hk hok hl'))
theorem la_astore_n (K : la_Cx ω κ cc nL own R0) {k : Fin 4} {x : Nat} (hd : decode cc pc = .ok (.astore_n k, 1)) (hk : (k : Nat) < lv.length) (hok : la_ok lv k = true) (kk : la_At ω κ n (pc + 1) (lv.set k (some (.ref x))) st ws) : la_At ω κ n pc lv (.ref x :: st) ws := by
  obtain ⟨hx, hb, hml, hown, hts, hK, hG, hA, hR, hlk⟩ := K
  intro H locs ls hP hD hS hl
  exact lv_astore_n hx hb hd rfl hl hk rfl (fun ls' hl' => kk H locs ls' hP hD hS (la_lp_put hk hok hl'))
theorem la_astore (K : la_Cx ω κ cc nL own R0) {k : Nat} {x : Nat} (hd : decode cc pc = .ok (.astore k, 2)) (hk : k < lv.length) (hok : la_ok lv k = true) (kk : la_At ω κ n (pc + 2) (lv.set k (some (.ref x))) st ws) : la_At ω κ n pc lv (.ref x :: st) ws := by
  obtain ⟨hx, hb, hml, hown, hts, hK, hG, hA, hR, hlk⟩ := K
  intro H locs ls hP hD hS hl
  exact lv_astore hx hb hd hl hk rfl (fun ls' hl' => kk H locs ls' hP hD hS (la_lp_put hk hok hl'))
theorem la_astore_n0 (K : la_Cx ω κ cc nL own R0) {k : Fin 4} (hd : decode cc pc = .ok (.astore_n k, 1)) (hk : (k : Nat) < lv.length) (hok : la_ok lv k = true) (kk : la_At ω κ n (pc + 1) (lv.set k (some .null)) st ws) : la_At ω κ n pc lv (.null :: st) ws := by
  obtain ⟨hx, hb, hml, hown, hts, hK, hG, hA, hR, hlk⟩ := K
  intro H locs ls hP hD hS hl
  exact lv_astore_nN hx hb hd rfl hl hk rfl (fun ls' hl' => kk H locs ls' hP hD hS (la_lp_put hk hok hl'))
theorem la_lstore_n (K : la_Cx ω κ cc nL own R0) {k : Fin 4} {x : Int64} (hd : decode cc pc = .ok (.lstore_n k, 1)) (hk : (k : Nat) + 1 < lv.length) (hok : la_ok lv k = true) (kk : la_At ω κ n (pc + 1) ((lv.set k (some (.long x))).set (k + 1) none) st ws) : la_At ω κ n pc lv (.long x :: st) ws := by
  obtain ⟨hx, hb, hml, hown, hts, hK, hG, hA, hR, hlk⟩ := K
  intro H locs ls hP hD hS hl
  exact lv_lstore_n hx hb hd rfl hl hk rfl (fun ls' hl' => kk H locs ls' hP hD hS (la_lp_put2 hk hok hl'))
theorem la_lstore (K : la_Cx ω κ cc nL own R0) {k : Nat} {x : Int64} (hd : decode cc pc = .ok (.lstore k, 2)) (hk : k + 1 < lv.length) (hok : la_ok lv k = true) (kk : la_At ω κ n (pc + 2) ((lv.set k (some (.long x))).set (k + 1) none) st ws) : la_At ω κ n pc lv (.long x :: st) ws := by
  obtain ⟨hx, hb, hml, hown, hts, hK, hG, hA, hR, hlk⟩ := K
  intro H locs ls hP hD hS hl
  exact lv_lstore hx hb hd hl hk rfl (fun ls' hl' => kk H locs ls' hP hD hS (la_lp_put2 hk hok hl'))
theorem la_lp_has {ls : Array Slot} {lv : List (Option Value)} {k : Nat} {v : Value} (h : lv_has ls lv.length (la_lp 0 lv)) (hv : lv[k]? = some (some v)) : ∃ j : Nat, (la_lp 0 lv)[j]? = some (k, v) := List.getElem?_of_mem ((la_lp_iff lv 0 (k, v)).mpr ⟨k, by simp, hv⟩)
theorem la_iinc (K : la_Cx ω κ cc nL own R0) {k : Nat} {z : Int} {x v : Int32} (hd : decode cc pc = .ok (.iinc k z, 3)) (hx0 : lv[k]? = some (some (.int x))) (hv : x + Int32.ofInt z = v) (hk : k < lv.length) (hok : la_ok lv k = true) (kk : la_At ω κ n (pc + 3) (lv.set k (some (.int v))) st ws) : la_At ω κ n pc lv st ws := by
  obtain ⟨hx, hb, hml, hown, hts, hK, hG, hA, hR, hlk⟩ := K
  intro H locs ls hP hD hS hl
  obtain ⟨j, hj⟩ := la_lp_has hl hx0
  exact lv_iinc hx hb hd hl hj hv hk rfl (fun ls' hl' => kk H locs ls' hP hD hS (la_lp_put hk hok hl'))
theorem la_istore0 (K : la_Cx ω κ cc nL own R0) { y : Option Value} {t : List (Option Value)} {x : Int32} (hd : decode cc pc = .ok (.istore_n 0, 1)) (hok : la_ok (y :: t) 0 = true) (kk : la_At ω κ n (pc + 1) (some (.int x) :: t) st ws) : la_At ω κ n pc (y :: t) (.int x :: st) ws := la_istore_n (k := (0 : Fin 4)) K hd (by show 0 < _; simp only [List.length_cons]; omega) hok kk
theorem la_astore0 (K : la_Cx ω κ cc nL own R0) { y : Option Value} {t : List (Option Value)} {x : Nat} (hd : decode cc pc = .ok (.astore_n 0, 1)) (hok : la_ok (y :: t) 0 = true) (kk : la_At ω κ n (pc + 1) (some (.ref x) :: t) st ws) : la_At ω κ n pc (y :: t) (.ref x :: st) ws := la_astore_n (k := (0 : Fin 4)) K hd (by show 0 < _; simp only [List.length_cons]; omega) hok kk
theorem la_iinc0 (K : la_Cx ω κ cc nL own R0) {t : List (Option Value)} {z : Int} {x v : Int32} (hd : decode cc pc = .ok (.iinc 0 z, 3)) (hv : x + Int32.ofInt z = v) (hok : la_ok (some (.int x) :: t) 0 = true) (kk : la_At ω κ n (pc + 3) (some (.int v) :: t) st ws) : la_At ω κ n pc (some (.int x) :: t) st ws := la_iinc K (k := 0) hd rfl hv (by simp only [List.length_cons]; omega) hok kk
theorem la_lstore0 (K : la_Cx ω κ cc nL own R0) { y : Option Value} {t : List (Option Value)} {y2 : Option Value} {x : Int64} (hd : decode cc pc = .ok (.lstore_n 0, 1)) (hok : la_ok (y :: y2 :: t) 0 = true) (kk : la_At ω κ n (pc + 1) (some (.long x) :: none :: t) st ws) : la_At ω κ n pc (y :: y2 :: t) (.long x :: st) ws := la_lstore_n (k := (0 : Fin 4)) K hd (by show 0 + 1 < _; simp only [List.length_cons]; omega) hok kk
theorem la_istore1 (K : la_Cx ω κ cc nL own R0) {x0 y : Option Value} {t : List (Option Value)} {x : Int32} (hd : decode cc pc = .ok (.istore_n 1, 1)) (hok : la_ok (x0 :: y :: t) 1 = true) (kk : la_At ω κ n (pc + 1) (x0 :: some (.int x) :: t) st ws) : la_At ω κ n pc (x0 :: y :: t) (.int x :: st) ws := la_istore_n (k := (1 : Fin 4)) K hd (by show 1 < _; simp only [List.length_cons]; omega) hok kk
theorem la_astore1 (K : la_Cx ω κ cc nL own R0) {x0 y : Option Value} {t : List (Option Value)} {x : Nat} (hd : decode cc pc = .ok (.astore_n 1, 1)) (hok : la_ok (x0 :: y :: t) 1 = true) (kk : la_At ω κ n (pc + 1) (x0 :: some (.ref x) :: t) st ws) : la_At ω κ n pc (x0 :: y :: t) (.ref x :: st) ws := la_astore_n (k := (1 : Fin 4)) K hd (by show 1 < _; simp only [List.length_cons]; omega) hok kk
theorem la_iinc1 (K : la_Cx ω κ cc nL own R0) {x0 : Option Value} {t : List (Option Value)} {z : Int} {x v : Int32} (hd : decode cc pc = .ok (.iinc 1 z, 3)) (hv : x + Int32.ofInt z = v) (hok : la_ok (x0 :: some (.int x) :: t) 1 = true) (kk : la_At ω κ n (pc + 3) (x0 :: some (.int v) :: t) st ws) : la_At ω κ n pc (x0 :: some (.int x) :: t) st ws := la_iinc K (k := 1) hd rfl hv (by simp only [List.length_cons]; omega) hok kk
theorem la_lstore1 (K : la_Cx ω κ cc nL own R0) {x0 y : Option Value} {t : List (Option Value)} {y2 : Option Value} {x : Int64} (hd : decode cc pc = .ok (.lstore_n 1, 1)) (hok : la_ok (x0 :: y :: y2 :: t) 1 = true) (kk : la_At ω κ n (pc + 1) (x0 :: some (.long x) :: none :: t) st ws) : la_At ω κ n pc (x0 :: y :: y2 :: t) (.long x :: st) ws := la_lstore_n (k := (1 : Fin 4)) K hd (by show 1 + 1 < _; simp only [List.length_cons]; omega) hok kk
theorem la_istore2 (K : la_Cx ω κ cc nL own R0) {x0 x1 y : Option Value} {t : List (Option Value)} {x : Int32} (hd : decode cc pc = .ok (.istore_n 2, 1)) (hok : la_ok (x0 :: x1 :: y :: t) 2 = true) (kk : la_At ω κ n (pc + 1) (x0 :: x1 :: some (.int x) :: t) st ws) : la_At ω κ n pc (x0 :: x1 :: y :: t) (.int x :: st) ws := la_istore_n (k := (2 : Fin 4)) K hd (by show 2 < _; simp only [List.length_cons]; omega) hok kk
theorem la_astore2 (K : la_Cx ω κ cc nL own R0) {x0 x1 y : Option Value} {t : List (Option Value)} {x : Nat} (hd : decode cc pc = .ok (.astore_n 2, 1)) (hok : la_ok (x0 :: x1 :: y :: t) 2 = true) (kk : la_At ω κ n (pc + 1) (x0 :: x1 :: some (.ref x) :: t) st ws) : la_At ω κ n pc (x0 :: x1 :: y :: t) (.ref x :: st) ws := la_astore_n (k := (2 : Fin 4)) K hd (by show 2 < _; simp only [List.length_cons]; omega) hok kk
theorem la_iinc2 (K : la_Cx ω κ cc nL own R0) {x0 x1 : Option Value} {t : List (Option Value)} {z : Int} {x v : Int32} (hd : decode cc pc = .ok (.iinc 2 z, 3)) (hv : x + Int32.ofInt z = v) (hok : la_ok (x0 :: x1 :: some (.int x) :: t) 2 = true) (kk : la_At ω κ n (pc + 3) (x0 :: x1 :: some (.int v) :: t) st ws) : la_At ω κ n pc (x0 :: x1 :: some (.int x) :: t) st ws := la_iinc K (k := 2) hd rfl hv (by simp only [List.length_cons]; omega) hok kk
theorem la_lstore2 (K : la_Cx ω κ cc nL own R0) {x0 x1 y : Option Value} {t : List (Option Value)} {y2 : Option Value} {x : Int64} (hd : decode cc pc = .ok (.lstore_n 2, 1)) (hok : la_ok (x0 :: x1 :: y :: y2 :: t) 2 = true) (kk : la_At ω κ n (pc + 1) (x0 :: x1 :: some (.long x) :: none :: t) st ws) : la_At ω κ n pc (x0 :: x1 :: y :: y2 :: t) (.long x :: st) ws := la_lstore_n (k := (2 : Fin 4)) K hd (by show 2 + 1 < _; simp only [List.length_cons]; omega) hok kk
theorem la_istore3 (K : la_Cx ω κ cc nL own R0) {x0 x1 x2 y : Option Value} {t : List (Option Value)} {x : Int32} (hd : decode cc pc = .ok (.istore_n 3, 1)) (hok : la_ok (x0 :: x1 :: x2 :: y :: t) 3 = true) (kk : la_At ω κ n (pc + 1) (x0 :: x1 :: x2 :: some (.int x) :: t) st ws) : la_At ω κ n pc (x0 :: x1 :: x2 :: y :: t) (.int x :: st) ws := la_istore_n (k := (3 : Fin 4)) K hd (by show 3 < _; simp only [List.length_cons]; omega) hok kk
theorem la_astore3 (K : la_Cx ω κ cc nL own R0) {x0 x1 x2 y : Option Value} {t : List (Option Value)} {x : Nat} (hd : decode cc pc = .ok (.astore_n 3, 1)) (hok : la_ok (x0 :: x1 :: x2 :: y :: t) 3 = true) (kk : la_At ω κ n (pc + 1) (x0 :: x1 :: x2 :: some (.ref x) :: t) st ws) : la_At ω κ n pc (x0 :: x1 :: x2 :: y :: t) (.ref x :: st) ws := la_astore_n (k := (3 : Fin 4)) K hd (by show 3 < _; simp only [List.length_cons]; omega) hok kk
theorem la_iinc3 (K : la_Cx ω κ cc nL own R0) {x0 x1 x2 : Option Value} {t : List (Option Value)} {z : Int} {x v : Int32} (hd : decode cc pc = .ok (.iinc 3 z, 3)) (hv : x + Int32.ofInt z = v) (hok : la_ok (x0 :: x1 :: x2 :: some (.int x) :: t) 3 = true) (kk : la_At ω κ n (pc + 3) (x0 :: x1 :: x2 :: some (.int v) :: t) st ws) : la_At ω κ n pc (x0 :: x1 :: x2 :: some (.int x) :: t) st ws := la_iinc K (k := 3) hd rfl hv (by simp only [List.length_cons]; omega) hok kk
theorem la_lstore3 (K : la_Cx ω κ cc nL own R0) {x0 x1 x2 y : Option Value} {t : List (Option Value)} {y2 : Option Value} {x : Int64} (hd : decode cc pc = .ok (.lstore_n 3, 1)) (hok : la_ok (x0 :: x1 :: x2 :: y :: y2 :: t) 3 = true) (kk : la_At ω κ n (pc + 1) (x0 :: x1 :: x2 :: some (.long x) :: none :: t) st ws) : la_At ω κ n pc (x0 :: x1 :: x2 :: y :: y2 :: t) (.long x :: st) ws := la_lstore_n (k := (3 : Fin 4)) K hd (by show 3 + 1 < _; simp only [List.length_cons]; omega) hok kk
theorem la_istore4 (K : la_Cx ω κ cc nL own R0) {x0 x1 x2 x3 y : Option Value} {t : List (Option Value)} {x : Int32} (hd : decode cc pc = .ok (.istore 4, 2)) (hok : la_ok (x0 :: x1 :: x2 :: x3 :: y :: t) 4 = true) (kk : la_At ω κ n (pc + 2) (x0 :: x1 :: x2 :: x3 :: some (.int x) :: t) st ws) : la_At ω κ n pc (x0 :: x1 :: x2 :: x3 :: y :: t) (.int x :: st) ws := la_istore (k := 4) K hd (by show 4 < _; simp only [List.length_cons]; omega) hok kk
theorem la_astore4 (K : la_Cx ω κ cc nL own R0) {x0 x1 x2 x3 y : Option Value} {t : List (Option Value)} {x : Nat} (hd : decode cc pc = .ok (.astore 4, 2)) (hok : la_ok (x0 :: x1 :: x2 :: x3 :: y :: t) 4 = true) (kk : la_At ω κ n (pc + 2) (x0 :: x1 :: x2 :: x3 :: some (.ref x) :: t) st ws) : la_At ω κ n pc (x0 :: x1 :: x2 :: x3 :: y :: t) (.ref x :: st) ws := la_astore (k := 4) K hd (by show 4 < _; simp only [List.length_cons]; omega) hok kk
theorem la_iinc4 (K : la_Cx ω κ cc nL own R0) {x0 x1 x2 x3 : Option Value} {t : List (Option Value)} {z : Int} {x v : Int32} (hd : decode cc pc = .ok (.iinc 4 z, 3)) (hv : x + Int32.ofInt z = v) (hok : la_ok (x0 :: x1 :: x2 :: x3 :: some (.int x) :: t) 4 = true) (kk : la_At ω κ n (pc + 3) (x0 :: x1 :: x2 :: x3 :: some (.int v) :: t) st ws) : la_At ω κ n pc (x0 :: x1 :: x2 :: x3 :: some (.int x) :: t) st ws := la_iinc K (k := 4) hd rfl hv (by simp only [List.length_cons]; omega) hok kk
theorem la_lstore4 (K : la_Cx ω κ cc nL own R0) {x0 x1 x2 x3 y : Option Value} {t : List (Option Value)} {y2 : Option Value} {x : Int64} (hd : decode cc pc = .ok (.lstore 4, 2)) (hok : la_ok (x0 :: x1 :: x2 :: x3 :: y :: y2 :: t) 4 = true) (kk : la_At ω κ n (pc + 2) (x0 :: x1 :: x2 :: x3 :: some (.long x) :: none :: t) st ws) : la_At ω κ n pc (x0 :: x1 :: x2 :: x3 :: y :: y2 :: t) (.long x :: st) ws := la_lstore (k := 4) K hd (by show 4 + 1 < _; simp only [List.length_cons]; omega) hok kk
theorem la_istore5 (K : la_Cx ω κ cc nL own R0) {x0 x1 x2 x3 x4 y : Option Value} {t : List (Option Value)} {x : Int32} (hd : decode cc pc = .ok (.istore 5, 2)) (hok : la_ok (x0 :: x1 :: x2 :: x3 :: x4 :: y :: t) 5 = true) (kk : la_At ω κ n (pc + 2) (x0 :: x1 :: x2 :: x3 :: x4 :: some (.int x) :: t) st ws) : la_At ω κ n pc (x0 :: x1 :: x2 :: x3 :: x4 :: y :: t) (.int x :: st) ws := la_istore (k := 5) K hd (by show 5 < _; simp only [List.length_cons]; omega) hok kk
theorem la_astore5 (K : la_Cx ω κ cc nL own R0) {x0 x1 x2 x3 x4 y : Option Value} {t : List (Option Value)} {x : Nat} (hd : decode cc pc = .ok (.astore 5, 2)) (hok : la_ok (x0 :: x1 :: x2 :: x3 :: x4 :: y :: t) 5 = true) (kk : la_At ω κ n (pc + 2) (x0 :: x1 :: x2 :: x3 :: x4 :: some (.ref x) :: t) st ws) : la_At ω κ n pc (x0 :: x1 :: x2 :: x3 :: x4 :: y :: t) (.ref x :: st) ws := la_astore (k := 5) K hd (by show 5 < _; simp only [List.length_cons]; omega) hok kk
theorem la_iinc5 (K : la_Cx ω κ cc nL own R0) {x0 x1 x2 x3 x4 : Option Value} {t : List (Option Value)} {z : Int} {x v : Int32} (hd : decode cc pc = .ok (.iinc 5 z, 3)) (hv : x + Int32.ofInt z = v) (hok : la_ok (x0 :: x1 :: x2 :: x3 :: x4 :: some (.int x) :: t) 5 = true) (kk : la_At ω κ n (pc + 3) (x0 :: x1 :: x2 :: x3 :: x4 :: some (.int v) :: t) st ws) : la_At ω κ n pc (x0 :: x1 :: x2 :: x3 :: x4 :: some (.int x) :: t) st ws := la_iinc K (k := 5) hd rfl hv (by simp only [List.length_cons]; omega) hok kk
theorem la_lstore5 (K : la_Cx ω κ cc nL own R0) {x0 x1 x2 x3 x4 y : Option Value} {t : List (Option Value)} {y2 : Option Value} {x : Int64} (hd : decode cc pc = .ok (.lstore 5, 2)) (hok : la_ok (x0 :: x1 :: x2 :: x3 :: x4 :: y :: y2 :: t) 5 = true) (kk : la_At ω κ n (pc + 2) (x0 :: x1 :: x2 :: x3 :: x4 :: some (.long x) :: none :: t) st ws) : la_At ω κ n pc (x0 :: x1 :: x2 :: x3 :: x4 :: y :: y2 :: t) (.long x :: st) ws := la_lstore (k := 5) K hd (by show 5 + 1 < _; simp only [List.length_cons]; omega) hok kk
theorem la_istore6 (K : la_Cx ω κ cc nL own R0) {x0 x1 x2 x3 x4 x5 y : Option Value} {t : List (Option Value)} {x : Int32} (hd : decode cc pc = .ok (.istore 6, 2)) (hok : la_ok (x0 :: x1 :: x2 :: x3 :: x4 :: x5 :: y :: t) 6 = true) (kk : la_At ω κ n (pc + 2) (x0 :: x1 :: x2 :: x3 :: x4 :: x5 :: some (.int x) :: t) st ws) : la_At ω κ n pc (x0 :: x1 :: x2 :: x3 :: x4 :: x5 :: y :: t) (.int x :: st) ws := la_istore (k := 6) K hd (by show 6 < _; simp only [List.length_cons]; omega) hok kk
theorem la_astore6 (K : la_Cx ω κ cc nL own R0) {x0 x1 x2 x3 x4 x5 y : Option Value} {t : List (Option Value)} {x : Nat} (hd : decode cc pc = .ok (.astore 6, 2)) (hok : la_ok (x0 :: x1 :: x2 :: x3 :: x4 :: x5 :: y :: t) 6 = true) (kk : la_At ω κ n (pc + 2) (x0 :: x1 :: x2 :: x3 :: x4 :: x5 :: some (.ref x) :: t) st ws) : la_At ω κ n pc (x0 :: x1 :: x2 :: x3 :: x4 :: x5 :: y :: t) (.ref x :: st) ws := la_astore (k := 6) K hd (by show 6 < _; simp only [List.length_cons]; omega) hok kk
theorem la_iinc6 (K : la_Cx ω κ cc nL own R0) {x0 x1 x2 x3 x4 x5 : Option Value} {t : List (Option Value)} {z : Int} {x v : Int32} (hd : decode cc pc = .ok (.iinc 6 z, 3)) (hv : x + Int32.ofInt z = v) (hok : la_ok (x0 :: x1 :: x2 :: x3 :: x4 :: x5 :: some (.int x) :: t) 6 = true) (kk : la_At ω κ n (pc + 3) (x0 :: x1 :: x2 :: x3 :: x4 :: x5 :: some (.int v) :: t) st ws) : la_At ω κ n pc (x0 :: x1 :: x2 :: x3 :: x4 :: x5 :: some (.int x) :: t) st ws := la_iinc K (k := 6) hd rfl hv (by simp only [List.length_cons]; omega) hok kk
theorem la_lstore6 (K : la_Cx ω κ cc nL own R0) {x0 x1 x2 x3 x4 x5 y : Option Value} {t : List (Option Value)} {y2 : Option Value} {x : Int64} (hd : decode cc pc = .ok (.lstore 6, 2)) (hok : la_ok (x0 :: x1 :: x2 :: x3 :: x4 :: x5 :: y :: y2 :: t) 6 = true) (kk : la_At ω κ n (pc + 2) (x0 :: x1 :: x2 :: x3 :: x4 :: x5 :: some (.long x) :: none :: t) st ws) : la_At ω κ n pc (x0 :: x1 :: x2 :: x3 :: x4 :: x5 :: y :: y2 :: t) (.long x :: st) ws := la_lstore (k := 6) K hd (by show 6 + 1 < _; simp only [List.length_cons]; omega) hok kk
theorem la_istore7 (K : la_Cx ω κ cc nL own R0) {x0 x1 x2 x3 x4 x5 x6 y : Option Value} {t : List (Option Value)} {x : Int32} (hd : decode cc pc = .ok (.istore 7, 2)) (hok : la_ok (x0 :: x1 :: x2 :: x3 :: x4 :: x5 :: x6 :: y :: t) 7 = true) (kk : la_At ω κ n (pc + 2) (x0 :: x1 :: x2 :: x3 :: x4 :: x5 :: x6 :: some (.int x) :: t) st ws) : la_At ω κ n pc (x0 :: x1 :: x2 :: x3 :: x4 :: x5 :: x6 :: y :: t) (.int x :: st) ws := la_istore (k := 7) K hd (by show 7 < _; simp only [List.length_cons]; omega) hok kk
theorem la_astore7 (K : la_Cx ω κ cc nL own R0) {x0 x1 x2 x3 x4 x5 x6 y : Option Value} {t : List (Option Value)} {x : Nat} (hd : decode cc pc = .ok (.astore 7, 2)) (hok : la_ok (x0 :: x1 :: x2 :: x3 :: x4 :: x5 :: x6 :: y :: t) 7 = true) (kk : la_At ω κ n (pc + 2) (x0 :: x1 :: x2 :: x3 :: x4 :: x5 :: x6 :: some (.ref x) :: t) st ws) : la_At ω κ n pc (x0 :: x1 :: x2 :: x3 :: x4 :: x5 :: x6 :: y :: t) (.ref x :: st) ws := la_astore (k := 7) K hd (by show 7 < _; simp only [List.length_cons]; omega) hok kk
theorem la_iinc7 (K : la_Cx ω κ cc nL own R0) {x0 x1 x2 x3 x4 x5 x6 : Option Value} {t : List (Option Value)} {z : Int} {x v : Int32} (hd : decode cc pc = .ok (.iinc 7 z, 3)) (hv : x + Int32.ofInt z = v) (hok : la_ok (x0 :: x1 :: x2 :: x3 :: x4 :: x5 :: x6 :: some (.int x) :: t) 7 = true) (kk : la_At ω κ n (pc + 3) (x0 :: x1 :: x2 :: x3 :: x4 :: x5 :: x6 :: some (.int v) :: t) st ws) : la_At ω κ n pc (x0 :: x1 :: x2 :: x3 :: x4 :: x5 :: x6 :: some (.int x) :: t) st ws := la_iinc K (k := 7) hd rfl hv (by simp only [List.length_cons]; omega) hok kk
theorem la_lstore7 (K : la_Cx ω κ cc nL own R0) {x0 x1 x2 x3 x4 x5 x6 y : Option Value} {t : List (Option Value)} {y2 : Option Value} {x : Int64} (hd : decode cc pc = .ok (.lstore 7, 2)) (hok : la_ok (x0 :: x1 :: x2 :: x3 :: x4 :: x5 :: x6 :: y :: y2 :: t) 7 = true) (kk : la_At ω κ n (pc + 2) (x0 :: x1 :: x2 :: x3 :: x4 :: x5 :: x6 :: some (.long x) :: none :: t) st ws) : la_At ω κ n pc (x0 :: x1 :: x2 :: x3 :: x4 :: x5 :: x6 :: y :: y2 :: t) (.long x :: st) ws := la_lstore (k := 7) K hd (by show 7 + 1 < _; simp only [List.length_cons]; omega) hok kk
theorem la_istore8 (K : la_Cx ω κ cc nL own R0) {x0 x1 x2 x3 x4 x5 x6 x7 y : Option Value} {t : List (Option Value)} {x : Int32} (hd : decode cc pc = .ok (.istore 8, 2)) (hok : la_ok (x0 :: x1 :: x2 :: x3 :: x4 :: x5 :: x6 :: x7 :: y :: t) 8 = true) (kk : la_At ω κ n (pc + 2) (x0 :: x1 :: x2 :: x3 :: x4 :: x5 :: x6 :: x7 :: some (.int x) :: t) st ws) : la_At ω κ n pc (x0 :: x1 :: x2 :: x3 :: x4 :: x5 :: x6 :: x7 :: y :: t) (.int x :: st) ws := la_istore (k := 8) K hd (by show 8 < _; simp only [List.length_cons]; omega) hok kk
theorem la_astore8 (K : la_Cx ω κ cc nL own R0) {x0 x1 x2 x3 x4 x5 x6 x7 y : Option Value} {t : List (Option Value)} {x : Nat} (hd : decode cc pc = .ok (.astore 8, 2)) (hok : la_ok (x0 :: x1 :: x2 :: x3 :: x4 :: x5 :: x6 :: x7 :: y :: t) 8 = true) (kk : la_At ω κ n (pc + 2) (x0 :: x1 :: x2 :: x3 :: x4 :: x5 :: x6 :: x7 :: some (.ref x) :: t) st ws) : la_At ω κ n pc (x0 :: x1 :: x2 :: x3 :: x4 :: x5 :: x6 :: x7 :: y :: t) (.ref x :: st) ws := la_astore (k := 8) K hd (by show 8 < _; simp only [List.length_cons]; omega) hok kk
theorem la_iinc8 (K : la_Cx ω κ cc nL own R0) {x0 x1 x2 x3 x4 x5 x6 x7 : Option Value} {t : List (Option Value)} {z : Int} {x v : Int32} (hd : decode cc pc = .ok (.iinc 8 z, 3)) (hv : x + Int32.ofInt z = v) (hok : la_ok (x0 :: x1 :: x2 :: x3 :: x4 :: x5 :: x6 :: x7 :: some (.int x) :: t) 8 = true) (kk : la_At ω κ n (pc + 3) (x0 :: x1 :: x2 :: x3 :: x4 :: x5 :: x6 :: x7 :: some (.int v) :: t) st ws) : la_At ω κ n pc (x0 :: x1 :: x2 :: x3 :: x4 :: x5 :: x6 :: x7 :: some (.int x) :: t) st ws := la_iinc K (k := 8) hd rfl hv (by simp only [List.length_cons]; omega) hok kk
theorem la_lstore8 (K : la_Cx ω κ cc nL own R0) {x0 x1 x2 x3 x4 x5 x6 x7 y : Option Value} {t : List (Option Value)} {y2 : Option Value} {x : Int64} (hd : decode cc pc = .ok (.lstore 8, 2)) (hok : la_ok (x0 :: x1 :: x2 :: x3 :: x4 :: x5 :: x6 :: x7 :: y :: y2 :: t) 8 = true) (kk : la_At ω κ n (pc + 2) (x0 :: x1 :: x2 :: x3 :: x4 :: x5 :: x6 :: x7 :: some (.long x) :: none :: t) st ws) : la_At ω κ n pc (x0 :: x1 :: x2 :: x3 :: x4 :: x5 :: x6 :: x7 :: y :: y2 :: t) (.long x :: st) ws := la_lstore (k := 8) K hd (by show 8 + 1 < _; simp only [List.length_cons]; omega) hok kk
theorem la_istore9 (K : la_Cx ω κ cc nL own R0) {x0 x1 x2 x3 x4 x5 x6 x7 x8 y : Option Value} {t : List (Option Value)} {x : Int32} (hd : decode cc pc = .ok (.istore 9, 2)) (hok : la_ok (x0 :: x1 :: x2 :: x3 :: x4 :: x5 :: x6 :: x7 :: x8 :: y :: t) 9 = true) (kk : la_At ω κ n (pc + 2) (x0 :: x1 :: x2 :: x3 :: x4 :: x5 :: x6 :: x7 :: x8 :: some (.int x) :: t) st ws) : la_At ω κ n pc (x0 :: x1 :: x2 :: x3 :: x4 :: x5 :: x6 :: x7 :: x8 :: y :: t) (.int x :: st) ws := la_istore (k := 9) K hd (by show 9 < _; simp only [List.length_cons]; omega) hok kk
theorem la_astore9 (K : la_Cx ω κ cc nL own R0) {x0 x1 x2 x3 x4 x5 x6 x7 x8 y : Option Value} {t : List (Option Value)} {x : Nat} (hd : decode cc pc = .ok (.astore 9, 2)) (hok : la_ok (x0 :: x1 :: x2 :: x3 :: x4 :: x5 :: x6 :: x7 :: x8 :: y :: t) 9 = true) (kk : la_At ω κ n (pc + 2) (x0 :: x1 :: x2 :: x3 :: x4 :: x5 :: x6 :: x7 :: x8 :: some (.ref x) :: t) st ws) : la_At ω κ n pc (x0 :: x1 :: x2 :: x3 :: x4 :: x5 :: x6 :: x7 :: x8 :: y :: t) (.ref x :: st) ws := la_astore (k := 9) K hd (by show 9 < _; simp only [List.length_cons]; omega) hok kk
theorem la_iinc9 (K : la_Cx ω κ cc nL own R0) {x0 x1 x2 x3 x4 x5 x6 x7 x8 : Option Value} {t : List (Option Value)} {z : Int} {x v : Int32} (hd : decode cc pc = .ok (.iinc 9 z, 3)) (hv : x + Int32.ofInt z = v) (hok : la_ok (x0 :: x1 :: x2 :: x3 :: x4 :: x5 :: x6 :: x7 :: x8 :: some (.int x) :: t) 9 = true) (kk : la_At ω κ n (pc + 3) (x0 :: x1 :: x2 :: x3 :: x4 :: x5 :: x6 :: x7 :: x8 :: some (.int v) :: t) st ws) : la_At ω κ n pc (x0 :: x1 :: x2 :: x3 :: x4 :: x5 :: x6 :: x7 :: x8 :: some (.int x) :: t) st ws := la_iinc K (k := 9) hd rfl hv (by simp only [List.length_cons]; omega) hok kk
theorem la_lstore9 (K : la_Cx ω κ cc nL own R0) {x0 x1 x2 x3 x4 x5 x6 x7 x8 y : Option Value} {t : List (Option Value)} {y2 : Option Value} {x : Int64} (hd : decode cc pc = .ok (.lstore 9, 2)) (hok : la_ok (x0 :: x1 :: x2 :: x3 :: x4 :: x5 :: x6 :: x7 :: x8 :: y :: y2 :: t) 9 = true) (kk : la_At ω κ n (pc + 2) (x0 :: x1 :: x2 :: x3 :: x4 :: x5 :: x6 :: x7 :: x8 :: some (.long x) :: none :: t) st ws) : la_At ω κ n pc (x0 :: x1 :: x2 :: x3 :: x4 :: x5 :: x6 :: x7 :: x8 :: y :: y2 :: t) (.long x :: st) ws := la_lstore (k := 9) K hd (by show 9 + 1 < _; simp only [List.length_cons]; omega) hok kk
theorem la_istore10 (K : la_Cx ω κ cc nL own R0) {x0 x1 x2 x3 x4 x5 x6 x7 x8 x9 y : Option Value} {t : List (Option Value)} {x : Int32} (hd : decode cc pc = .ok (.istore 10, 2)) (hok : la_ok (x0 :: x1 :: x2 :: x3 :: x4 :: x5 :: x6 :: x7 :: x8 :: x9 :: y :: t) 10 = true) (kk : la_At ω κ n (pc + 2) (x0 :: x1 :: x2 :: x3 :: x4 :: x5 :: x6 :: x7 :: x8 :: x9 :: some (.int x) :: t) st ws) : la_At ω κ n pc (x0 :: x1 :: x2 :: x3 :: x4 :: x5 :: x6 :: x7 :: x8 :: x9 :: y :: t) (.int x :: st) ws := la_istore (k := 10) K hd (by show 10 < _; simp only [List.length_cons]; omega) hok kk
theorem la_astore10 (K : la_Cx ω κ cc nL own R0) {x0 x1 x2 x3 x4 x5 x6 x7 x8 x9 y : Option Value} {t : List (Option Value)} {x : Nat} (hd : decode cc pc = .ok (.astore 10, 2)) (hok : la_ok (x0 :: x1 :: x2 :: x3 :: x4 :: x5 :: x6 :: x7 :: x8 :: x9 :: y :: t) 10 = true) (kk : la_At ω κ n (pc + 2) (x0 :: x1 :: x2 :: x3 :: x4 :: x5 :: x6 :: x7 :: x8 :: x9 :: some (.ref x) :: t) st ws) : la_At ω κ n pc (x0 :: x1 :: x2 :: x3 :: x4 :: x5 :: x6 :: x7 :: x8 :: x9 :: y :: t) (.ref x :: st) ws := la_astore (k := 10) K hd (by show 10 < _; simp only [List.length_cons]; omega) hok kk
theorem la_iinc10 (K : la_Cx ω κ cc nL own R0) {x0 x1 x2 x3 x4 x5 x6 x7 x8 x9 : Option Value} {t : List (Option Value)} {z : Int} {x v : Int32} (hd : decode cc pc = .ok (.iinc 10 z, 3)) (hv : x + Int32.ofInt z = v) (hok : la_ok (x0 :: x1 :: x2 :: x3 :: x4 :: x5 :: x6 :: x7 :: x8 :: x9 :: some (.int x) :: t) 10 = true) (kk : la_At ω κ n (pc + 3) (x0 :: x1 :: x2 :: x3 :: x4 :: x5 :: x6 :: x7 :: x8 :: x9 :: some (.int v) :: t) st ws) : la_At ω κ n pc (x0 :: x1 :: x2 :: x3 :: x4 :: x5 :: x6 :: x7 :: x8 :: x9 :: some (.int x) :: t) st ws := la_iinc K (k := 10) hd rfl hv (by simp only [List.length_cons]; omega) hok kk
theorem la_lstore10 (K : la_Cx ω κ cc nL own R0) {x0 x1 x2 x3 x4 x5 x6 x7 x8 x9 y : Option Value} {t : List (Option Value)} {y2 : Option Value} {x : Int64} (hd : decode cc pc = .ok (.lstore 10, 2)) (hok : la_ok (x0 :: x1 :: x2 :: x3 :: x4 :: x5 :: x6 :: x7 :: x8 :: x9 :: y :: y2 :: t) 10 = true) (kk : la_At ω κ n (pc + 2) (x0 :: x1 :: x2 :: x3 :: x4 :: x5 :: x6 :: x7 :: x8 :: x9 :: some (.long x) :: none :: t) st ws) : la_At ω κ n pc (x0 :: x1 :: x2 :: x3 :: x4 :: x5 :: x6 :: x7 :: x8 :: x9 :: y :: y2 :: t) (.long x :: st) ws := la_lstore (k := 10) K hd (by show 10 + 1 < _; simp only [List.length_cons]; omega) hok kk
theorem la_istore11 (K : la_Cx ω κ cc nL own R0) {x0 x1 x2 x3 x4 x5 x6 x7 x8 x9 x10 y : Option Value} {t : List (Option Value)} {x : Int32} (hd : decode cc pc = .ok (.istore 11, 2)) (hok : la_ok (x0 :: x1 :: x2 :: x3 :: x4 :: x5 :: x6 :: x7 :: x8 :: x9 :: x10 :: y :: t) 11 = true) (kk : la_At ω κ n (pc + 2) (x0 :: x1 :: x2 :: x3 :: x4 :: x5 :: x6 :: x7 :: x8 :: x9 :: x10 :: some (.int x) :: t) st ws) : la_At ω κ n pc (x0 :: x1 :: x2 :: x3 :: x4 :: x5 :: x6 :: x7 :: x8 :: x9 :: x10 :: y :: t) (.int x :: st) ws := la_istore (k := 11) K hd (by show 11 < _; simp only [List.length_cons]; omega) hok kk
theorem la_astore11 (K : la_Cx ω κ cc nL own R0) {x0 x1 x2 x3 x4 x5 x6 x7 x8 x9 x10 y : Option Value} {t : List (Option Value)} {x : Nat} (hd : decode cc pc = .ok (.astore 11, 2)) (hok : la_ok (x0 :: x1 :: x2 :: x3 :: x4 :: x5 :: x6 :: x7 :: x8 :: x9 :: x10 :: y :: t) 11 = true) (kk : la_At ω κ n (pc + 2) (x0 :: x1 :: x2 :: x3 :: x4 :: x5 :: x6 :: x7 :: x8 :: x9 :: x10 :: some (.ref x) :: t) st ws) : la_At ω κ n pc (x0 :: x1 :: x2 :: x3 :: x4 :: x5 :: x6 :: x7 :: x8 :: x9 :: x10 :: y :: t) (.ref x :: st) ws := la_astore (k := 11) K hd (by show 11 < _; simp only [List.length_cons]; omega) hok kk
theorem la_iinc11 (K : la_Cx ω κ cc nL own R0) {x0 x1 x2 x3 x4 x5 x6 x7 x8 x9 x10 : Option Value} {t : List (Option Value)} {z : Int} {x v : Int32} (hd : decode cc pc = .ok (.iinc 11 z, 3)) (hv : x + Int32.ofInt z = v) (hok : la_ok (x0 :: x1 :: x2 :: x3 :: x4 :: x5 :: x6 :: x7 :: x8 :: x9 :: x10 :: some (.int x) :: t) 11 = true) (kk : la_At ω κ n (pc + 3) (x0 :: x1 :: x2 :: x3 :: x4 :: x5 :: x6 :: x7 :: x8 :: x9 :: x10 :: some (.int v) :: t) st ws) : la_At ω κ n pc (x0 :: x1 :: x2 :: x3 :: x4 :: x5 :: x6 :: x7 :: x8 :: x9 :: x10 :: some (.int x) :: t) st ws := la_iinc K (k := 11) hd rfl hv (by simp only [List.length_cons]; omega) hok kk
theorem la_lstore11 (K : la_Cx ω κ cc nL own R0) {x0 x1 x2 x3 x4 x5 x6 x7 x8 x9 x10 y : Option Value} {t : List (Option Value)} {y2 : Option Value} {x : Int64} (hd : decode cc pc = .ok (.lstore 11, 2)) (hok : la_ok (x0 :: x1 :: x2 :: x3 :: x4 :: x5 :: x6 :: x7 :: x8 :: x9 :: x10 :: y :: y2 :: t) 11 = true) (kk : la_At ω κ n (pc + 2) (x0 :: x1 :: x2 :: x3 :: x4 :: x5 :: x6 :: x7 :: x8 :: x9 :: x10 :: some (.long x) :: none :: t) st ws) : la_At ω κ n pc (x0 :: x1 :: x2 :: x3 :: x4 :: x5 :: x6 :: x7 :: x8 :: x9 :: x10 :: y :: y2 :: t) (.long x :: st) ws := la_lstore (k := 11) K hd (by show 11 + 1 < _; simp only [List.length_cons]; omega) hok kk
theorem la_istore12 (K : la_Cx ω κ cc nL own R0) {x0 x1 x2 x3 x4 x5 x6 x7 x8 x9 x10 x11 y : Option Value} {t : List (Option Value)} {x : Int32} (hd : decode cc pc = .ok (.istore 12, 2)) (hok : la_ok (x0 :: x1 :: x2 :: x3 :: x4 :: x5 :: x6 :: x7 :: x8 :: x9 :: x10 :: x11 :: y :: t) 12 = true) (kk : la_At ω κ n (pc + 2) (x0 :: x1 :: x2 :: x3 :: x4 :: x5 :: x6 :: x7 :: x8 :: x9 :: x10 :: x11 :: some (.int x) :: t) st ws) : la_At ω κ n pc (x0 :: x1 :: x2 :: x3 :: x4 :: x5 :: x6 :: x7 :: x8 :: x9 :: x10 :: x11 :: y :: t) (.int x :: st) ws := la_istore (k := 12) K hd (by show 12 < _; simp only [List.length_cons]; omega) hok kk
theorem la_astore12 (K : la_Cx ω κ cc nL own R0) {x0 x1 x2 x3 x4 x5 x6 x7 x8 x9 x10 x11 y : Option Value} {t : List (Option Value)} {x : Nat} (hd : decode cc pc = .ok (.astore 12, 2)) (hok : la_ok (x0 :: x1 :: x2 :: x3 :: x4 :: x5 :: x6 :: x7 :: x8 :: x9 :: x10 :: x11 :: y :: t) 12 = true) (kk : la_At ω κ n (pc + 2) (x0 :: x1 :: x2 :: x3 :: x4 :: x5 :: x6 :: x7 :: x8 :: x9 :: x10 :: x11 :: some (.ref x) :: t) st ws) : la_At ω κ n pc (x0 :: x1 :: x2 :: x3 :: x4 :: x5 :: x6 :: x7 :: x8 :: x9 :: x10 :: x11 :: y :: t) (.ref x :: st) ws := la_astore (k := 12) K hd (by show 12 < _; simp only [List.length_cons]; omega) hok kk
theorem la_iinc12 (K : la_Cx ω κ cc nL own R0) {x0 x1 x2 x3 x4 x5 x6 x7 x8 x9 x10 x11 : Option Value} {t : List (Option Value)} {z : Int} {x v : Int32} (hd : decode cc pc = .ok (.iinc 12 z, 3)) (hv : x + Int32.ofInt z = v) (hok : la_ok (x0 :: x1 :: x2 :: x3 :: x4 :: x5 :: x6 :: x7 :: x8 :: x9 :: x10 :: x11 :: some (.int x) :: t) 12 = true) (kk : la_At ω κ n (pc + 3) (x0 :: x1 :: x2 :: x3 :: x4 :: x5 :: x6 :: x7 :: x8 :: x9 :: x10 :: x11 :: some (.int v) :: t) st ws) : la_At ω κ n pc (x0 :: x1 :: x2 :: x3 :: x4 :: x5 :: x6 :: x7 :: x8 :: x9 :: x10 :: x11 :: some (.int x) :: t) st ws := la_iinc K (k := 12) hd rfl hv (by simp only [List.length_cons]; omega) hok kk
theorem la_lstore12 (K : la_Cx ω κ cc nL own R0) {x0 x1 x2 x3 x4 x5 x6 x7 x8 x9 x10 x11 y : Option Value} {t : List (Option Value)} {y2 : Option Value} {x : Int64} (hd : decode cc pc = .ok (.lstore 12, 2)) (hok : la_ok (x0 :: x1 :: x2 :: x3 :: x4 :: x5 :: x6 :: x7 :: x8 :: x9 :: x10 :: x11 :: y :: y2 :: t) 12 = true) (kk : la_At ω κ n (pc + 2) (x0 :: x1 :: x2 :: x3 :: x4 :: x5 :: x6 :: x7 :: x8 :: x9 :: x10 :: x11 :: some (.long x) :: none :: t) st ws) : la_At ω κ n pc (x0 :: x1 :: x2 :: x3 :: x4 :: x5 :: x6 :: x7 :: x8 :: x9 :: x10 :: x11 :: y :: y2 :: t) (.long x :: st) ws := la_lstore (k := 12) K hd (by show 12 + 1 < _; simp only [List.length_cons]; omega) hok kk
theorem la_istore13 (K : la_Cx ω κ cc nL own R0) {x0 x1 x2 x3 x4 x5 x6 x7 x8 x9 x10 x11 x12 y : Option Value} {t : List (Option Value)} {x : Int32} (hd : decode cc pc = .ok (.istore 13, 2)) (hok : la_ok (x0 :: x1 :: x2 :: x3 :: x4 :: x5 :: x6 :: x7 :: x8 :: x9 :: x10 :: x11 :: x12 :: y :: t) 13 = true) (kk : la_At ω κ n (pc + 2) (x0 :: x1 :: x2 :: x3 :: x4 :: x5 :: x6 :: x7 :: x8 :: x9 :: x10 :: x11 :: x12 :: some (.int x) :: t) st ws) : la_At ω κ n pc (x0 :: x1 :: x2 :: x3 :: x4 :: x5 :: x6 :: x7 :: x8 :: x9 :: x10 :: x11 :: x12 :: y :: t) (.int x :: st) ws := la_istore (k := 13) K hd (by show 13 < _; simp only [List.length_cons]; omega) hok kk
theorem la_astore13 (K : la_Cx ω κ cc nL own R0) {x0 x1 x2 x3 x4 x5 x6 x7 x8 x9 x10 x11 x12 y : Option Value} {t : List (Option Value)} {x : Nat} (hd : decode cc pc = .ok (.astore 13, 2)) (hok : la_ok (x0 :: x1 :: x2 :: x3 :: x4 :: x5 :: x6 :: x7 :: x8 :: x9 :: x10 :: x11 :: x12 :: y :: t) 13 = true) (kk : la_At ω κ n (pc + 2) (x0 :: x1 :: x2 :: x3 :: x4 :: x5 :: x6 :: x7 :: x8 :: x9 :: x10 :: x11 :: x12 :: some (.ref x) :: t) st ws) : la_At ω κ n pc (x0 :: x1 :: x2 :: x3 :: x4 :: x5 :: x6 :: x7 :: x8 :: x9 :: x10 :: x11 :: x12 :: y :: t) (.ref x :: st) ws := la_astore (k := 13) K hd (by show 13 < _; simp only [List.length_cons]; omega) hok kk
theorem la_iinc13 (K : la_Cx ω κ cc nL own R0) {x0 x1 x2 x3 x4 x5 x6 x7 x8 x9 x10 x11 x12 : Option Value} {t : List (Option Value)} {z : Int} {x v : Int32} (hd : decode cc pc = .ok (.iinc 13 z, 3)) (hv : x + Int32.ofInt z = v) (hok : la_ok (x0 :: x1 :: x2 :: x3 :: x4 :: x5 :: x6 :: x7 :: x8 :: x9 :: x10 :: x11 :: x12 :: some (.int x) :: t) 13 = true) (kk : la_At ω κ n (pc + 3) (x0 :: x1 :: x2 :: x3 :: x4 :: x5 :: x6 :: x7 :: x8 :: x9 :: x10 :: x11 :: x12 :: some (.int v) :: t) st ws) : la_At ω κ n pc (x0 :: x1 :: x2 :: x3 :: x4 :: x5 :: x6 :: x7 :: x8 :: x9 :: x10 :: x11 :: x12 :: some (.int x) :: t) st ws := la_iinc K (k := 13) hd rfl hv (by simp only [List.length_cons]; omega) hok kk
theorem la_lstore13 (K : la_Cx ω κ cc nL own R0) {x0 x1 x2 x3 x4 x5 x6 x7 x8 x9 x10 x11 x12 y : Option Value} {t : List (Option Value)} {y2 : Option Value} {x : Int64} (hd : decode cc pc = .ok (.lstore 13, 2)) (hok : la_ok (x0 :: x1 :: x2 :: x3 :: x4 :: x5 :: x6 :: x7 :: x8 :: x9 :: x10 :: x11 :: x12 :: y :: y2 :: t) 13 = true) (kk : la_At ω κ n (pc + 2) (x0 :: x1 :: x2 :: x3 :: x4 :: x5 :: x6 :: x7 :: x8 :: x9 :: x10 :: x11 :: x12 :: some (.long x) :: none :: t) st ws) : la_At ω κ n pc (x0 :: x1 :: x2 :: x3 :: x4 :: x5 :: x6 :: x7 :: x8 :: x9 :: x10 :: x11 :: x12 :: y :: y2 :: t) (.long x :: st) ws := la_lstore (k := 13) K hd (by show 13 + 1 < _; simp only [List.length_cons]; omega) hok kk
theorem la_istore14 (K : la_Cx ω κ cc nL own R0) {x0 x1 x2 x3 x4 x5 x6 x7 x8 x9 x10 x11 x12 x13 y : Option Value} {t : List (Option Value)} {x : Int32} (hd : decode cc pc = .ok (.istore 14, 2)) (hok : la_ok (x0 :: x1 :: x2 :: x3 :: x4 :: x5 :: x6 :: x7 :: x8 :: x9 :: x10 :: x11 :: x12 :: x13 :: y :: t) 14 = true) (kk : la_At ω κ n (pc + 2) (x0 :: x1 :: x2 :: x3 :: x4 :: x5 :: x6 :: x7 :: x8 :: x9 :: x10 :: x11 :: x12 :: x13 :: some (.int x) :: t) st ws) : la_At ω κ n pc (x0 :: x1 :: x2 :: x3 :: x4 :: x5 :: x6 :: x7 :: x8 :: x9 :: x10 :: x11 :: x12 :: x13 :: y :: t) (.int x :: st) ws := la_istore (k := 14) K hd (by show 14 < _; simp only [List.length_cons]; omega) hok kk
theorem la_astore14 (K : la_Cx ω κ cc nL own R0) {x0 x1 x2 x3 x4 x5 x6 x7 x8 x9 x10 x11 x12 x13 y : Option Value} {t : List (Option Value)} {x : Nat} (hd : decode cc pc = .ok (.astore 14, 2)) (hok : la_ok (x0 :: x1 :: x2 :: x3 :: x4 :: x5 :: x6 :: x7 :: x8 :: x9 :: x10 :: x11 :: x12 :: x13 :: y :: t) 14 = true) (kk : la_At ω κ n (pc + 2) (x0 :: x1 :: x2 :: x3 :: x4 :: x5 :: x6 :: x7 :: x8 :: x9 :: x10 :: x11 :: x12 :: x13 :: some (.ref x) :: t) st ws) : la_At ω κ n pc (x0 :: x1 :: x2 :: x3 :: x4 :: x5 :: x6 :: x7 :: x8 :: x9 :: x10 :: x11 :: x12 :: x13 :: y :: t) (.ref x :: st) ws := la_astore (k := 14) K hd (by show 14 < _; simp only [List.length_cons]; omega) hok kk
theorem la_iinc14 (K : la_Cx ω κ cc nL own R0) {x0 x1 x2 x3 x4 x5 x6 x7 x8 x9 x10 x11 x12 x13 : Option Value} {t : List (Option Value)} {z : Int} {x v : Int32} (hd : decode cc pc = .ok (.iinc 14 z, 3)) (hv : x + Int32.ofInt z = v) (hok : la_ok (x0 :: x1 :: x2 :: x3 :: x4 :: x5 :: x6 :: x7 :: x8 :: x9 :: x10 :: x11 :: x12 :: x13 :: some (.int x) :: t) 14 = true) (kk : la_At ω κ n (pc + 3) (x0 :: x1 :: x2 :: x3 :: x4 :: x5 :: x6 :: x7 :: x8 :: x9 :: x10 :: x11 :: x12 :: x13 :: some (.int v) :: t) st ws) : la_At ω κ n pc (x0 :: x1 :: x2 :: x3 :: x4 :: x5 :: x6 :: x7 :: x8 :: x9 :: x10 :: x11 :: x12 :: x13 :: some (.int x) :: t) st ws := la_iinc K (k := 14) hd rfl hv (by simp only [List.length_cons]; omega) hok kk
theorem la_lstore14 (K : la_Cx ω κ cc nL own R0) {x0 x1 x2 x3 x4 x5 x6 x7 x8 x9 x10 x11 x12 x13 y : Option Value} {t : List (Option Value)} {y2 : Option Value} {x : Int64} (hd : decode cc pc = .ok (.lstore 14, 2)) (hok : la_ok (x0 :: x1 :: x2 :: x3 :: x4 :: x5 :: x6 :: x7 :: x8 :: x9 :: x10 :: x11 :: x12 :: x13 :: y :: y2 :: t) 14 = true) (kk : la_At ω κ n (pc + 2) (x0 :: x1 :: x2 :: x3 :: x4 :: x5 :: x6 :: x7 :: x8 :: x9 :: x10 :: x11 :: x12 :: x13 :: some (.long x) :: none :: t) st ws) : la_At ω κ n pc (x0 :: x1 :: x2 :: x3 :: x4 :: x5 :: x6 :: x7 :: x8 :: x9 :: x10 :: x11 :: x12 :: x13 :: y :: y2 :: t) (.long x :: st) ws := la_lstore (k := 14) K hd (by show 14 + 1 < _; simp only [List.length_cons]; omega) hok kk
theorem la_istore15 (K : la_Cx ω κ cc nL own R0) {x0 x1 x2 x3 x4 x5 x6 x7 x8 x9 x10 x11 x12 x13 x14 y : Option Value} {t : List (Option Value)} {x : Int32} (hd : decode cc pc = .ok (.istore 15, 2)) (hok : la_ok (x0 :: x1 :: x2 :: x3 :: x4 :: x5 :: x6 :: x7 :: x8 :: x9 :: x10 :: x11 :: x12 :: x13 :: x14 :: y :: t) 15 = true) (kk : la_At ω κ n (pc + 2) (x0 :: x1 :: x2 :: x3 :: x4 :: x5 :: x6 :: x7 :: x8 :: x9 :: x10 :: x11 :: x12 :: x13 :: x14 :: some (.int x) :: t) st ws) : la_At ω κ n pc (x0 :: x1 :: x2 :: x3 :: x4 :: x5 :: x6 :: x7 :: x8 :: x9 :: x10 :: x11 :: x12 :: x13 :: x14 :: y :: t) (.int x :: st) ws := la_istore (k := 15) K hd (by show 15 < _; simp only [List.length_cons]; omega) hok kk
theorem la_astore15 (K : la_Cx ω κ cc nL own R0) {x0 x1 x2 x3 x4 x5 x6 x7 x8 x9 x10 x11 x12 x13 x14 y : Option Value} {t : List (Option Value)} {x : Nat} (hd : decode cc pc = .ok (.astore 15, 2)) (hok : la_ok (x0 :: x1 :: x2 :: x3 :: x4 :: x5 :: x6 :: x7 :: x8 :: x9 :: x10 :: x11 :: x12 :: x13 :: x14 :: y :: t) 15 = true) (kk : la_At ω κ n (pc + 2) (x0 :: x1 :: x2 :: x3 :: x4 :: x5 :: x6 :: x7 :: x8 :: x9 :: x10 :: x11 :: x12 :: x13 :: x14 :: some (.ref x) :: t) st ws) : la_At ω κ n pc (x0 :: x1 :: x2 :: x3 :: x4 :: x5 :: x6 :: x7 :: x8 :: x9 :: x10 :: x11 :: x12 :: x13 :: x14 :: y :: t) (.ref x :: st) ws := la_astore (k := 15) K hd (by show 15 < _; simp only [List.length_cons]; omega) hok kk
theorem la_iinc15 (K : la_Cx ω κ cc nL own R0) {x0 x1 x2 x3 x4 x5 x6 x7 x8 x9 x10 x11 x12 x13 x14 : Option Value} {t : List (Option Value)} {z : Int} {x v : Int32} (hd : decode cc pc = .ok (.iinc 15 z, 3)) (hv : x + Int32.ofInt z = v) (hok : la_ok (x0 :: x1 :: x2 :: x3 :: x4 :: x5 :: x6 :: x7 :: x8 :: x9 :: x10 :: x11 :: x12 :: x13 :: x14 :: some (.int x) :: t) 15 = true) (kk : la_At ω κ n (pc + 3) (x0 :: x1 :: x2 :: x3 :: x4 :: x5 :: x6 :: x7 :: x8 :: x9 :: x10 :: x11 :: x12 :: x13 :: x14 :: some (.int v) :: t) st ws) : la_At ω κ n pc (x0 :: x1 :: x2 :: x3 :: x4 :: x5 :: x6 :: x7 :: x8 :: x9 :: x10 :: x11 :: x12 :: x13 :: x14 :: some (.int x) :: t) st ws := la_iinc K (k := 15) hd rfl hv (by simp only [List.length_cons]; omega) hok kk
theorem la_lstore15 (K : la_Cx ω κ cc nL own R0) {x0 x1 x2 x3 x4 x5 x6 x7 x8 x9 x10 x11 x12 x13 x14 y : Option Value} {t : List (Option Value)} {y2 : Option Value} {x : Int64} (hd : decode cc pc = .ok (.lstore 15, 2)) (hok : la_ok (x0 :: x1 :: x2 :: x3 :: x4 :: x5 :: x6 :: x7 :: x8 :: x9 :: x10 :: x11 :: x12 :: x13 :: x14 :: y :: y2 :: t) 15 = true) (kk : la_At ω κ n (pc + 2) (x0 :: x1 :: x2 :: x3 :: x4 :: x5 :: x6 :: x7 :: x8 :: x9 :: x10 :: x11 :: x12 :: x13 :: x14 :: some (.long x) :: none :: t) st ws) : la_At ω κ n pc (x0 :: x1 :: x2 :: x3 :: x4 :: x5 :: x6 :: x7 :: x8 :: x9 :: x10 :: x11 :: x12 :: x13 :: x14 :: y :: y2 :: t) (.long x :: st) ws := la_lstore (k := 15) K hd (by show 15 + 1 < _; simp only [List.length_cons]; omega) hok kk
theorem la_istore16 (K : la_Cx ω κ cc nL own R0) {x0 x1 x2 x3 x4 x5 x6 x7 x8 x9 x10 x11 x12 x13 x14 x15 y : Option Value} {t : List (Option Value)} {x : Int32} (hd : decode cc pc = .ok (.istore 16, 2)) (hok : la_ok (x0 :: x1 :: x2 :: x3 :: x4 :: x5 :: x6 :: x7 :: x8 :: x9 :: x10 :: x11 :: x12 :: x13 :: x14 :: x15 :: y :: t) 16 = true) (kk : la_At ω κ n (pc + 2) (x0 :: x1 :: x2 :: x3 :: x4 :: x5 :: x6 :: x7 :: x8 :: x9 :: x10 :: x11 :: x12 :: x13 :: x14 :: x15 :: some (.int x) :: t) st ws) : la_At ω κ n pc (x0 :: x1 :: x2 :: x3 :: x4 :: x5 :: x6 :: x7 :: x8 :: x9 :: x10 :: x11 :: x12 :: x13 :: x14 :: x15 :: y :: t) (.int x :: st) ws := la_istore (k := 16) K hd (by show 16 < _; simp only [List.length_cons]; omega) hok kk
theorem la_astore16 (K : la_Cx ω κ cc nL own R0) {x0 x1 x2 x3 x4 x5 x6 x7 x8 x9 x10 x11 x12 x13 x14 x15 y : Option Value} {t : List (Option Value)} {x : Nat} (hd : decode cc pc = .ok (.astore 16, 2)) (hok : la_ok (x0 :: x1 :: x2 :: x3 :: x4 :: x5 :: x6 :: x7 :: x8 :: x9 :: x10 :: x11 :: x12 :: x13 :: x14 :: x15 :: y :: t) 16 = true) (kk : la_At ω κ n (pc + 2) (x0 :: x1 :: x2 :: x3 :: x4 :: x5 :: x6 :: x7 :: x8 :: x9 :: x10 :: x11 :: x12 :: x13 :: x14 :: x15 :: some (.ref x) :: t) st ws) : la_At ω κ n pc (x0 :: x1 :: x2 :: x3 :: x4 :: x5 :: x6 :: x7 :: x8 :: x9 :: x10 :: x11 :: x12 :: x13 :: x14 :: x15 :: y :: t) (.ref x :: st) ws := la_astore (k := 16) K hd (by show 16 < _; simp only [List.length_cons]; omega) hok kk
theorem la_iinc16 (K : la_Cx ω κ cc nL own R0) {x0 x1 x2 x3 x4 x5 x6 x7 x8 x9 x10 x11 x12 x13 x14 x15 : Option Value} {t : List (Option Value)} {z : Int} {x v : Int32} (hd : decode cc pc = .ok (.iinc 16 z, 3)) (hv : x + Int32.ofInt z = v) (hok : la_ok (x0 :: x1 :: x2 :: x3 :: x4 :: x5 :: x6 :: x7 :: x8 :: x9 :: x10 :: x11 :: x12 :: x13 :: x14 :: x15 :: some (.int x) :: t) 16 = true) (kk : la_At ω κ n (pc + 3) (x0 :: x1 :: x2 :: x3 :: x4 :: x5 :: x6 :: x7 :: x8 :: x9 :: x10 :: x11 :: x12 :: x13 :: x14 :: x15 :: some (.int v) :: t) st ws) : la_At ω κ n pc (x0 :: x1 :: x2 :: x3 :: x4 :: x5 :: x6 :: x7 :: x8 :: x9 :: x10 :: x11 :: x12 :: x13 :: x14 :: x15 :: some (.int x) :: t) st ws := la_iinc K (k := 16) hd rfl hv (by simp only [List.length_cons]; omega) hok kk
theorem la_lstore16 (K : la_Cx ω κ cc nL own R0) {x0 x1 x2 x3 x4 x5 x6 x7 x8 x9 x10 x11 x12 x13 x14 x15 y : Option Value} {t : List (Option Value)} {y2 : Option Value} {x : Int64} (hd : decode cc pc = .ok (.lstore 16, 2)) (hok : la_ok (x0 :: x1 :: x2 :: x3 :: x4 :: x5 :: x6 :: x7 :: x8 :: x9 :: x10 :: x11 :: x12 :: x13 :: x14 :: x15 :: y :: y2 :: t) 16 = true) (kk : la_At ω κ n (pc + 2) (x0 :: x1 :: x2 :: x3 :: x4 :: x5 :: x6 :: x7 :: x8 :: x9 :: x10 :: x11 :: x12 :: x13 :: x14 :: x15 :: some (.long x) :: none :: t) st ws) : la_At ω κ n pc (x0 :: x1 :: x2 :: x3 :: x4 :: x5 :: x6 :: x7 :: x8 :: x9 :: x10 :: x11 :: x12 :: x13 :: x14 :: x15 :: y :: y2 :: t) (.long x :: st) ws := la_lstore (k := 16) K hd (by show 16 + 1 < _; simp only [List.length_cons]; omega) hok kk
theorem la_istore17 (K : la_Cx ω κ cc nL own R0) {x0 x1 x2 x3 x4 x5 x6 x7 x8 x9 x10 x11 x12 x13 x14 x15 x16 y : Option Value} {t : List (Option Value)} {x : Int32} (hd : decode cc pc = .ok (.istore 17, 2)) (hok : la_ok (x0 :: x1 :: x2 :: x3 :: x4 :: x5 :: x6 :: x7 :: x8 :: x9 :: x10 :: x11 :: x12 :: x13 :: x14 :: x15 :: x16 :: y :: t) 17 = true) (kk : la_At ω κ n (pc + 2) (x0 :: x1 :: x2 :: x3 :: x4 :: x5 :: x6 :: x7 :: x8 :: x9 :: x10 :: x11 :: x12 :: x13 :: x14 :: x15 :: x16 :: some (.int x) :: t) st ws) : la_At ω κ n pc (x0 :: x1 :: x2 :: x3 :: x4 :: x5 :: x6 :: x7 :: x8 :: x9 :: x10 :: x11 :: x12 :: x13 :: x14 :: x15 :: x16 :: y :: t) (.int x :: st) ws := la_istore (k := 17) K hd (by show 17 < _; simp only [List.length_cons]; omega) hok kk
theorem la_astore17 (K : la_Cx ω κ cc nL own R0) {x0 x1 x2 x3 x4 x5 x6 x7 x8 x9 x10 x11 x12 x13 x14 x15 x16 y : Option Value} {t : List (Option Value)} {x : Nat} (hd : decode cc pc = .ok (.astore 17, 2)) (hok : la_ok (x0 :: x1 :: x2 :: x3 :: x4 :: x5 :: x6 :: x7 :: x8 :: x9 :: x10 :: x11 :: x12 :: x13 :: x14 :: x15 :: x16 :: y :: t) 17 = true) (kk : la_At ω κ n (pc + 2) (x0 :: x1 :: x2 :: x3 :: x4 :: x5 :: x6 :: x7 :: x8 :: x9 :: x10 :: x11 :: x12 :: x13 :: x14 :: x15 :: x16 :: some (.ref x) :: t) st ws) : la_At ω κ n pc (x0 :: x1 :: x2 :: x3 :: x4 :: x5 :: x6 :: x7 :: x8 :: x9 :: x10 :: x11 :: x12 :: x13 :: x14 :: x15 :: x16 :: y :: t) (.ref x :: st) ws := la_astore (k := 17) K hd (by show 17 < _; simp only [List.length_cons]; omega) hok kk
theorem la_iinc17 (K : la_Cx ω κ cc nL own R0) {x0 x1 x2 x3 x4 x5 x6 x7 x8 x9 x10 x11 x12 x13 x14 x15 x16 : Option Value} {t : List (Option Value)} {z : Int} {x v : Int32} (hd : decode cc pc = .ok (.iinc 17 z, 3)) (hv : x + Int32.ofInt z = v) (hok : la_ok (x0 :: x1 :: x2 :: x3 :: x4 :: x5 :: x6 :: x7 :: x8 :: x9 :: x10 :: x11 :: x12 :: x13 :: x14 :: x15 :: x16 :: some (.int x) :: t) 17 = true) (kk : la_At ω κ n (pc + 3) (x0 :: x1 :: x2 :: x3 :: x4 :: x5 :: x6 :: x7 :: x8 :: x9 :: x10 :: x11 :: x12 :: x13 :: x14 :: x15 :: x16 :: some (.int v) :: t) st ws) : la_At ω κ n pc (x0 :: x1 :: x2 :: x3 :: x4 :: x5 :: x6 :: x7 :: x8 :: x9 :: x10 :: x11 :: x12 :: x13 :: x14 :: x15 :: x16 :: some (.int x) :: t) st ws := la_iinc K (k := 17) hd rfl hv (by simp only [List.length_cons]; omega) hok kk
theorem la_lstore17 (K : la_Cx ω κ cc nL own R0) {x0 x1 x2 x3 x4 x5 x6 x7 x8 x9 x10 x11 x12 x13 x14 x15 x16 y : Option Value} {t : List (Option Value)} {y2 : Option Value} {x : Int64} (hd : decode cc pc = .ok (.lstore 17, 2)) (hok : la_ok (x0 :: x1 :: x2 :: x3 :: x4 :: x5 :: x6 :: x7 :: x8 :: x9 :: x10 :: x11 :: x12 :: x13 :: x14 :: x15 :: x16 :: y :: y2 :: t) 17 = true) (kk : la_At ω κ n (pc + 2) (x0 :: x1 :: x2 :: x3 :: x4 :: x5 :: x6 :: x7 :: x8 :: x9 :: x10 :: x11 :: x12 :: x13 :: x14 :: x15 :: x16 :: some (.long x) :: none :: t) st ws) : la_At ω κ n pc (x0 :: x1 :: x2 :: x3 :: x4 :: x5 :: x6 :: x7 :: x8 :: x9 :: x10 :: x11 :: x12 :: x13 :: x14 :: x15 :: x16 :: y :: y2 :: t) (.long x :: st) ws := la_lstore (k := 17) K hd (by show 17 + 1 < _; simp only [List.length_cons]; omega) hok kk
theorem la_istore18 (K : la_Cx ω κ cc nL own R0) {x0 x1 x2 x3 x4 x5 x6 x7 x8 x9 x10 x11 x12 x13 x14 x15 x16 x17 y : Option Value} {t : List (Option Value)} {x : Int32} (hd : decode cc pc = .ok (.istore 18, 2)) (hok : la_ok (x0 :: x1 :: x2 :: x3 :: x4 :: x5 :: x6 :: x7 :: x8 :: x9 :: x10 :: x11 :: x12 :: x13 :: x14 :: x15 :: x16 :: x17 :: y :: t) 18 = true) (kk : la_At ω κ n (pc + 2) (x0 :: x1 :: x2 :: x3 :: x4 :: x5 :: x6 :: x7 :: x8 :: x9 :: x10 :: x11 :: x12 :: x13 :: x14 :: x15 :: x16 :: x17 :: some (.int x) :: t) st ws) : la_At ω κ n pc (x0 :: x1 :: x2 :: x3 :: x4 :: x5 :: x6 :: x7 :: x8 :: x9 :: x10 :: x11 :: x12 :: x13 :: x14 :: x15 :: x16 :: x17 :: y :: t) (.int x :: st) ws := la_istore (k := 18) K hd (by show 18 < _; simp only [List.length_cons]; omega) hok kk
theorem la_astore18 (K : la_Cx ω κ cc nL own R0) {x0 x1 x2 x3 x4 x5 x6 x7 x8 x9 x10 x11 x12 x13 x14 x15 x16 x17 y : Option Value} {t : List (Option Value)} {x : Nat} (hd : decode cc pc = .ok (.astore 18, 2)) (hok : la_ok (x0 :: x1 :: x2 :: x3 :: x4 :: x5 :: x6 :: x7 :: x8 :: x9 :: x10 :: x11 :: x12 :: x13 :: x14 :: x15 :: x16 :: x17 :: y :: t) 18 = true) (kk : la_At ω κ n (pc + 2) (x0 :: x1 :: x2 :: x3 :: x4 :: x5 :: x6 :: x7 :: x8 :: x9 :: x10 :: x11 :: x12 :: x13 :: x14 :: x15 :: x16 :: x17 :: some (.ref x) :: t) st ws) : la_At ω κ n pc (x0 :: x1 :: x2 :: x3 :: x4 :: x5 :: x6 :: x7 :: x8 :: x9 :: x10 :: x11 :: x12 :: x13 :: x14 :: x15 :: x16 :: x17 :: y :: t) (.ref x :: st) ws := la_astore (k := 18) K hd (by show 18 < _; simp only [List.length_cons]; omega) hok kk
theorem la_iinc18 (K : la_Cx ω κ cc nL own R0) {x0 x1 x2 x3 x4 x5 x6 x7 x8 x9 x10 x11 x12 x13 x14 x15 x16 x17 : Option Value} {t : List (Option Value)} {z : Int} {x v : Int32} (hd : decode cc pc = .ok (.iinc 18 z, 3)) (hv : x + Int32.ofInt z = v) (hok : la_ok (x0 :: x1 :: x2 :: x3 :: x4 :: x5 :: x6 :: x7 :: x8 :: x9 :: x10 :: x11 :: x12 :: x13 :: x14 :: x15 :: x16 :: x17 :: some (.int x) :: t) 18 = true) (kk : la_At ω κ n (pc + 3) (x0 :: x1 :: x2 :: x3 :: x4 :: x5 :: x6 :: x7 :: x8 :: x9 :: x10 :: x11 :: x12 :: x13 :: x14 :: x15 :: x16 :: x17 :: some (.int v) :: t) st ws) : la_At ω κ n pc (x0 :: x1 :: x2 :: x3 :: x4 :: x5 :: x6 :: x7 :: x8 :: x9 :: x10 :: x11 :: x12 :: x13 :: x14 :: x15 :: x16 :: x17 :: some (.int x) :: t) st ws := la_iinc K (k := 18) hd rfl hv (by simp only [List.length_cons]; omega) hok kk
theorem la_lstore18 (K : la_Cx ω κ cc nL own R0) {x0 x1 x2 x3 x4 x5 x6 x7 x8 x9 x10 x11 x12 x13 x14 x15 x16 x17 y : Option Value} {t : List (Option Value)} {y2 : Option Value} {x : Int64} (hd : decode cc pc = .ok (.lstore 18, 2)) (hok : la_ok (x0 :: x1 :: x2 :: x3 :: x4 :: x5 :: x6 :: x7 :: x8 :: x9 :: x10 :: x11 :: x12 :: x13 :: x14 :: x15 :: x16 :: x17 :: y :: y2 :: t) 18 = true) (kk : la_At ω κ n (pc + 2) (x0 :: x1 :: x2 :: x3 :: x4 :: x5 :: x6 :: x7 :: x8 :: x9 :: x10 :: x11 :: x12 :: x13 :: x14 :: x15 :: x16 :: x17 :: some (.long x) :: none :: t) st ws) : la_At ω κ n pc (x0 :: x1 :: x2 :: x3 :: x4 :: x5 :: x6 :: x7 :: x8 :: x9 :: x10 :: x11 :: x12 :: x13 :: x14 :: x15 :: x16 :: x17 :: y :: y2 :: t) (.long x :: st) ws := la_lstore (k := 18) K hd (by show 18 + 1 < _; simp only [List.length_cons]; omega) hok kk
theorem la_iconst (K : la_Cx ω κ cc nL own R0) {z : Int} {v : Int32} (hd : decode cc pc = .ok (.iconst z, 1)) (hv : Int32.ofInt z = v) (kk : la_At ω κ n (pc + 1) lv (.int v :: st) ws) : la_At ω κ n pc lv st ws := by
  obtain ⟨hx, hb, hml, hown, hts, hK, hG, hA, hR, hlk⟩ := K
  intro H locs ls hP hD hS hl
  exact lv_iconst hx hb hd hv (kk H locs ls hP hD hS hl)
theorem la_bipush (K : la_Cx ω κ cc nL own R0) {z : Int} {v : Int32} (hd : decode cc pc = .ok (.bipush z, 2)) (hv : (Int8.ofInt z).toInt32 = v) (kk : la_At ω κ n (pc + 2) lv (.int v :: st) ws) : la_At ω κ n pc lv st ws := by
  obtain ⟨hx, hb, hml, hown, hts, hK, hG, hA, hR, hlk⟩ := K
  intro H locs ls hP hD hS hl
  exact lv_bipush hx hb hd hv (kk H locs ls hP hD hS hl)
theorem la_sipush (K : la_Cx ω κ cc nL own R0) {z : Int} {v : Int32} (hd : decode cc pc = .ok (.sipush z, 3)) (hv : (Int16.ofInt z).toInt32 = v) (kk : la_At ω κ n (pc + 3) lv (.int v :: st) ws) : la_At ω κ n pc lv st ws := by
  obtain ⟨hx, hb, hml, hown, hts, hK, hG, hA, hR, hlk⟩ := K
  intro H locs ls hP hD hS hl
  exact lv_sipush hx hb hd hv (kk H locs ls hP hD hS hl)
theorem la_lconst (K : la_Cx ω κ cc nL own R0) {z : Fin 2} {v : Int64} (hd : decode cc pc = .ok (.lconst z, 1)) (hv : Int64.ofNat (z : Nat) = v) (kk : la_At ω κ n (pc + 1) lv (.long v :: st) ws) : la_At ω κ n pc lv st ws := by
  obtain ⟨hx, hb, hml, hown, hts, hK, hG, hA, hR, hlk⟩ := K
  intro H locs ls hP hD hS hl
  exact lv_lconst hx hb hd hv (kk H locs ls hP hD hS hl)
theorem la_ldc (K : la_Cx ω κ cc nL own R0) {i : Nat} {v w : Int32} (hw : Cond.constant own i v ∈ lw_all) (hv : v = w) (hd : decode cc pc = .ok (.ldc i, 2)) (kk : la_At ω κ n (pc + 2) lv (.int w :: st) ws) : la_At ω κ n pc lv st ws := by
  obtain ⟨hx, hb, hml, hown, hts, hK, hG, hA, hR, hlk⟩ := K
  intro H locs ls hP hD hS hl
  subst hv
  exact lv_ldc hx hb hown (hts _ hw) hd (kk H locs ls hP hD hS hl)
theorem la_ldc2 (K : la_Cx ω κ cc nL own R0) {i : Nat} {v w : Int64} (hw : Cond.constantLong own i v ∈ lw_all) (hv : v = w) (hd : decode cc pc = .ok (.ldc2_w i, 3)) (kk : la_At ω κ n (pc + 3) lv (.long w :: st) ws) : la_At ω κ n pc lv st ws := by
  obtain ⟨hx, hb, hml, hown, hts, hK, hG, hA, hR, hlk⟩ := K
  intro H locs ls hP hD hS hl
  subst hv
  exact lv_ldc2 hx hb hown (hts _ hw) hd (kk H locs ls hP hD hS hl)
theorem la_null (K : la_Cx ω κ cc nL own R0) (hd : decode cc pc = .ok (.aconst_null, 1)) (kk : la_At ω κ n (pc + 1) lv (.null :: st) ws) : la_At ω κ n pc lv st ws := by
  obtain ⟨hx, hb, hml, hown, hts, hK, hG, hA, hR, hlk⟩ := K
  intro H locs ls hP hD hS hl
  exact lv_null hx hb hd (kk H locs ls hP hD hS hl)
theorem la_ki_m1 : Int32.ofInt (-1) = (-1) := by decide +kernel
theorem la_ki_0 : Int32.ofInt (0) = nI 0 := by decide +kernel
theorem la_ki_1 : Int32.ofInt (1) = nI 1 := by decide +kernel
theorem la_ki_2 : Int32.ofInt (2) = nI 2 := by decide +kernel
theorem la_ki_3 : Int32.ofInt (3) = nI 3 := by decide +kernel
theorem la_ki_4 : Int32.ofInt (4) = nI 4 := by decide +kernel
theorem la_ki_5 : Int32.ofInt (5) = nI 5 := by decide +kernel
theorem la_kb_m15 : (Int8.ofInt (-15)).toInt32 = (-15) := by decide +kernel
theorem la_kb_m13 : (Int8.ofInt (-13)).toInt32 = (-13) := by decide +kernel
theorem la_kb_m12 : (Int8.ofInt (-12)).toInt32 = (-12) := by decide +kernel
theorem la_kb_m11 : (Int8.ofInt (-11)).toInt32 = (-11) := by decide +kernel
theorem la_kb_m9 : (Int8.ofInt (-9)).toInt32 = (-9) := by decide +kernel
theorem la_kb_m3 : (Int8.ofInt (-3)).toInt32 = (-3) := by decide +kernel
theorem la_kb_m2 : (Int8.ofInt (-2)).toInt32 = (-2) := by decide +kernel
theorem la_kb_m1 : (Int8.ofInt (-1)).toInt32 = (-1) := by decide +kernel
theorem la_kb_6 : (Int8.ofInt (6)).toInt32 = nI 6 := by decide +kernel
theorem la_kb_7 : (Int8.ofInt (7)).toInt32 = nI 7 := by decide +kernel
theorem la_kb_8 : (Int8.ofInt (8)).toInt32 = nI 8 := by decide +kernel
theorem la_kb_10 : (Int8.ofInt (10)).toInt32 = nI 10 := by decide +kernel
theorem la_kb_12 : (Int8.ofInt (12)).toInt32 = nI 12 := by decide +kernel
theorem la_kb_13 : (Int8.ofInt (13)).toInt32 = nI 13 := by decide +kernel
theorem la_kb_15 : (Int8.ofInt (15)).toInt32 = nI 15 := by decide +kernel
theorem la_kb_31 : (Int8.ofInt (31)).toInt32 = nI 31 := by decide +kernel
theorem la_kb_32 : (Int8.ofInt (32)).toInt32 = nI 32 := by decide +kernel
theorem la_kb_36 : (Int8.ofInt (36)).toInt32 = nI 36 := by decide +kernel
theorem la_kb_96 : (Int8.ofInt (96)).toInt32 = nI 96 := by decide +kernel
theorem la_kb_100 : (Int8.ofInt (100)).toInt32 = nI 100 := by decide +kernel
theorem la_ks_512 : (Int16.ofInt (512)).toInt32 = nI 512 := by decide +kernel
theorem la_ks_1000 : (Int16.ofInt (1000)).toInt32 = nI 1000 := by decide +kernel
theorem la_ks_2048 : (Int16.ofInt (2048)).toInt32 = nI 2048 := by decide +kernel
theorem la_ks_6656 : (Int16.ofInt (6656)).toInt32 = nI 6656 := by decide +kernel
theorem la_kl_1000000 : (1000000 : Int32) = nI 1000000 := by decide +kernel
theorem la_kl_2000000 : (2000000 : Int32) = nI 2000000 := by decide +kernel
theorem la_kl_100000000 : (100000000 : Int32) = nI 100000000 := by decide +kernel
theorem la_kl_m1000000 : (-1000000 : Int32) = -nI 1000000 := by decide +kernel
theorem la_iadd (K : la_Cx ω κ cc nL own R0) {x y : Int32} (hd : decode cc pc = .ok (.iadd, 1)) (kk : la_At ω κ n (pc + 1) lv (.int (x + y) :: st) ws) : la_At ω κ n pc lv (.int y :: .int x :: st) ws := by
  obtain ⟨hx, hb, hml, hown, hts, hK, hG, hA, hR, hlk⟩ := K
  intro H locs ls hP hD hS hl
  exact lv_iadd hx hb hd (kk H locs ls hP hD hS hl)
theorem la_isub (K : la_Cx ω κ cc nL own R0) {x y : Int32} (hd : decode cc pc = .ok (.isub, 1)) (kk : la_At ω κ n (pc + 1) lv (.int (x - y) :: st) ws) : la_At ω κ n pc lv (.int y :: .int x :: st) ws := by
  obtain ⟨hx, hb, hml, hown, hts, hK, hG, hA, hR, hlk⟩ := K
  intro H locs ls hP hD hS hl
  exact lv_isub hx hb hd (kk H locs ls hP hD hS hl)
theorem la_imul (K : la_Cx ω κ cc nL own R0) {x y : Int32} (hd : decode cc pc = .ok (.imul, 1)) (kk : la_At ω κ n (pc + 1) lv (.int (x * y) :: st) ws) : la_At ω κ n pc lv (.int y :: .int x :: st) ws := by
  obtain ⟨hx, hb, hml, hown, hts, hK, hG, hA, hR, hlk⟩ := K
  intro H locs ls hP hD hS hl
  exact lv_imul hx hb hd (kk H locs ls hP hD hS hl)
theorem la_iand (K : la_Cx ω κ cc nL own R0) {x y : Int32} (hd : decode cc pc = .ok (.iand, 1)) (kk : la_At ω κ n (pc + 1) lv (.int (x &&& y) :: st) ws) : la_At ω κ n pc lv (.int y :: .int x :: st) ws := by
  obtain ⟨hx, hb, hml, hown, hts, hK, hG, hA, hR, hlk⟩ := K
  intro H locs ls hP hD hS hl
  exact lv_iand hx hb hd (kk H locs ls hP hD hS hl)
theorem la_ior (K : la_Cx ω κ cc nL own R0) {x y : Int32} (hd : decode cc pc = .ok (.ior, 1)) (kk : la_At ω κ n (pc + 1) lv (.int (x ||| y) :: st) ws) : la_At ω κ n pc lv (.int y :: .int x :: st) ws := by
  obtain ⟨hx, hb, hml, hown, hts, hK, hG, hA, hR, hlk⟩ := K
  intro H locs ls hP hD hS hl
  exact lv_ior hx hb hd (kk H locs ls hP hD hS hl)
theorem la_ixor (K : la_Cx ω κ cc nL own R0) {x y : Int32} (hd : decode cc pc = .ok (.ixor, 1)) (kk : la_At ω κ n (pc + 1) lv (.int (x ^^^ y) :: st) ws) : la_At ω κ n pc lv (.int y :: .int x :: st) ws := by
  obtain ⟨hx, hb, hml, hown, hts, hK, hG, hA, hR, hlk⟩ := K
  intro H locs ls hP hD hS hl
  exact lv_ixor hx hb hd (kk H locs ls hP hD hS hl)
theorem la_ishl (K : la_Cx ω κ cc nL own R0) {x y : Int32} (hd : decode cc pc = .ok (.ishl, 1)) (kk : la_At ω κ n (pc + 1) lv (.int (x <<< (y &&& 31)) :: st) ws) : la_At ω κ n pc lv (.int y :: .int x :: st) ws := by
  obtain ⟨hx, hb, hml, hown, hts, hK, hG, hA, hR, hlk⟩ := K
  intro H locs ls hP hD hS hl
  exact lv_ishl hx hb hd (kk H locs ls hP hD hS hl)
theorem la_ishr (K : la_Cx ω κ cc nL own R0) {x y : Int32} (hd : decode cc pc = .ok (.ishr, 1)) (kk : la_At ω κ n (pc + 1) lv (.int (x >>> (y &&& 31)) :: st) ws) : la_At ω κ n pc lv (.int y :: .int x :: st) ws := by
  obtain ⟨hx, hb, hml, hown, hts, hK, hG, hA, hR, hlk⟩ := K
  intro H locs ls hP hD hS hl
  exact lv_ishr hx hb hd (kk H locs ls hP hD hS hl)
theorem la_idiv (K : la_Cx ω κ cc nL own R0) {x y : Int32} (hd : decode cc pc = .ok (.idiv, 1)) (hne : ¬ y = 0) (kk : la_At ω κ n (pc + 1) lv (.int (x / y) :: st) ws) : la_At ω κ n pc lv (.int y :: .int x :: st) ws := by
  obtain ⟨hx, hb, hml, hown, hts, hK, hG, hA, hR, hlk⟩ := K
  intro H locs ls hP hD hS hl
  exact lv_idiv hx hb hd hne (kk H locs ls hP hD hS hl)
theorem la_irem (K : la_Cx ω κ cc nL own R0) {x y : Int32} (hd : decode cc pc = .ok (.irem, 1)) (hne : ¬ y = 0) (kk : la_At ω κ n (pc + 1) lv (.int (x - x / y * y) :: st) ws) : la_At ω κ n pc lv (.int y :: .int x :: st) ws := by
  obtain ⟨hx, hb, hml, hown, hts, hK, hG, hA, hR, hlk⟩ := K
  intro H locs ls hP hD hS hl
  exact lv_irem hx hb hd hne (kk H locs ls hP hD hS hl)
theorem la_ladd (K : la_Cx ω κ cc nL own R0) {x y : Int64} (hd : decode cc pc = .ok (.ladd, 1)) (kk : la_At ω κ n (pc + 1) lv (.long (x + y) :: st) ws) : la_At ω κ n pc lv (.long y :: .long x :: st) ws := by
  obtain ⟨hx, hb, hml, hown, hts, hK, hG, hA, hR, hlk⟩ := K
  intro H locs ls hP hD hS hl
  exact lv_ladd hx hb hd (kk H locs ls hP hD hS hl)
theorem la_land (K : la_Cx ω κ cc nL own R0) {x y : Int64} (hd : decode cc pc = .ok (.land, 1)) (kk : la_At ω κ n (pc + 1) lv (.long (x &&& y) :: st) ws) : la_At ω κ n pc lv (.long y :: .long x :: st) ws := by
  obtain ⟨hx, hb, hml, hown, hts, hK, hG, hA, hR, hlk⟩ := K
  intro H locs ls hP hD hS hl
  exact lv_land hx hb hd (kk H locs ls hP hD hS hl)
theorem la_lor (K : la_Cx ω κ cc nL own R0) {x y : Int64} (hd : decode cc pc = .ok (.lor, 1)) (kk : la_At ω κ n (pc + 1) lv (.long (x ||| y) :: st) ws) : la_At ω κ n pc lv (.long y :: .long x :: st) ws := by
  obtain ⟨hx, hb, hml, hown, hts, hK, hG, hA, hR, hlk⟩ := K
  intro H locs ls hP hD hS hl
  exact lv_lor hx hb hd (kk H locs ls hP hD hS hl)
theorem la_lshl (K : la_Cx ω κ cc nL own R0) {x v : Int64} {y : Int32} (hd : decode cc pc = .ok (.lshl, 1)) (hv : x <<< (y.toInt64 &&& 63) = v) (kk : la_At ω κ n (pc + 1) lv (.long v :: st) ws) : la_At ω κ n pc lv (.int y :: .long x :: st) ws := by
  obtain ⟨hx, hb, hml, hown, hts, hK, hG, hA, hR, hlk⟩ := K
  intro H locs ls hP hD hS hl
  exact lv_lshl hx hb hd hv (kk H locs ls hP hD hS hl)
theorem la_lcmp (K : la_Cx ω κ cc nL own R0) {x y : Int64} (hd : decode cc pc = .ok (.lcmp, 1)) (kk : la_At ω κ n (pc + 1) lv (.int (lg_cmp x y) :: st) ws) : la_At ω κ n pc lv (.long y :: .long x :: st) ws := by
  obtain ⟨hx, hb, hml, hown, hts, hK, hG, hA, hR, hlk⟩ := K
  intro H locs ls hP hD hS hl
  exact W.lcmp hx hb hd (kk H locs ls hP hD hS hl)
theorem la_i2l (K : la_Cx ω κ cc nL own R0) {x : Int32} {v : Int64} (hd : decode cc pc = .ok (.i2l, 1)) (hv : x.toInt64 = v) (kk : la_At ω κ n (pc + 1) lv (.long v :: st) ws) : la_At ω κ n pc lv (.int x :: st) ws := by
  obtain ⟨hx, hb, hml, hown, hts, hK, hG, hA, hR, hlk⟩ := K
  intro H locs ls hP hD hS hl
  exact lv_i2l hx hb hd hv (kk H locs ls hP hD hS hl)
theorem la_l2i (K : la_Cx ω κ cc nL own R0) {x : Int64} {v : Int32} (hd : decode cc pc = .ok (.l2i, 1)) (hv : x.toInt32 = v) (kk : la_At ω κ n (pc + 1) lv (.int v :: st) ws) : la_At ω κ n pc lv (.long x :: st) ws := by
  obtain ⟨hx, hb, hml, hown, hts, hK, hG, hA, hR, hlk⟩ := K
  intro H locs ls hP hD hS hl
  exact lv_l2i hx hb hd hv (kk H locs ls hP hD hS hl)
theorem la_i2b (K : la_Cx ω κ cc nL own R0) {x v : Int32} (hd : decode cc pc = .ok (.i2b, 1)) (hv : x.toInt8.toInt32 = v) (kk : la_At ω κ n (pc + 1) lv (.int v :: st) ws) : la_At ω κ n pc lv (.int x :: st) ws := by
  obtain ⟨hx, hb, hml, hown, hts, hK, hG, hA, hR, hlk⟩ := K
  intro H locs ls hP hD hS hl
  exact lv_i2b hx hb hd hv (kk H locs ls hP hD hS hl)
theorem la_i2s (K : la_Cx ω κ cc nL own R0) {x v : Int32} (hd : decode cc pc = .ok (.i2s, 1)) (hv : x.toInt16.toInt32 = v) (kk : la_At ω κ n (pc + 1) lv (.int v :: st) ws) : la_At ω κ n pc lv (.int x :: st) ws := by
  obtain ⟨hx, hb, hml, hown, hts, hK, hG, hA, hR, hlk⟩ := K
  intro H locs ls hP hD hS hl
  exact lv_i2s hx hb hd hv (kk H locs ls hP hD hS hl)
theorem la_dup (K : la_Cx ω κ cc nL own R0) {v : Value} (hd : decode cc pc = .ok (.dup, 1)) (hc : v.category = 1) (kk : la_At ω κ n (pc + 1) lv (v :: v :: st) ws) : la_At ω κ n pc lv (v :: st) ws := by
  obtain ⟨hx, hb, hml, hown, hts, hK, hG, hA, hR, hlk⟩ := K
  intro H locs ls hP hD hS hl
  exact lv_dup hx hb hd hc (kk H locs ls hP hD hS hl)
theorem la_dup2 (K : la_Cx ω κ cc nL own R0) {v w : Value} (hd : decode cc pc = .ok (.dup2, 1)) (hc : v.category = 1) (hc2 : w.category = 1) (kk : la_At ω κ n (pc + 1) lv (v :: w :: v :: w :: st) ws) : la_At ω κ n pc lv (v :: w :: st) ws := by
  obtain ⟨hx, hb, hml, hown, hts, hK, hG, hA, hR, hlk⟩ := K
  intro H locs ls hP hD hS hl
  exact lv_dup2_11 hx hb hd hc hc2 (kk H locs ls hP hD hS hl)
theorem la_add_N (a b : Nat) : nI a + nI b = nI (a + b) := nI_add a b
theorem la_sh {k : Nat} (hk : k < 32) : ((nI k &&& 31).toBitVec.smod 32).toNat = k := by
  have h : ∀ k : Fin 32, ((nI k.val &&& 31).toBitVec.smod 32).toNat = k.val := by decide +kernel
  exact h ⟨k, hk⟩
theorem la_shr_N {a k : Nat} (ha : a < 2 ^ 31) (hk : k < 32) : nI a >>> (nI k &&& 31) = nI (a / 2 ^ k) := pk_shrN ha _ k (la_sh hk)
theorem la_shl_N {a k : Nat} (hk : k < 32) (h : a * 2 ^ k < 2 ^ 32) : nI a <<< (nI k &&& 31) = nI (a * 2 ^ k) := pk_shlN _ k (la_sh hk) h
theorem la_and7_N {a : Nat} (ha : a < 2 ^ 32) : nI a &&& nI 7 = nI (a % 8) := pk_andN ha 3 (by decide +kernel)
theorem la_and1_N {a : Nat} (ha : a < 2 ^ 32) : nI a &&& nI 1 = nI (a % 2) := pk_andN ha 1 (by decide +kernel)
theorem la_iaddN (K : la_Cx ω κ cc nL own R0) {a b : Nat} (hd : decode cc pc = .ok (.iadd, 1)) (kk : la_At ω κ n (pc + 1) lv (.int (nI (a + b)) :: st) ws) : la_At ω κ n pc lv (.int (nI b) :: .int (nI a) :: st) ws := la_iadd K hd (la_top (nI_add a b) kk)
theorem la_imulN (K : la_Cx ω κ cc nL own R0) {a b : Nat} (hd : decode cc pc = .ok (.imul, 1)) (kk : la_At ω κ n (pc + 1) lv (.int (nI (a * b)) :: st) ws) : la_At ω κ n pc lv (.int (nI b) :: .int (nI a) :: st) ws := la_imul K hd (la_top (pk_mul a b) kk)
theorem la_isubN (K : la_Cx ω κ cc nL own R0) {a b : Nat} (hd : decode cc pc = .ok (.isub, 1)) (h : b ≤ a) (kk : la_At ω κ n (pc + 1) lv (.int (nI (a - b)) :: st) ws) : la_At ω κ n pc lv (.int (nI b) :: .int (nI a) :: st) ws := la_isub K hd (la_top (pk_sub h) kk)
theorem la_idivN (K : la_Cx ω κ cc nL own R0) {a b : Nat} (hd : decode cc pc = .ok (.idiv, 1)) (h0 : 0 < b) (hb : b < 2 ^ 31) (ha : a < 2 ^ 31) (kk : la_At ω κ n (pc + 1) lv (.int (nI (a / b)) :: st) ws) : la_At ω κ n pc lv (.int (nI b) :: .int (nI a) :: st) ws := la_idiv K hd (nI_ne0 h0 hb) (la_top (pk_div ha h0 hb) kk)
theorem la_iremN (K : la_Cx ω κ cc nL own R0) {a b : Nat} (hd : decode cc pc = .ok (.irem, 1)) (h0 : 0 < b) (hb : b < 2 ^ 31) (ha : a < 2 ^ 31) (kk : la_At ω κ n (pc + 1) lv (.int (nI (a % b)) :: st) ws) : la_At ω κ n pc lv (.int (nI b) :: .int (nI a) :: st) ws := la_irem K hd (nI_ne0 h0 hb) (la_top (pk_rem ha h0 hb) kk)
theorem la_ishrN (K : la_Cx ω κ cc nL own R0) {a b : Nat} (hd : decode cc pc = .ok (.ishr, 1)) (hb : b < 32) (ha : a < 2 ^ 31) (kk : la_At ω κ n (pc + 1) lv (.int (nI (a / 2 ^ b)) :: st) ws) : la_At ω κ n pc lv (.int (nI b) :: .int (nI a) :: st) ws := la_ishr K hd (la_top (la_shr_N ha hb) kk)
theorem la_ishlN (K : la_Cx ω κ cc nL own R0) {a b : Nat} (hd : decode cc pc = .ok (.ishl, 1)) (hb : b < 32) (ha : a * 2 ^ b < 2 ^ 32) (kk : la_At ω κ n (pc + 1) lv (.int (nI (a * 2 ^ b)) :: st) ws) : la_At ω κ n pc lv (.int (nI b) :: .int (nI a) :: st) ws := la_ishl K hd (la_top (la_shl_N hb ha) kk)
theorem la_iand7 (K : la_Cx ω κ cc nL own R0) {a : Nat} (hd : decode cc pc = .ok (.iand, 1)) (ha : a < 2 ^ 32) (kk : la_At ω κ n (pc + 1) lv (.int (nI (a % 8)) :: st) ws) : la_At ω κ n pc lv (.int (nI 7) :: .int (nI a) :: st) ws := la_iand K hd (la_top (la_and7_N ha) kk)
theorem la_iand1 (K : la_Cx ω κ cc nL own R0) {a : Nat} (hd : decode cc pc = .ok (.iand, 1)) (ha : a < 2 ^ 32) (kk : la_At ω κ n (pc + 1) lv (.int (nI (a % 2)) :: st) ws) : la_At ω κ n pc lv (.int (nI 1) :: .int (nI a) :: st) ws := la_iand K hd (la_top (la_and1_N ha) kk)
theorem la_inc_N (a : Nat) : nI a + Int32.ofInt 1 = nI (a + 1) := nI_1 a
theorem la_dec_N (a : Nat) : nI (a + 1) + Int32.ofInt (-1) = nI a := pk_m1 a
theorem la_icmp_eq (K : la_Cx ω κ cc nL own R0) {x y : Int32} {off : Int} (tgt : Nat) (hd : decode cc pc = .ok (.if_icmp .eq off, 3)) (ht : (pc : Int) + off = (tgt : Int)) (kt : x = y → la_At ω κ n tgt lv st ws) (kf : ¬ x = y → la_At ω κ n (pc + 3) lv st ws) : la_At ω κ n pc lv (.int y :: .int x :: st) ws := by
  obtain ⟨hx, hb, hml, hown, hts, hK, hG, hA, hR, hlk⟩ := K
  intro H locs ls hP hD hS hl
  exact lv_icmp_eq hx hb hd ht (fun h => kt h H locs ls hP hD hS hl) (fun h => kf h H locs ls hP hD hS hl)
theorem la_if_eq (K : la_Cx ω κ cc nL own R0) {x : Int32} {off : Int} (tgt : Nat) (hd : decode cc pc = .ok (.ifCond .eq off, 3)) (ht : (pc : Int) + off = (tgt : Int)) (kt : x = 0 → la_At ω κ n tgt lv st ws) (kf : ¬ x = 0 → la_At ω κ n (pc + 3) lv st ws) : la_At ω κ n pc lv (.int x :: st) ws := by
  obtain ⟨hx, hb, hml, hown, hts, hK, hG, hA, hR, hlk⟩ := K
  intro H locs ls hP hD hS hl
  exact lv_if_eq hx hb hd ht (fun h => kt h H locs ls hP hD hS hl) (fun h => kf h H locs ls hP hD hS hl)
theorem la_icmp_ne (K : la_Cx ω κ cc nL own R0) {x y : Int32} {off : Int} (tgt : Nat) (hd : decode cc pc = .ok (.if_icmp .ne off, 3)) (ht : (pc : Int) + off = (tgt : Int)) (kt : ¬ x = y → la_At ω κ n tgt lv st ws) (kf : x = y → la_At ω κ n (pc + 3) lv st ws) : la_At ω κ n pc lv (.int y :: .int x :: st) ws := by
  obtain ⟨hx, hb, hml, hown, hts, hK, hG, hA, hR, hlk⟩ := K
  intro H locs ls hP hD hS hl
  exact lv_icmp_ne hx hb hd ht (fun h => kt h H locs ls hP hD hS hl) (fun h => kf h H locs ls hP hD hS hl)
theorem la_if_ne (K : la_Cx ω κ cc nL own R0) {x : Int32} {off : Int} (tgt : Nat) (hd : decode cc pc = .ok (.ifCond .ne off, 3)) (ht : (pc : Int) + off = (tgt : Int)) (kt : ¬ x = 0 → la_At ω κ n tgt lv st ws) (kf : x = 0 → la_At ω κ n (pc + 3) lv st ws) : la_At ω κ n pc lv (.int x :: st) ws := by
  obtain ⟨hx, hb, hml, hown, hts, hK, hG, hA, hR, hlk⟩ := K
  intro H locs ls hP hD hS hl
  exact lv_if_ne hx hb hd ht (fun h => kt h H locs ls hP hD hS hl) (fun h => kf h H locs ls hP hD hS hl)
theorem la_icmp_lt (K : la_Cx ω κ cc nL own R0) {x y : Int32} {off : Int} (tgt : Nat) (hd : decode cc pc = .ok (.if_icmp .lt off, 3)) (ht : (pc : Int) + off = (tgt : Int)) (kt : x < y → la_At ω κ n tgt lv st ws) (kf : ¬ x < y → la_At ω κ n (pc + 3) lv st ws) : la_At ω κ n pc lv (.int y :: .int x :: st) ws := by
  obtain ⟨hx, hb, hml, hown, hts, hK, hG, hA, hR, hlk⟩ := K
  intro H locs ls hP hD hS hl
  exact lv_icmp_lt hx hb hd ht (fun h => kt h H locs ls hP hD hS hl) (fun h => kf h H locs ls hP hD hS hl)
theorem la_if_lt (K : la_Cx ω κ cc nL own R0) {x : Int32} {off : Int} (tgt : Nat) (hd : decode cc pc = .ok (.ifCond .lt off, 3)) (ht : (pc : Int) + off = (tgt : Int)) (kt : x < 0 → la_At ω κ n tgt lv st ws) (kf : ¬ x < 0 → la_At ω κ n (pc + 3) lv st ws) : la_At ω κ n pc lv (.int x :: st) ws := by
  obtain ⟨hx, hb, hml, hown, hts, hK, hG, hA, hR, hlk⟩ := K
  intro H locs ls hP hD hS hl
  exact lv_if_lt hx hb hd ht (fun h => kt h H locs ls hP hD hS hl) (fun h => kf h H locs ls hP hD hS hl)
theorem la_icmp_ge (K : la_Cx ω κ cc nL own R0) {x y : Int32} {off : Int} (tgt : Nat) (hd : decode cc pc = .ok (.if_icmp .ge off, 3)) (ht : (pc : Int) + off = (tgt : Int)) (kt : y ≤ x → la_At ω κ n tgt lv st ws) (kf : ¬ y ≤ x → la_At ω κ n (pc + 3) lv st ws) : la_At ω κ n pc lv (.int y :: .int x :: st) ws := by
  obtain ⟨hx, hb, hml, hown, hts, hK, hG, hA, hR, hlk⟩ := K
  intro H locs ls hP hD hS hl
  exact lv_icmp_ge hx hb hd ht (fun h => kt h H locs ls hP hD hS hl) (fun h => kf h H locs ls hP hD hS hl)
theorem la_if_ge (K : la_Cx ω κ cc nL own R0) {x : Int32} {off : Int} (tgt : Nat) (hd : decode cc pc = .ok (.ifCond .ge off, 3)) (ht : (pc : Int) + off = (tgt : Int)) (kt : 0 ≤ x → la_At ω κ n tgt lv st ws) (kf : ¬ 0 ≤ x → la_At ω κ n (pc + 3) lv st ws) : la_At ω κ n pc lv (.int x :: st) ws := by
  obtain ⟨hx, hb, hml, hown, hts, hK, hG, hA, hR, hlk⟩ := K
  intro H locs ls hP hD hS hl
  exact lv_if_ge hx hb hd ht (fun h => kt h H locs ls hP hD hS hl) (fun h => kf h H locs ls hP hD hS hl)
theorem la_icmp_gt (K : la_Cx ω κ cc nL own R0) {x y : Int32} {off : Int} (tgt : Nat) (hd : decode cc pc = .ok (.if_icmp .gt off, 3)) (ht : (pc : Int) + off = (tgt : Int)) (kt : y < x → la_At ω κ n tgt lv st ws) (kf : ¬ y < x → la_At ω κ n (pc + 3) lv st ws) : la_At ω κ n pc lv (.int y :: .int x :: st) ws := by
  obtain ⟨hx, hb, hml, hown, hts, hK, hG, hA, hR, hlk⟩ := K
  intro H locs ls hP hD hS hl
  exact lv_icmp_gt hx hb hd ht (fun h => kt h H locs ls hP hD hS hl) (fun h => kf h H locs ls hP hD hS hl)
theorem la_if_gt (K : la_Cx ω κ cc nL own R0) {x : Int32} {off : Int} (tgt : Nat) (hd : decode cc pc = .ok (.ifCond .gt off, 3)) (ht : (pc : Int) + off = (tgt : Int)) (kt : 0 < x → la_At ω κ n tgt lv st ws) (kf : ¬ 0 < x → la_At ω κ n (pc + 3) lv st ws) : la_At ω κ n pc lv (.int x :: st) ws := by
  obtain ⟨hx, hb, hml, hown, hts, hK, hG, hA, hR, hlk⟩ := K
  intro H locs ls hP hD hS hl
  exact lv_if_gt hx hb hd ht (fun h => kt h H locs ls hP hD hS hl) (fun h => kf h H locs ls hP hD hS hl)
theorem la_icmp_le (K : la_Cx ω κ cc nL own R0) {x y : Int32} {off : Int} (tgt : Nat) (hd : decode cc pc = .ok (.if_icmp .le off, 3)) (ht : (pc : Int) + off = (tgt : Int)) (kt : x ≤ y → la_At ω κ n tgt lv st ws) (kf : ¬ x ≤ y → la_At ω κ n (pc + 3) lv st ws) : la_At ω κ n pc lv (.int y :: .int x :: st) ws := by
  obtain ⟨hx, hb, hml, hown, hts, hK, hG, hA, hR, hlk⟩ := K
  intro H locs ls hP hD hS hl
  exact lv_icmp_le hx hb hd ht (fun h => kt h H locs ls hP hD hS hl) (fun h => kf h H locs ls hP hD hS hl)
theorem la_if_le (K : la_Cx ω κ cc nL own R0) {x : Int32} {off : Int} (tgt : Nat) (hd : decode cc pc = .ok (.ifCond .le off, 3)) (ht : (pc : Int) + off = (tgt : Int)) (kt : x ≤ 0 → la_At ω κ n tgt lv st ws) (kf : ¬ x ≤ 0 → la_At ω κ n (pc + 3) lv st ws) : la_At ω κ n pc lv (.int x :: st) ws := by
  obtain ⟨hx, hb, hml, hown, hts, hK, hG, hA, hR, hlk⟩ := K
  intro H locs ls hP hD hS hl
  exact lv_if_le hx hb hd ht (fun h => kt h H locs ls hP hD hS hl) (fun h => kf h H locs ls hP hD hS hl)
theorem la_goto (K : la_Cx ω κ cc nL own R0) {off : Int} (tgt : Nat) (hd : decode cc pc = .ok (.goto off, 3)) (ht : (pc : Int) + off = (tgt : Int)) (kk : la_At ω κ n tgt lv st ws) : la_At ω κ n pc lv st ws := by
  obtain ⟨hx, hb, hml, hown, hts, hK, hG, hA, hR, hlk⟩ := K
  intro H locs ls hP hD hS hl
  exact lv_goto hx hb hd ht (kk H locs ls hP hD hS hl)
theorem la_icmp_eqN (K : la_Cx ω κ cc nL own R0) {a b : Nat} {off : Int} (tgt : Nat) (hd : decode cc pc = .ok (.if_icmp .eq off, 3)) (ht : (pc : Int) + off = (tgt : Int)) (ha : a < 2 ^ 31) (hb : b < 2 ^ 31) (kt : a = b → la_At ω κ n tgt lv st ws) (kf : ¬ a = b → la_At ω κ n (pc + 3) lv st ws) : la_At ω κ n pc lv (.int (nI b) :: .int (nI a) :: st) ws := la_icmp_eq K tgt hd ht (fun h => kt ((nI_eq ha hb).mp h)) (fun h => kf (fun z => h (by rw [z])))
theorem la_icmp_neN (K : la_Cx ω κ cc nL own R0) {a b : Nat} {off : Int} (tgt : Nat) (hd : decode cc pc = .ok (.if_icmp .ne off, 3)) (ht : (pc : Int) + off = (tgt : Int)) (ha : a < 2 ^ 31) (hb : b < 2 ^ 31) (kt : ¬ a = b → la_At ω κ n tgt lv st ws) (kf : a = b → la_At ω κ n (pc + 3) lv st ws) : la_At ω κ n pc lv (.int (nI b) :: .int (nI a) :: st) ws := la_icmp_ne K tgt hd ht (fun h => kt (fun z => h (by rw [z]))) (fun h => kf ((nI_eq ha hb).mp h))
theorem la_icmp_ltN (K : la_Cx ω κ cc nL own R0) {a b : Nat} {off : Int} (tgt : Nat) (hd : decode cc pc = .ok (.if_icmp .lt off, 3)) (ht : (pc : Int) + off = (tgt : Int)) (ha : a < 2 ^ 31) (hb : b < 2 ^ 31) (kt : a < b → la_At ω κ n tgt lv st ws) (kf : b ≤ a → la_At ω κ n (pc + 3) lv st ws) : la_At ω κ n pc lv (.int (nI b) :: .int (nI a) :: st) ws := la_icmp_lt K tgt hd ht (fun h => kt ((nI_ltI ha hb).mp h)) (fun h => kf (Nat.not_lt.mp fun z => h ((nI_ltI ha hb).mpr z)))
theorem la_icmp_geN (K : la_Cx ω κ cc nL own R0) {a b : Nat} {off : Int} (tgt : Nat) (hd : decode cc pc = .ok (.if_icmp .ge off, 3)) (ht : (pc : Int) + off = (tgt : Int)) (ha : a < 2 ^ 31) (hb : b < 2 ^ 31) (kt : b ≤ a → la_At ω κ n tgt lv st ws) (kf : a < b → la_At ω κ n (pc + 3) lv st ws) : la_At ω κ n pc lv (.int (nI b) :: .int (nI a) :: st) ws := la_icmp_ge K tgt hd ht (fun h => kt ((nI_leI hb ha).mp h)) (fun h => kf (Nat.not_le.mp fun z => h ((nI_leI hb ha).mpr z)))
theorem la_icmp_gtN (K : la_Cx ω κ cc nL own R0) {a b : Nat} {off : Int} (tgt : Nat) (hd : decode cc pc = .ok (.if_icmp .gt off, 3)) (ht : (pc : Int) + off = (tgt : Int)) (ha : a < 2 ^ 31) (hb : b < 2 ^ 31) (kt : b < a → la_At ω κ n tgt lv st ws) (kf : a ≤ b → la_At ω κ n (pc + 3) lv st ws) : la_At ω κ n pc lv (.int (nI b) :: .int (nI a) :: st) ws := la_icmp_gt K tgt hd ht (fun h => kt ((nI_ltI hb ha).mp h)) (fun h => kf (Nat.not_lt.mp fun z => h ((nI_ltI hb ha).mpr z)))
theorem la_icmp_leN (K : la_Cx ω κ cc nL own R0) {a b : Nat} {off : Int} (tgt : Nat) (hd : decode cc pc = .ok (.if_icmp .le off, 3)) (ht : (pc : Int) + off = (tgt : Int)) (ha : a < 2 ^ 31) (hb : b < 2 ^ 31) (kt : a ≤ b → la_At ω κ n tgt lv st ws) (kf : b < a → la_At ω κ n (pc + 3) lv st ws) : la_At ω κ n pc lv (.int (nI b) :: .int (nI a) :: st) ws := la_icmp_le K tgt hd ht (fun h => kt ((nI_leI ha hb).mp h)) (fun h => kf (Nat.not_le.mp fun z => h ((nI_leI ha hb).mpr z)))
theorem la_z0 {a : Nat} (ha : a < 2 ^ 31) : nI a = 0 ↔ a = 0 := by rw [← nI_0]; exact nI_eq ha (by decide)
theorem la_if_eqN (K : la_Cx ω κ cc nL own R0) {a : Nat} {off : Int} (tgt : Nat) (hd : decode cc pc = .ok (.ifCond .eq off, 3)) (ht : (pc : Int) + off = (tgt : Int)) (ha : a < 2 ^ 31) (kt : a = 0 → la_At ω κ n tgt lv st ws) (kf : ¬ a = 0 → la_At ω κ n (pc + 3) lv st ws) : la_At ω κ n pc lv (.int (nI a) :: st) ws := la_if_eq K tgt hd ht (fun h => kt ((la_z0 ha).mp h)) (fun h => kf (fun z => h ((la_z0 ha).mpr z)))
theorem la_if_neN (K : la_Cx ω κ cc nL own R0) {a : Nat} {off : Int} (tgt : Nat) (hd : decode cc pc = .ok (.ifCond .ne off, 3)) (ht : (pc : Int) + off = (tgt : Int)) (ha : a < 2 ^ 31) (kt : ¬ a = 0 → la_At ω κ n tgt lv st ws) (kf : a = 0 → la_At ω κ n (pc + 3) lv st ws) : la_At ω κ n pc lv (.int (nI a) :: st) ws := la_if_ne K tgt hd ht (fun h => kt (fun z => h ((la_z0 ha).mpr z))) (fun h => kf ((la_z0 ha).mp h))
theorem la_if_gtN (K : la_Cx ω κ cc nL own R0) {a : Nat} {off : Int} (tgt : Nat) (hd : decode cc pc = .ok (.ifCond .gt off, 3)) (ht : (pc : Int) + off = (tgt : Int)) (ha : a < 2 ^ 31) (kt : 0 < a → la_At ω κ n tgt lv st ws) (kf : a = 0 → la_At ω κ n (pc + 3) lv st ws) : la_At ω κ n pc lv (.int (nI a) :: st) ws := la_if_gt K tgt hd ht (fun h => kt (Nat.pos_of_ne_zero fun z => absurd h (by rw [z, nI_0]; decide))) (fun h => kf (Nat.eq_zero_of_not_pos fun z => h (by rw [← nI_0]; exact nI_lt z ha)))
theorem la_if_leN (K : la_Cx ω κ cc nL own R0) {a : Nat} {off : Int} (tgt : Nat) (hd : decode cc pc = .ok (.ifCond .le off, 3)) (ht : (pc : Int) + off = (tgt : Int)) (ha : a < 2 ^ 31) (kt : a = 0 → la_At ω κ n tgt lv st ws) (kf : 0 < a → la_At ω κ n (pc + 3) lv st ws) : la_At ω κ n pc lv (.int (nI a) :: st) ws := la_if_le K tgt hd ht (fun h => kt (Nat.eq_zero_of_not_pos fun z => nI_nle z ha h)) (fun h => kf (Nat.pos_of_ne_zero fun z => h (by rw [z, nI_0]; decide)))
theorem la_if_ltN (K : la_Cx ω κ cc nL own R0) {a : Nat} {off : Int} (tgt : Nat) (hd : decode cc pc = .ok (.ifCond .lt off, 3)) (ht : (pc : Int) + off = (tgt : Int)) (ha : a < 2 ^ 31) (kf : la_At ω κ n (pc + 3) lv st ws) : la_At ω κ n pc lv (.int (nI a) :: st) ws := la_if_lt K tgt hd ht (fun h => absurd h (nI_pos ha)) (fun _ => kf)
theorem la_if_geN (K : la_Cx ω κ cc nL own R0) {a : Nat} {off : Int} (tgt : Nat) (hd : decode cc pc = .ok (.ifCond .ge off, 3)) (ht : (pc : Int) + off = (tgt : Int)) (ha : a < 2 ^ 31) (kt : la_At ω κ n tgt lv st ws) : la_At ω κ n pc lv (.int (nI a) :: st) ws := la_if_ge K tgt hd ht (fun _ => kt) (fun h => absurd (nI_pos' ha) h)
theorem la_b1 {p : Prop} {d : Decidable p} : (nI (if p then 1 else 0) = 0) ↔ ¬ p := by
  by_cases h : p
  · simp only [h, if_true, not_true, iff_false]; decide
  · simp only [h, if_false, not_false_iff, iff_true]; decide
theorem la_if_eqC (K : la_Cx ω κ cc nL own R0) {p : Prop} {d : Decidable p} {off : Int} (tgt : Nat) (hd : decode cc pc = .ok (.ifCond .eq off, 3)) (ht : (pc : Int) + off = (tgt : Int)) (kt : ¬ p → la_At ω κ n tgt lv st ws) (kf : p → la_At ω κ n (pc + 3) lv st ws) : la_At ω κ n pc lv (.int (nI (if p then 1 else 0)) :: st) ws := la_if_eq K tgt hd ht (fun h => kt (la_b1.mp h)) (fun h => kf (Decidable.of_not_not fun z => h (la_b1.mpr z)))
theorem la_if_neC (K : la_Cx ω κ cc nL own R0) {p : Prop} {d : Decidable p} {off : Int} (tgt : Nat) (hd : decode cc pc = .ok (.ifCond .ne off, 3)) (ht : (pc : Int) + off = (tgt : Int)) (kt : p → la_At ω κ n tgt lv st ws) (kf : ¬ p → la_At ω κ n (pc + 3) lv st ws) : la_At ω κ n pc lv (.int (nI (if p then 1 else 0)) :: st) ws := la_if_ne K tgt hd ht (fun h => kt (Decidable.of_not_not fun z => h (la_b1.mpr z))) (fun h => kf (la_b1.mp h))
theorem la_ifnonnull (K : la_Cx ω κ cc nL own R0) {x : Nat} {off : Int} (tgt : Nat) (hd : decode cc pc = .ok (.ifnonnull off, 3)) (ht : (pc : Int) + off = (tgt : Int)) (kk : la_At ω κ n tgt lv st ws) : la_At ω κ n pc lv (.ref x :: st) ws := by
  obtain ⟨hx, hb, hml, hown, hts, hK, hG, hA, hR, hlk⟩ := K
  intro H locs ls hP hD hS hl
  exact lv_ifnonnull hx hb hd ht (kk H locs ls hP hD hS hl)
theorem la_ifnonnull0 (K : la_Cx ω κ cc nL own R0) {off : Int} (hd : decode cc pc = .ok (.ifnonnull off, 3)) (kk : la_At ω κ n (pc + 3) lv st ws) : la_At ω κ n pc lv (.null :: st) ws := by
  obtain ⟨hx, hb, hml, hown, hts, hK, hG, hA, hR, hlk⟩ := K
  intro H locs ls hP hD hS hl
  exact lv_ifnonnullN hx hb hd (kk H locs ls hP hD hS hl)
theorem la_tabIn (K : la_Cx ω κ cc nL own R0) {dflt lo hi : Int} {offs : Array Int} {len : Nat} {x : Int32} {off : Int} (tgt : Nat) (hd : decode cc pc = .ok (.tableswitch dflt lo hi offs, len)) (h1 : ¬ x.toInt < lo) (h2 : ¬ hi < x.toInt) (ho : offs[(x.toInt - lo).toNat]? = some off) (ht : (pc : Int) + off = (tgt : Int)) (kk : la_At ω κ n tgt lv st ws) : la_At ω κ n pc lv (.int x :: st) ws := by
  obtain ⟨hx, hb, hml, hown, hts, hK, hG, hA, hR, hlk⟩ := K
  intro H locs ls hP hD hS hl
  exact lv_tableIn hx hb hd h1 h2 ho ht (kk H locs ls hP hD hS hl)
theorem la_tabOut (K : la_Cx ω κ cc nL own R0) {dflt lo hi : Int} {offs : Array Int} {len : Nat} {x : Int32} (tgt : Nat) (hd : decode cc pc = .ok (.tableswitch dflt lo hi offs, len)) (h : x.toInt < lo ∨ hi < x.toInt) (ht : (pc : Int) + dflt = (tgt : Int)) (kk : la_At ω κ n tgt lv st ws) : la_At ω κ n pc lv (.int x :: st) ws := by
  obtain ⟨hx, hb, hml, hown, hts, hK, hG, hA, hR, hlk⟩ := K
  intro H locs ls hP hD hS hl
  exact lv_tableOut hx hb hd h ht (kk H locs ls hP hD hS hl)
theorem la_min_N {a b : Nat} (ha : a < 2 ^ 31) (hb : b < 2 ^ 31) : (if nI b < nI a then nI b else nI a) = nI (min a b) := by
  by_cases h : b < a
  · rw [if_pos ((nI_ltI hb ha).mpr h), Nat.min_eq_right (Nat.le_of_lt h)]
  · rw [if_neg (fun z => h ((nI_ltI hb ha).mp z)), Nat.min_eq_left (Nat.not_lt.mp h)]
theorem la_minR (K : la_Cx ω κ cc nL own R0) {i : Nat} {x y v : Int32} (hv : (if y < x then y else x) = v) (hlink : Cond.methodLink own i Lib.Math.min.name ∈ lw_all) (hlv : lv.length = nL) (hR1 : 1 ≤ R0.frames) (hR2 : (st.map fun v => v.category).sum + 13 ≤ R0.locals) (hf : n.1 ≤ R0.cells ∧ n.2 ≤ R0.slots) (hd : decode cc pc = .ok (.invokestatic i, 3)) (kk : la_At ω κ n (pc + 3) lv (.int v :: st) ws) : la_At ω κ n pc lv (.int y :: .int x :: st) ws := by
  obtain ⟨hx, hb, hml, hown, hts, hK, hG, hA, hR, hlk⟩ := K
  intro H locs ls hP hD hS hl
  subst hv
  subst hR
  exact va_mmin hx hb (hml.trans (hlv.symm.trans hl.1.symm)) hown (hts _ hlink) (hts _ q244) (hts _ q47) (hts _ q245) hR1 hR2 hf.1 hf.2 hd (kk H locs ls hP hD hS hl)
theorem la_minN (K : la_Cx ω κ cc nL own R0) {i : Nat} {a b : Nat} (ha : a < 2 ^ 31) (hb : b < 2 ^ 31) (hlink : Cond.methodLink own i Lib.Math.min.name ∈ lw_all) (hlv : lv.length = nL) (hR1 : 1 ≤ R0.frames) (hR2 : (st.map fun v => v.category).sum + 13 ≤ R0.locals) (hf : n.1 ≤ R0.cells ∧ n.2 ≤ R0.slots) (hd : decode cc pc = .ok (.invokestatic i, 3)) (kk : la_At ω κ n (pc + 3) lv (.int (nI (min a b)) :: st) ws) : la_At ω κ n pc lv (.int (nI b) :: .int (nI a) :: st) ws := la_minR K (la_min_N ha hb) hlink hlv hR1 hR2 hf hd kk
/-- an int array of numbers; an int array; a long array; an array of booleans -/
def la_ia (E : Nat → ClassId) (N : Nat) (f : Nat → Nat) : va_E := .inl (E 0, N, .inl (fun k => nI (f k)))
def la_ir (E : Nat → ClassId) (N : Nat) (f : Nat → Int32) : va_E := .inl (E 0, N, .inl f)
def la_lr (E : Nat → ClassId) (N : Nat) (f : Nat → Int64) : va_E := .inl (E 2, N, .inr (.inl f))
def la_zr (E : Nat → ClassId) (N : Nat) (f : Nat → Nat) : va_E := .inl (E 1, N, .inl (fun k => nI (f k)))
theorem la_upd_N (f : Nat → Nat) (i x : Nat) : upd (fun k => nI (f k)) i (nI x) = fun k => nI (va_up f i x k) := by
  funext k
  unfold upd va_up
  split <;> rfl
theorem la_upd_R {α : Type} (f : Nat → α) (i : Nat) (x : α) : (fun j => if j = i then x else f j) = va_up f i x := rfl
theorem la_getf (K : la_Cx ω κ cc nL own R0) {C : String} {T : u_T} {N ci a i : Nat} {ref : String} {fs : List Value} {v : Value} (hin : ∀ w ∈ u_ws C T N, w ∈ lw_all) (q0 k : Nat) (he : ws[q0]? = some (a, .inr (ci, fs))) (hc : la_cl[ci]? = some (C, T, N)) (hk : k < N) (hl0 : Cond.fieldLink own i ref (T k).2.1 (T k).2.2.1 ∈ lw_all) (href : (T k).1 = ref) (hv : fs[k]? = some v) (hd : decode cc pc = .ok (.getfield i, 3)) (kk : la_At ω κ n (pc + 3) lv (v :: st) ws) : la_At ω κ n pc lv (.ref a :: st) ws := by
  obtain ⟨hx, hb, hml, hown, hts, hK, hG, hA, hR, hlk⟩ := K
  intro H locs ls hP hD hS hl
  subst href
  exact va_get (C := C) (T := T) (N := N) hx hb hts hin hown hK hP q0 he hc k hk (hts _ hl0) (fun _ h => h) hv hd (kk H locs ls hP hD hS hl)
theorem la_getfN (K : la_Cx ω κ cc nL own R0) {C host : String} {T : u_T} {N ci a i : Nat} {ref : String} {fs : List Value} {v : Value} (hin : ∀ w ∈ u_ws C T N, w ∈ lw_all) (q0 k : Nat) (he : ws[q0]? = some (a, .inr (ci, fs))) (hc : la_cl[ci]? = some (C, T, N)) (hk : k < N) (hl0 : Cond.fieldLinkNest own i ref (T k).2.1 (T k).2.2.1 host ∈ lw_tbl) (href : (T k).1 = ref) (hv : fs[k]? = some v) (hd : decode cc pc = .ok (.getfield i, 3)) (kk : la_At ω κ n (pc + 3) lv (v :: st) ws) : la_At ω κ n pc lv (.ref a :: st) ws := by
  obtain ⟨hx, hb, hml, hown, hts, hK, hG, hA, hR, hlk⟩ := K
  intro H locs ls hP hD hS hl
  subst href
  exact va_getN (C := C) (T := T) (N := N) hx hb hts hin hown hK hP q0 he hc k hk (va_Nw.use rfl (la_Gu hG hl0 rfl)) (fun _ h => h) hv hd (kk H locs ls hP hD hS hl)
theorem la_putf (K : la_Cx ω κ cc nL own R0) {C : String} {T : u_T} {N ci a i : Nat} {ref : String} {fs : List Value} {v : Value} {ty : FieldType} (hin : ∀ w ∈ u_ws C T N, w ∈ lw_all) (ty0 : Nat → FieldType) (hty : ∀ k, k < N → parseFieldDescriptor (T k).2.2.1 = some (ty0 k)) (hnm : ∀ a, a < N → ∀ b, b < N → a ≠ b → (T a).2.1 ≠ (T b).2.1) (q0 k : Nat) (he : ws[q0]? = some (a, .inr (ci, fs))) (hc : la_cl[ci]? = some (C, T, N)) (hk : k < N) (hl0 : Cond.fieldLink own i ref (T k).2.1 (T k).2.2.1 ∈ lw_all) (href : (T k).1 = ref) (hfin : (T k).2.2.2 = false) (hd0 : ty0 k = ty) (hn : narrow ty v = v) (hfit : fits ty v = true) (hl9 : k < fs.length) (hd : decode cc pc = .ok (.putfield i, 3)) (kk : la_At ω κ n (pc + 3) lv st (ws.set q0 (a, .inr (ci, fs.set k v)))) : la_At ω κ n pc lv (v :: .ref a :: st) ws := by
  obtain ⟨hx, hb, hml, hown, hts, hK, hG, hA, hR, hlk⟩ := K
  intro H locs ls hP hD hS hl
  subst href
  exact va_put (C := C) (T := T) (N := N) (ty := ty) hx hb hts hin ty0 hty hnm hown hK hP hD hS q0 he hc k hk (hts _ hl0) (fun _ h => h) hfin (by rw [hty k hk, hd0]) hn hfit hl9 hd (fun H1 locs1 hP1 hD1 hS1 => kk H1 locs1 ls hP1 hD1 hS1 hl)
theorem la_putfN (K : la_Cx ω κ cc nL own R0) {C host : String} {T : u_T} {N ci a i : Nat} {ref : String} {fs : List Value} {v : Value} {ty : FieldType} (hin : ∀ w ∈ u_ws C T N, w ∈ lw_all) (ty0 : Nat → FieldType) (hty : ∀ k, k < N → parseFieldDescriptor (T k).2.2.1 = some (ty0 k)) (hnm : ∀ a, a < N → ∀ b, b < N → a ≠ b → (T a).2.1 ≠ (T b).2.1) (q0 k : Nat) (he : ws[q0]? = some (a, .inr (ci, fs))) (hc : la_cl[ci]? = some (C, T, N)) (hk : k < N) (hl0 : Cond.fieldLinkNest own i ref (T k).2.1 (T k).2.2.1 host ∈ lw_tbl) (href : (T k).1 = ref) (hfin : (T k).2.2.2 = false) (hd0 : ty0 k = ty) (hn : narrow ty v = v) (hfit : fits ty v = true) (hl9 : k < fs.length) (hd : decode cc pc = .ok (.putfield i, 3)) (kk : la_At ω κ n (pc + 3) lv st (ws.set q0 (a, .inr (ci, fs.set k v)))) : la_At ω κ n pc lv (v :: .ref a :: st) ws := by
  obtain ⟨hx, hb, hml, hown, hts, hK, hG, hA, hR, hlk⟩ := K
  intro H locs ls hP hD hS hl
  subst href
  exact va_putN (C := C) (T := T) (N := N) (ty := ty) hx hb hts hin ty0 hty hnm hown hK hP hD hS q0 he hc k hk (va_Nw.use rfl (la_Gu hG hl0 rfl)) (fun _ h => h) hfin (by rw [hty k hk, hd0]) hn hfit hl9 hd (fun H1 locs1 hP1 hD1 hS1 => kk H1 locs1 ls hP1 hD1 hS1 hl)
theorem la_iald (K : la_Cx ω κ cc nL own R0) {a N i : Nat} {f : Nat → Nat} (q0 : Nat) (he : ws[q0]? = some (a, la_ia ω.2.2 N f)) (hN : N < 2 ^ 31) (hi : i < N) (hd : decode cc pc = .ok (.iaload, 1)) (kk : la_At ω κ n (pc + 1) lv (.int (nI (f i)) :: st) ws) : la_At ω κ n pc lv (.int (nI i) :: .ref a :: st) ws := by
  obtain ⟨hx, hb, hml, hown, hts, hK, hG, hA, hR, hlk⟩ := K
  intro H locs ls hP hD hS hl
  refine va_iald hx hb hK hP q0 0 he rfl (vp_in_nI hi hN) hd ?_
  rw [nI_clamp (Nat.lt_trans hi hN)]
  exact kk H locs ls hP hD hS hl
theorem la_irld (K : la_Cx ω κ cc nL own R0) {a N i : Nat} {f : Nat → Int32} (q0 : Nat) (he : ws[q0]? = some (a, la_ir ω.2.2 N f)) (hN : N < 2 ^ 31) (hi : i < N) (hd : decode cc pc = .ok (.iaload, 1)) (kk : la_At ω κ n (pc + 1) lv (.int (f i) :: st) ws) : la_At ω κ n pc lv (.int (nI i) :: .ref a :: st) ws := by
  obtain ⟨hx, hb, hml, hown, hts, hK, hG, hA, hR, hlk⟩ := K
  intro H locs ls hP hD hS hl
  refine va_iald hx hb hK hP q0 0 he rfl (vp_in_nI hi hN) hd ?_
  rw [nI_clamp (Nat.lt_trans hi hN)]
  exact kk H locs ls hP hD hS hl
theorem la_zald (K : la_Cx ω κ cc nL own R0) {a N i : Nat} {f : Nat → Nat} (q0 : Nat) (he : ws[q0]? = some (a, la_zr ω.2.2 N f)) (hN : N < 2 ^ 31) (hi : i < N) (hd : decode cc pc = .ok (.baload, 1)) (kk : la_At ω κ n (pc + 1) lv (.int (nI (f i)) :: st) ws) : la_At ω κ n pc lv (.int (nI i) :: .ref a :: st) ws := by
  obtain ⟨hx, hb, hml, hown, hts, hK, hG, hA, hR, hlk⟩ := K
  intro H locs ls hP hD hS hl
  refine va_zald hx hb hK hP q0 1 he rfl (vp_in_nI hi hN) hd ?_
  rw [nI_clamp (Nat.lt_trans hi hN)]
  exact kk H locs ls hP hD hS hl
theorem la_lald (K : la_Cx ω κ cc nL own R0) {a N i : Nat} {f : Nat → Int64} (q0 : Nat) (he : ws[q0]? = some (a, la_lr ω.2.2 N f)) (hN : N < 2 ^ 31) (hi : i < N) (hd : decode cc pc = .ok (.laload, 1)) (kk : la_At ω κ n (pc + 1) lv (.long (f i) :: st) ws) : la_At ω κ n pc lv (.int (nI i) :: .ref a :: st) ws := by
  obtain ⟨hx, hb, hml, hown, hts, hK, hG, hA, hR, hlk⟩ := K
  intro H locs ls hP hD hS hl
  refine va_lald hx hb hK hP q0 2 he rfl (vp_in_nI hi hN) hd ?_
  rw [nI_clamp (Nat.lt_trans hi hN)]
  exact kk H locs ls hP hD hS hl
theorem la_iast (K : la_Cx ω κ cc nL own R0) {a N i x : Nat} {f : Nat → Nat} (q0 : Nat) (he : ws[q0]? = some (a, la_ia ω.2.2 N f)) (hN : N < 2 ^ 31) (hi : i < N) (hd : decode cc pc = .ok (.iastore, 1)) (kk : la_At ω κ n (pc + 1) lv st (ws.set q0 (a, la_ia ω.2.2 N (va_up f i x)))) : la_At ω κ n pc lv (.int (nI x) :: .int (nI i) :: .ref a :: st) ws := by
  obtain ⟨hx, hb, hml, hown, hts, hK, hG, hA, hR, hlk⟩ := K
  intro H locs ls hP hD hS hl
  refine va_iast hx hb hK hP hD hS q0 0 he rfl (vp_in_nI hi hN) hd (fun H1 locs1 hP1 hD1 hS1 => ?_)
  rw [nI_clamp (Nat.lt_trans hi hN), la_upd_N] at hP1 hD1
  exact kk H1 locs1 ls hP1 hD1 hS1 hl
theorem la_irst (K : la_Cx ω κ cc nL own R0) {a N i : Nat} {x : Int32} {f : Nat → Int32} (q0 : Nat) (he : ws[q0]? = some (a, la_ir ω.2.2 N f)) (hN : N < 2 ^ 31) (hi : i < N) (hd : decode cc pc = .ok (.iastore, 1)) (kk : la_At ω κ n (pc + 1) lv st (ws.set q0 (a, la_ir ω.2.2 N (va_up f i x)))) : la_At ω κ n pc lv (.int x :: .int (nI i) :: .ref a :: st) ws := by
  obtain ⟨hx, hb, hml, hown, hts, hK, hG, hA, hR, hlk⟩ := K
  intro H locs ls hP hD hS hl
  refine va_iast hx hb hK hP hD hS q0 0 he rfl (vp_in_nI hi hN) hd (fun H1 locs1 hP1 hD1 hS1 => ?_)
  rw [nI_clamp (Nat.lt_trans hi hN)] at hP1 hD1
  exact kk H1 locs1 ls hP1 hD1 hS1 hl
theorem la_nar_z {x : Nat} (h : x < 2) : vp_nar .boolean (nI x) = nI x := by
  have : x = 0 ∨ x = 1 := by omega
  rcases this with rfl | rfl <;> decide +kernel
theorem la_zast (K : la_Cx ω κ cc nL own R0) {a N i x : Nat} {f : Nat → Nat} (q0 : Nat) (he : ws[q0]? = some (a, la_zr ω.2.2 N f)) (hN : N < 2 ^ 31) (hi : i < N) (hx2 : x < 2) (hd : decode cc pc = .ok (.bastore, 1)) (kk : la_At ω κ n (pc + 1) lv st (ws.set q0 (a, la_zr ω.2.2 N (va_up f i x)))) : la_At ω κ n pc lv (.int (nI x) :: .int (nI i) :: .ref a :: st) ws := by
  obtain ⟨hx, hb, hml, hown, hts, hK, hG, hA, hR, hlk⟩ := K
  intro H locs ls hP hD hS hl
  refine va_zast hx hb hK hP hD hS q0 1 he rfl (vp_in_nI hi hN) hd (fun H1 locs1 hP1 hD1 hS1 => ?_)
  rw [nI_clamp (Nat.lt_trans hi hN), la_nar_z hx2, la_upd_N] at hP1 hD1
  exact kk H1 locs1 ls hP1 hD1 hS1 hl
theorem la_last (K : la_Cx ω κ cc nL own R0) {a N i : Nat} {x : Int64} {f : Nat → Int64} (q0 : Nat) (he : ws[q0]? = some (a, la_lr ω.2.2 N f)) (hN : N < 2 ^ 31) (hi : i < N) (hd : decode cc pc = .ok (.lastore, 1)) (kk : la_At ω κ n (pc + 1) lv st (ws.set q0 (a, la_lr ω.2.2 N (va_up f i x)))) : la_At ω κ n pc lv (.long x :: .int (nI i) :: .ref a :: st) ws := by
  obtain ⟨hx, hb, hml, hown, hts, hK, hG, hA, hR, hlk⟩ := K
  intro H locs ls hP hD hS hl
  refine va_last hx hb hK hP hD hS q0 2 he rfl (vp_in_nI hi hN) hd (fun H1 locs1 hP1 hD1 hS1 => ?_)
  rw [nI_clamp (Nat.lt_trans hi hN)] at hP1 hD1
  exact kk H1 locs1 ls hP1 hD1 hS1 hl
end LA
/-! CONTRACTS: from the world ws with arguments As the method y returns; the world behind it is wf u, and the post holds -/
def la_rm (k : Nat) : Room := { frames := k, cells := 0, slots := 0, locals := 64 * k }
def la_Pre (ω : la_O) (As : List Value) (ws : va_W) (sz : Nat) : Array Value → State → Prop := va_Pc As (fun U => U.heap.size = sz ∧ va_P ω.2.1 la_cl ws U.heap ∧ va_K ω.2.1 la_cl (la_ty ω.2.2) U ∧ la_G U ∧ va_D (fun _ => True) ws)
def la_B (ω : la_O) (ws : va_W) (sz : Nat) {S : Type} (wf : S → va_W) : S → State → Prop := fun u t => va_P ω.2.1 la_cl (wf u) t.heap ∧ va_D (va_A ws sz) (wf u)
theorem la_blind {ω : la_O} {As : List Value} {ws : va_W} {sz : Nat} : FrameBlind (la_Pre ω As ws sz) := by
  intro a U g mk q
  obtain ⟨q0, q1, qP, qK, qG, qD⟩ := q
  exact ⟨q0, q1, qP, va_K.moved (u := U) (U := U.calling g mk a) (Vm.Alike.refl U.vm) qK, la_G_same (s := U) (U := U.calling g mk a) rfl qG, qD⟩
theorem la_pre {ω : la_O} {As : List Value} {ws : va_W} {s U : State} {H : Heap} {A : Nat → Prop} (hP : va_P ω.2.1 la_cl ws H) (hK : va_K ω.2.1 la_cl (la_ty ω.2.2) s) (hG : la_G s) (hD : va_D A ws) (hU : U.heap = H) (hW : s.WarmedH U.vm) : la_Pre ω As ws H.size As.toArray U :=
  ⟨rfl, by rw [hU], by rw [hU]; exact hP, va_K.moved hW.alike hK, la_G_moved hW hG, hD.weaken (fun _ _ _ _ => trivial)⟩
theorem la_fr {A : Nat → Prop} {ws : va_W} {H0 H : Heap} {locs : List Loc} (hD : va_D A ws) (hS : va_S A H0 H locs) (hA : ∀ q : Nat, H0.size ≤ q → A q) : ∀ q, va_A ws H.size q → A q := by
  rintro q (⟨k, e, h⟩ | h)
  · exact hD.2 k (q, e) h
  · exact hA q (Nat.le_trans hS.1 h)
def la_CI (ω : la_O) (y : MethodName) (cc : ByteArray) (nL : Nat) (ret : Option FieldType) (rm : Room) (As : List Value) (ws : va_W) {S : Type} (wf : S → va_W) (post : Int32 → S → Prop) : Prop :=
  ∀ sz : Nat, Met ω.1 y (ws_ y cc nL ret) rm (la_Pre ω As ws sz) (va_Qi post (la_B ω ws sz wf) (va_A ws sz)) rm.cells rm.slots (va_A ws sz)
def la_CL (ω : la_O) (y : MethodName) (cc : ByteArray) (nL : Nat) (ret : Option FieldType) (rm : Room) (As : List Value) (ws : va_W) {S : Type} (wf : S → va_W) (post : Int64 → S → Prop) : Prop :=
  ∀ sz : Nat, Met ω.1 y (ws_ y cc nL ret) rm (la_Pre ω As ws sz) (va_Ql post (la_B ω ws sz wf) (va_A ws sz)) rm.cells rm.slots (va_A ws sz)
def la_CV (ω : la_O) (y : MethodName) (cc : ByteArray) (nL : Nat) (ret : Option FieldType) (rm : Room) (As : List Value) (ws : va_W) {S : Type} (wf : S → va_W) (post : S → Prop) : Prop :=
  ∀ sz : Nat, Met ω.1 y (ws_ y cc nL ret) rm (la_Pre ω As ws sz) (va_Qv post (la_B ω ws sz wf) (va_A ws sz)) rm.cells rm.slots (va_A ws sz)
def la_CR (ω : la_O) (y : MethodName) (cc : ByteArray) (nL : Nat) (ret : Option FieldType) (rm : Room) (As : List Value) (ws : va_W) {S : Type} (wf : S → va_W) (rf : S → Nat) (post : S → Prop) : Prop :=
  ∀ sz : Nat, Met ω.1 y (ws_ y cc nL ret) rm (la_Pre ω As ws sz) (va_Qr post (fun u a t => a = rf u ∧ la_B ω ws sz wf u t) (va_A ws sz)) rm.cells rm.slots (va_A ws sz)
/-- a method that changes nothing and answers f -/
def la_CP (ω : la_O) (y : MethodName) (cc : ByteArray) (nL : Nat) (ret : Option FieldType) (rm : Room) (As : List Value) (ws : va_W) (f : Int32) : Prop := la_CI ω y cc nL ret rm As ws (fun _ : Unit => ws) (fun r _ => r = f)
section LAC
variable {ω : la_O} {y : MethodName} {cc : ByteArray} {nL : Nat} {rm : Room} {As : List Value} {ws : va_W} {S : Type} {wf : S → va_W}
theorem la_CI_of {post : Int32 → S → Prop} (hy : plainName y.cls = true) (lv0 : List (Option Value)) (h1 : lv_args 0 As = la_lp 0 lv0) (h2 : lv0.length = nL) (h3 : (lg_sl As).length ≤ nL) (body : ∀ κ : la_K, la_Cx ω κ cc nL y.cls rm → (∀ (pc : Nat) (lv : List (Option Value)) (v : Int32) (u : S), decode cc pc = .ok (.ireturn, 1) → post v u → la_At ω κ (rm.cells, rm.slots) pc lv [.int v] (wf u)) → la_At ω κ (0, 0) 0 lv0 [] ws) : la_CI ω y cc nL (some .int) rm As ws wf post := by
  intro sz
  refine Met.ofW (cc := cc) (maxL := nL) (ret := some .int) hy rfl ?_
  intro p e s m args below meth c s₁ B hml hv
  obtain ⟨rfl, hsz, hP, hK, hG, hD0⟩ := hv
  have hts0 := atoms_spec (ws := ws_ y cc nL (some .int)) B.pre
  have hts : ∀ w ∈ lw_all, w.before As.toArray s = true := fun w h => hts0 w (List.mem_cons_of_mem _ h)
  have hown : s.vm.findClass y.cls = some m.cls := findClass_of_methodNamed B.named
  subst hsz
  have hx := B.exec
  have hb := B.bytes
  have hr := B.returns
  have hlk := B.notSynchronized
  have hl := lv_entry As (n := nL) h3
  rw [lg_entry_eq]
  rw [h1, ← h2] at hl
  rw [← h2]
  exact body (p, e, rm, s, m, As.toArray, below, meth, c, _, va_A ws s.heap.size) ⟨hx, hb, hml, hown, hts, hK, hG, fun q h => Or.inr h, rfl, hlk⟩ (fun pc lv v u hd hp H locs ls hP1 hD1 hS1 hl1 => W.iret (v := v) hx hb hr (fun t ht hW => ⟨⟨v, u, rfl, hp, by rw [ht]; exact hP1, hD1⟩, hS1.F ht⟩) hS1.2.2 hd hlk) s.heap [] _ hP hD0.self va_S.rf hl
theorem la_narz {v : Nat} (h : v < 2) : narrow .boolean (.int (nI v)) = .int (nI v) := by
  have : v = 0 ∨ v = 1 := by omega
  rcases this with rfl | rfl <;> decide +kernel
theorem la_CZ_of {post : Int32 → S → Prop} (hy : plainName y.cls = true) (lv0 : List (Option Value)) (h1 : lv_args 0 As = la_lp 0 lv0) (h2 : lv0.length = nL) (h3 : (lg_sl As).length ≤ nL) (body : ∀ κ : la_K, la_Cx ω κ cc nL y.cls rm → (∀ (pc : Nat) (lv : List (Option Value)) (v : Nat) (u : S), v < 2 → decode cc pc = .ok (.ireturn, 1) → post (nI v) u → la_At ω κ (rm.cells, rm.slots) pc lv [.int (nI v)] (wf u)) → la_At ω κ (0, 0) 0 lv0 [] ws) : la_CI ω y cc nL (some .boolean) rm As ws wf post := by
  intro sz
  refine Met.ofW (cc := cc) (maxL := nL) (ret := some .boolean) hy rfl ?_
  intro p e s m args below meth c s₁ B hml hv
  obtain ⟨rfl, hsz, hP, hK, hG, hD0⟩ := hv
  have hts0 := atoms_spec (ws := ws_ y cc nL (some .boolean)) B.pre
  have hts : ∀ w ∈ lw_all, w.before As.toArray s = true := fun w h => hts0 w (List.mem_cons_of_mem _ h)
  have hown : s.vm.findClass y.cls = some m.cls := findClass_of_methodNamed B.named
  subst hsz
  have hx := B.exec
  have hb := B.bytes
  have hr := B.returns
  have hlk := B.notSynchronized
  have hl := lv_entry As (n := nL) h3
  rw [lg_entry_eq]
  rw [h1, ← h2] at hl
  rw [← h2]
  exact body (p, e, rm, s, m, As.toArray, below, meth, c, _, va_A ws s.heap.size) ⟨hx, hb, hml, hown, hts, hK, hG, fun q h => Or.inr h, rfl, hlk⟩ (fun pc lv v u h01 hd hp H locs ls hP1 hD1 hS1 hl1 => W.zret (v := nI v) hx hb hr (la_narz h01) (fun t ht hW => ⟨⟨nI v, u, rfl, hp, by rw [ht]; exact hP1, hD1⟩, hS1.F ht⟩) hS1.2.2 hd hlk) s.heap [] _ hP hD0.self va_S.rf hl
theorem la_CL_of {post : Int64 → S → Prop} (hy : plainName y.cls = true) (lv0 : List (Option Value)) (h1 : lv_args 0 As = la_lp 0 lv0) (h2 : lv0.length = nL) (h3 : (lg_sl As).length ≤ nL) (body : ∀ κ : la_K, la_Cx ω κ cc nL y.cls rm → (∀ (pc : Nat) (lv : List (Option Value)) (v : Int64) (u : S), decode cc pc = .ok (.lreturn, 1) → post v u → la_At ω κ (rm.cells, rm.slots) pc lv [.long v] (wf u)) → la_At ω κ (0, 0) 0 lv0 [] ws) : la_CL ω y cc nL (some .long) rm As ws wf post := by
  intro sz
  refine Met.ofW (cc := cc) (maxL := nL) (ret := some .long) hy rfl ?_
  intro p e s m args below meth c s₁ B hml hv
  obtain ⟨rfl, hsz, hP, hK, hG, hD0⟩ := hv
  have hts0 := atoms_spec (ws := ws_ y cc nL (some .long)) B.pre
  have hts : ∀ w ∈ lw_all, w.before As.toArray s = true := fun w h => hts0 w (List.mem_cons_of_mem _ h)
  have hown : s.vm.findClass y.cls = some m.cls := findClass_of_methodNamed B.named
  subst hsz
  have hx := B.exec
  have hb := B.bytes
  have hr := B.returns
  have hlk := B.notSynchronized
  have hl := lv_entry As (n := nL) h3
  rw [lg_entry_eq]
  rw [h1, ← h2] at hl
  rw [← h2]
  exact body (p, e, rm, s, m, As.toArray, below, meth, c, _, va_A ws s.heap.size) ⟨hx, hb, hml, hown, hts, hK, hG, fun q h => Or.inr h, rfl, hlk⟩ (fun pc lv v u hd hp H locs ls hP1 hD1 hS1 hl1 => W.lret (v := v) hx hb hr (fun t ht hW => ⟨⟨v, u, rfl, hp, by rw [ht]; exact hP1, hD1⟩, hS1.F ht⟩) hS1.2.2 hd hlk) s.heap [] _ hP hD0.self va_S.rf hl
theorem la_CV_of {post : S → Prop} (hy : plainName y.cls = true) (lv0 : List (Option Value)) (h1 : lv_args 0 As = la_lp 0 lv0) (h2 : lv0.length = nL) (h3 : (lg_sl As).length ≤ nL) (body : ∀ κ : la_K, la_Cx ω κ cc nL y.cls rm → (∀ (pc : Nat) (lv : List (Option Value)) (u : S), decode cc pc = .ok (.return_, 1) → post u → la_At ω κ (rm.cells, rm.slots) pc lv [] (wf u)) → la_At ω κ (0, 0) 0 lv0 [] ws) : la_CV ω y cc nL (none) rm As ws wf post := by
  intro sz
  refine Met.ofW (cc := cc) (maxL := nL) (ret := none) hy rfl ?_
  intro p e s m args below meth c s₁ B hml hv
  obtain ⟨rfl, hsz, hP, hK, hG, hD0⟩ := hv
  have hts0 := atoms_spec (ws := ws_ y cc nL (none)) B.pre
  have hts : ∀ w ∈ lw_all, w.before As.toArray s = true := fun w h => hts0 w (List.mem_cons_of_mem _ h)
  have hown : s.vm.findClass y.cls = some m.cls := findClass_of_methodNamed B.named
  subst hsz
  have hx := B.exec
  have hb := B.bytes
  have hr := B.returns
  have hlk := B.notSynchronized
  have hl := lv_entry As (n := nL) h3
  rw [lg_entry_eq]
  rw [h1, ← h2] at hl
  rw [← h2]
  exact body (p, e, rm, s, m, As.toArray, below, meth, c, _, va_A ws s.heap.size) ⟨hx, hb, hml, hown, hts, hK, hG, fun q h => Or.inr h, rfl, hlk⟩ (fun pc lv u hd hp H locs ls hP1 hD1 hS1 hl1 => W.vret hx hb hr (fun t ht hW => ⟨⟨u, rfl, hp, by rw [ht]; exact hP1, hD1⟩, hS1.F ht⟩) hS1.2.2 hd hlk) s.heap [] _ hP hD0.self va_S.rf hl
theorem la_CR_of {post : S → Prop} {rf : S → Nat} {rt : FieldType} (hrt : (∃ n, rt = .object n) ∨ ∃ t, rt = .array t) (hy : plainName y.cls = true) (lv0 : List (Option Value)) (h1 : lv_args 0 As = la_lp 0 lv0) (h2 : lv0.length = nL) (h3 : (lg_sl As).length ≤ nL) (body : ∀ κ : la_K, la_Cx ω κ cc nL y.cls rm → (∀ (pc : Nat) (lv : List (Option Value)) (u : S), decode cc pc = .ok (.areturn, 1) → post u → la_At ω κ (rm.cells, rm.slots) pc lv [.ref (rf u)] (wf u)) → la_At ω κ (0, 0) 0 lv0 [] ws) : la_CR ω y cc nL (some rt) rm As ws wf rf post := by
  intro sz
  refine Met.ofW (cc := cc) (maxL := nL) (ret := some rt) hy rfl ?_
  intro p e s m args below meth c s₁ B hml hv
  obtain ⟨rfl, hsz, hP, hK, hG, hD0⟩ := hv
  have hts0 := atoms_spec (ws := ws_ y cc nL (some rt)) B.pre
  have hts : ∀ w ∈ lw_all, w.before As.toArray s = true := fun w h => hts0 w (List.mem_cons_of_mem _ h)
  have hown : s.vm.findClass y.cls = some m.cls := findClass_of_methodNamed B.named
  subst hsz
  have hx := B.exec
  have hb := B.bytes
  have hr := B.returns
  have hlk := B.notSynchronized
  have hl := lv_entry As (n := nL) h3
  rw [lg_entry_eq]
  rw [h1, ← h2] at hl
  rw [← h2]
  exact body (p, e, rm, s, m, As.toArray, below, meth, c, _, va_A ws s.heap.size) ⟨hx, hb, hml, hown, hts, hK, hG, fun q h => Or.inr h, rfl, hlk⟩ (fun pc lv u hd hp H locs ls hP1 hD1 hS1 hl1 => W.aret (v := .ref (rf u)) hx hb hr hrt (Or.inr ⟨_, rfl⟩) (fun t ht hW => ⟨⟨u, rf u, rfl, hp, rfl, by rw [ht]; exact hP1, hD1⟩, hS1.F ht⟩) hS1.2.2 hd hlk) s.heap [] _ hP hD0.self va_S.rf hl
end LAC
/-- what the tables say of an instance method y of its own class; of a static one; of a constructor -/
def la_Vok (y : MethodName) (cc : ByteArray) (nL : Nat) (ret : Option FieldType) (k : Nat) : Prop := Cond.instanceMethod y ∈ lw_all ∧ Cond.selects y.cls y y ∈ lw_all ∧ Cond.initialized y.cls ∈ lw_all ∧ Cond.code y cc nL ret ∈ lw_all ∧ y.cls ≠ "java/lang/invoke/MethodHandle" ∧ y.cls ≠ "java/lang/invoke/VarHandle" ∧ (parseMethodDescriptor y.desc).map (fun d => d.parameters.length) = some k
def la_Sok (y : MethodName) (cc : ByteArray) (nL : Nat) (ret : Option FieldType) (k : Nat) : Prop := Cond.static y ∈ lw_all ∧ Cond.initialized y.cls ∈ lw_all ∧ Cond.code y cc nL ret ∈ lw_all ∧ y.cls ≠ "java/lang/invoke/MethodHandle" ∧ y.cls ≠ "java/lang/invoke/VarHandle" ∧ (parseMethodDescriptor y.desc).map (fun d => d.parameters.length) = some k
section LAD
variable {ω : la_O} {κ : la_K} {cc : ByteArray} {nL : Nat} {own : String} {R0 : Room} {n : Nat × Nat} {pc : Nat} {lv : List (Option Value)} {st : List Value} {ws : va_W}
variable {y : MethodName} {cc' : ByteArray} {nL' : Nat} {ret : Option FieldType} {k : Nat} {rm : Room} {As rest : List Value} {S : Type} {wf : S → va_W} {i b : Nat}
theorem la_callVi (K : la_Cx ω κ cc nL own R0) {post : Int32 → S → Prop} (hok : la_Vok y cc' nL' ret k) (hlink : Cond.methodLink own i y ∈ lw_all) (hM : la_CI ω y cc' nL' ret rm (.ref b :: As) ws wf post) (q0 : Nat) {ci : Nat} {fs : List Value} {T : u_T} {N : Nat} (he : ws[q0]? = some (b, .inr (ci, fs))) (hc : la_cl[ci]? = some (y.cls, T, N)) (hk : As.length = k) (hlv : lv.length = nL) (hst : st = As.reverse ++ .ref b :: rest) (hw : (rest.map fun v => v.category).sum ≤ 8) (hR : rm.frames + 1 ≤ R0.frames ∧ 8 + (nL' + 11) + rm.locals ≤ R0.locals) (hf : n.1 + rm.cells ≤ R0.cells ∧ n.2 + rm.slots ≤ R0.slots) (hd : decode cc pc = .ok (.invokevirtual i, 3)) (kk : ∀ (r : Int32) (u : S), post r u → la_At ω κ (n.1 + rm.cells, n.2 + rm.slots) (pc + 3) lv (.int r :: rest) (wf u)) : la_At ω κ n pc lv st ws := by
  obtain ⟨hx, hb, hml, hown, hts, hK, hG, hA, hRe, hlk⟩ := K
  subst hRe
  intro H locs ls hP hD hS hl
  have hFc := la_fr hD hS hA
  refine va_calli (va_runV (As := As) (rest := rest) ⟨hx, hb, hml, hown, hts⟩ (hM H.size) (cwV k hts (lw_V hlink hok.1 hok.2.1 hok.2.2.1 hok.2.2.2.1) rfl rfl rfl ⟨rfl, hok.2.2.2.2⟩ hR) ⟨la_blind, va_recv hK hP hc he, fun U hU hW => la_pre hP hK hG hD hU hW⟩ rfl hk (hl.1.trans hlv) hst (lv_room hw) hd hf) hS (fun q _ h => hFc q h) hFc (fun r u t H1 locs1 ht hvm hpost hB hz1 hk1 hS1 => ?_)
  obtain ⟨hP1, hD1⟩ := hB
  rw [ht] at hP1
  exact kk r u hpost H1 locs1 ls hP1 (hD1.weaken (fun _ _ _ h => hFc _ h)) hS1 hl
theorem la_callVl (K : la_Cx ω κ cc nL own R0) {post : Int64 → S → Prop} (hok : la_Vok y cc' nL' ret k) (hlink : Cond.methodLink own i y ∈ lw_all) (hM : la_CL ω y cc' nL' ret rm (.ref b :: As) ws wf post) (q0 : Nat) {ci : Nat} {fs : List Value} {T : u_T} {N : Nat} (he : ws[q0]? = some (b, .inr (ci, fs))) (hc : la_cl[ci]? = some (y.cls, T, N)) (hk : As.length = k) (hlv : lv.length = nL) (hst : st = As.reverse ++ .ref b :: rest) (hw : (rest.map fun v => v.category).sum ≤ 8) (hR : rm.frames + 1 ≤ R0.frames ∧ 8 + (nL' + 11) + rm.locals ≤ R0.locals) (hf : n.1 + rm.cells ≤ R0.cells ∧ n.2 + rm.slots ≤ R0.slots) (hd : decode cc pc = .ok (.invokevirtual i, 3)) (kk : ∀ (r : Int64) (u : S), post r u → la_At ω κ (n.1 + rm.cells, n.2 + rm.slots) (pc + 3) lv (.long r :: rest) (wf u)) : la_At ω κ n pc lv st ws := by
  obtain ⟨hx, hb, hml, hown, hts, hK, hG, hA, hRe, hlk⟩ := K
  subst hRe
  intro H locs ls hP hD hS hl
  have hFc := la_fr hD hS hA
  refine va_calll (va_runV (As := As) (rest := rest) ⟨hx, hb, hml, hown, hts⟩ (hM H.size) (cwV k hts (lw_V hlink hok.1 hok.2.1 hok.2.2.1 hok.2.2.2.1) rfl rfl rfl ⟨rfl, hok.2.2.2.2⟩ hR) ⟨la_blind, va_recv hK hP hc he, fun U hU hW => la_pre hP hK hG hD hU hW⟩ rfl hk (hl.1.trans hlv) hst (lv_room hw) hd hf) hS (fun q _ h => hFc q h) hFc (fun r u t H1 locs1 ht hvm hpost hB hz1 hk1 hS1 => ?_)
  obtain ⟨hP1, hD1⟩ := hB
  rw [ht] at hP1
  exact kk r u hpost H1 locs1 ls hP1 (hD1.weaken (fun _ _ _ h => hFc _ h)) hS1 hl
theorem la_callVv (K : la_Cx ω κ cc nL own R0) {post : S → Prop} (hok : la_Vok y cc' nL' ret k) (hlink : Cond.methodLink own i y ∈ lw_all) (hM : la_CV ω y cc' nL' ret rm (.ref b :: As) ws wf post) (q0 : Nat) {ci : Nat} {fs : List Value} {T : u_T} {N : Nat} (he : ws[q0]? = some (b, .inr (ci, fs))) (hc : la_cl[ci]? = some (y.cls, T, N)) (hk : As.length = k) (hlv : lv.length = nL) (hst : st = As.reverse ++ .ref b :: rest) (hw : (rest.map fun v => v.category).sum ≤ 8) (hR : rm.frames + 1 ≤ R0.frames ∧ 8 + (nL' + 11) + rm.locals ≤ R0.locals) (hf : n.1 + rm.cells ≤ R0.cells ∧ n.2 + rm.slots ≤ R0.slots) (hd : decode cc pc = .ok (.invokevirtual i, 3)) (kk : ∀ u : S, post u → la_At ω κ (n.1 + rm.cells, n.2 + rm.slots) (pc + 3) lv (rest) (wf u)) : la_At ω κ n pc lv st ws := by
  obtain ⟨hx, hb, hml, hown, hts, hK, hG, hA, hRe, hlk⟩ := K
  subst hRe
  intro H locs ls hP hD hS hl
  have hFc := la_fr hD hS hA
  refine va_callv (va_runV (As := As) (rest := rest) ⟨hx, hb, hml, hown, hts⟩ (hM H.size) (cwV k hts (lw_V hlink hok.1 hok.2.1 hok.2.2.1 hok.2.2.2.1) rfl rfl rfl ⟨rfl, hok.2.2.2.2⟩ hR) ⟨la_blind, va_recv hK hP hc he, fun U hU hW => la_pre hP hK hG hD hU hW⟩ rfl hk (hl.1.trans hlv) hst (lv_room hw) hd hf) hS (fun q _ h => hFc q h) hFc (fun u t H1 locs1 ht hvm hpost hB hz1 hk1 hS1 => ?_)
  obtain ⟨hP1, hD1⟩ := hB
  rw [ht] at hP1
  exact kk u hpost H1 locs1 ls hP1 (hD1.weaken (fun _ _ _ h => hFc _ h)) hS1 hl
theorem la_callVr (K : la_Cx ω κ cc nL own R0) {rf : S → Nat} {post : S → Prop} (hok : la_Vok y cc' nL' ret k) (hlink : Cond.methodLink own i y ∈ lw_all) (hM : la_CR ω y cc' nL' ret rm (.ref b :: As) ws wf rf post) (q0 : Nat) {ci : Nat} {fs : List Value} {T : u_T} {N : Nat} (he : ws[q0]? = some (b, .inr (ci, fs))) (hc : la_cl[ci]? = some (y.cls, T, N)) (hk : As.length = k) (hlv : lv.length = nL) (hst : st = As.reverse ++ .ref b :: rest) (hw : (rest.map fun v => v.category).sum ≤ 8) (hR : rm.frames + 1 ≤ R0.frames ∧ 8 + (nL' + 11) + rm.locals ≤ R0.locals) (hf : n.1 + rm.cells ≤ R0.cells ∧ n.2 + rm.slots ≤ R0.slots) (hd : decode cc pc = .ok (.invokevirtual i, 3)) (kk : ∀ u : S, post u → la_At ω κ (n.1 + rm.cells, n.2 + rm.slots) (pc + 3) lv (.ref (rf u) :: rest) (wf u)) : la_At ω κ n pc lv st ws := by
  obtain ⟨hx, hb, hml, hown, hts, hK, hG, hA, hRe, hlk⟩ := K
  subst hRe
  intro H locs ls hP hD hS hl
  have hFc := la_fr hD hS hA
  refine va_callr (va_runV (As := As) (rest := rest) ⟨hx, hb, hml, hown, hts⟩ (hM H.size) (cwV k hts (lw_V hlink hok.1 hok.2.1 hok.2.2.1 hok.2.2.2.1) rfl rfl rfl ⟨rfl, hok.2.2.2.2⟩ hR) ⟨la_blind, va_recv hK hP hc he, fun U hU hW => la_pre hP hK hG hD hU hW⟩ rfl hk (hl.1.trans hlv) hst (lv_room hw) hd hf) hS (fun q _ h => hFc q h) hFc (fun u ra t H1 locs1 ht hvm hpost hB hz1 hk1 hS1 => ?_)
  obtain ⟨hra, hP1, hD1⟩ := hB
  subst hra
  rw [ht] at hP1
  exact kk u hpost H1 locs1 ls hP1 (hD1.weaken (fun _ _ _ h => hFc _ h)) hS1 hl
theorem la_callVi0 (K : la_Cx ω κ cc nL own R0) {lev : Nat} {post : Int32 → S → Prop} (hok : la_Vok y cc' nL' ret k) (hlink : Cond.methodLink own i y ∈ lw_all) (hM : la_CI ω y cc' nL' ret (la_rm lev) (.ref b :: As) ws wf post) (q0 : Nat) {ci : Nat} {fs : List Value} {T : u_T} {N : Nat} (he : ws[q0]? = some (b, .inr (ci, fs))) (hc : la_cl[ci]? = some (y.cls, T, N)) (hk : As.length = k) (hlv : lv.length = nL) (hst : st = As.reverse ++ .ref b :: rest) (hw : (rest.map fun v => v.category).sum ≤ 8) (hR : (la_rm lev).frames + 1 ≤ R0.frames ∧ 8 + (nL' + 11) + (la_rm lev).locals ≤ R0.locals) (hf : n.1 ≤ R0.cells ∧ n.2 ≤ R0.slots) (hd : decode cc pc = .ok (.invokevirtual i, 3)) (kk : ∀ (r : Int32) (u : S), post r u → la_At ω κ n (pc + 3) lv (.int r :: rest) (wf u)) : la_At ω κ n pc lv st ws := la_callVi K (rm := la_rm lev) hok hlink hM q0 he hc hk hlv hst hw hR hf hd kk
theorem la_callVl0 (K : la_Cx ω κ cc nL own R0) {lev : Nat} {post : Int64 → S → Prop} (hok : la_Vok y cc' nL' ret k) (hlink : Cond.methodLink own i y ∈ lw_all) (hM : la_CL ω y cc' nL' ret (la_rm lev) (.ref b :: As) ws wf post) (q0 : Nat) {ci : Nat} {fs : List Value} {T : u_T} {N : Nat} (he : ws[q0]? = some (b, .inr (ci, fs))) (hc : la_cl[ci]? = some (y.cls, T, N)) (hk : As.length = k) (hlv : lv.length = nL) (hst : st = As.reverse ++ .ref b :: rest) (hw : (rest.map fun v => v.category).sum ≤ 8) (hR : (la_rm lev).frames + 1 ≤ R0.frames ∧ 8 + (nL' + 11) + (la_rm lev).locals ≤ R0.locals) (hf : n.1 ≤ R0.cells ∧ n.2 ≤ R0.slots) (hd : decode cc pc = .ok (.invokevirtual i, 3)) (kk : ∀ (r : Int64) (u : S), post r u → la_At ω κ n (pc + 3) lv (.long r :: rest) (wf u)) : la_At ω κ n pc lv st ws := la_callVl K (rm := la_rm lev) hok hlink hM q0 he hc hk hlv hst hw hR hf hd kk
theorem la_callVv0 (K : la_Cx ω κ cc nL own R0) {lev : Nat} {post : S → Prop} (hok : la_Vok y cc' nL' ret k) (hlink : Cond.methodLink own i y ∈ lw_all) (hM : la_CV ω y cc' nL' ret (la_rm lev) (.ref b :: As) ws wf post) (q0 : Nat) {ci : Nat} {fs : List Value} {T : u_T} {N : Nat} (he : ws[q0]? = some (b, .inr (ci, fs))) (hc : la_cl[ci]? = some (y.cls, T, N)) (hk : As.length = k) (hlv : lv.length = nL) (hst : st = As.reverse ++ .ref b :: rest) (hw : (rest.map fun v => v.category).sum ≤ 8) (hR : (la_rm lev).frames + 1 ≤ R0.frames ∧ 8 + (nL' + 11) + (la_rm lev).locals ≤ R0.locals) (hf : n.1 ≤ R0.cells ∧ n.2 ≤ R0.slots) (hd : decode cc pc = .ok (.invokevirtual i, 3)) (kk : ∀ u : S, post u → la_At ω κ n (pc + 3) lv (rest) (wf u)) : la_At ω κ n pc lv st ws := la_callVv K (rm := la_rm lev) hok hlink hM q0 he hc hk hlv hst hw hR hf hd kk
theorem la_callVr0 (K : la_Cx ω κ cc nL own R0) {rf : S → Nat} {lev : Nat} {post : S → Prop} (hok : la_Vok y cc' nL' ret k) (hlink : Cond.methodLink own i y ∈ lw_all) (hM : la_CR ω y cc' nL' ret (la_rm lev) (.ref b :: As) ws wf rf post) (q0 : Nat) {ci : Nat} {fs : List Value} {T : u_T} {N : Nat} (he : ws[q0]? = some (b, .inr (ci, fs))) (hc : la_cl[ci]? = some (y.cls, T, N)) (hk : As.length = k) (hlv : lv.length = nL) (hst : st = As.reverse ++ .ref b :: rest) (hw : (rest.map fun v => v.category).sum ≤ 8) (hR : (la_rm lev).frames + 1 ≤ R0.frames ∧ 8 + (nL' + 11) + (la_rm lev).locals ≤ R0.locals) (hf : n.1 ≤ R0.cells ∧ n.2 ≤ R0.slots) (hd : decode cc pc = .ok (.invokevirtual i, 3)) (kk : ∀ u : S, post u → la_At ω κ n (pc + 3) lv (.ref (rf u) :: rest) (wf u)) : la_At ω κ n pc lv st ws := la_callVr K (rm := la_rm lev) hok hlink hM q0 he hc hk hlv hst hw hR hf hd kk
theorem la_callVp (K : la_Cx ω κ cc nL own R0) {f : Int32} {lev : Nat} (hok : la_Vok y cc' nL' ret k) (hlink : Cond.methodLink own i y ∈ lw_all) (hM : la_CP ω y cc' nL' ret (la_rm lev) (.ref b :: As) ws f) (q0 : Nat) {ci : Nat} {fs : List Value} {T : u_T} {N : Nat} (he : ws[q0]? = some (b, .inr (ci, fs))) (hc : la_cl[ci]? = some (y.cls, T, N)) (hk : As.length = k) (hlv : lv.length = nL) (hst : st = As.reverse ++ .ref b :: rest) (hw : (rest.map fun v => v.category).sum ≤ 8) (hR : (la_rm lev).frames + 1 ≤ R0.frames ∧ 8 + (nL' + 11) + (la_rm lev).locals ≤ R0.locals) (hf : n.1 ≤ R0.cells ∧ n.2 ≤ R0.slots) (hd : decode cc pc = .ok (.invokevirtual i, 3)) (kk : la_At ω κ n (pc + 3) lv (.int f :: rest) ws) : la_At ω κ n pc lv st ws := la_callVi K (rm := la_rm lev) hok hlink hM q0 he hc hk hlv hst hw hR hf hd (fun r _ hp => by subst hp; exact kk)
theorem la_callSi (K : la_Cx ω κ cc nL own R0) {post : Int32 → S → Prop} (hok : la_Sok y cc' nL' ret k) (hlink : Cond.methodLink own i y ∈ lw_all) (hM : la_CI ω y cc' nL' ret rm (As) ws wf post) (hk : As.length = k) (hlv : lv.length = nL) (hst : st = As.reverse ++ rest) (hw : (rest.map fun v => v.category).sum ≤ 8) (hR : rm.frames + 1 ≤ R0.frames ∧ 8 + (nL' + 11) + rm.locals ≤ R0.locals) (hf : n.1 + rm.cells ≤ R0.cells ∧ n.2 + rm.slots ≤ R0.slots) (hd : decode cc pc = .ok (.invokestatic i, 3)) (kk : ∀ (r : Int32) (u : S), post r u → la_At ω κ (n.1 + rm.cells, n.2 + rm.slots) (pc + 3) lv (.int r :: rest) (wf u)) : la_At ω κ n pc lv st ws := by
  obtain ⟨hx, hb, hml, hown, hts, hK, hG, hA, hRe, hlk⟩ := K
  subst hRe
  intro H locs ls hP hD hS hl
  have hFc := la_fr hD hS hA
  refine va_calli (va_runS (As := As) (rest := rest) ⟨hx, hb, hml, hown, hts⟩ (hM H.size) (va_cwS k hts (lw_S hlink hok.1 hok.2.1 hok.2.2.1) rfl rfl rfl hok.2.2.2 hR) ⟨la_blind, fun U hU hW => la_pre hP hK hG hD hU hW⟩ rfl hk (hl.1.trans hlv) hst (lv_room hw) hd hf) hS (fun q _ h => hFc q h) hFc (fun r u t H1 locs1 ht hvm hpost hB hz1 hk1 hS1 => ?_)
  obtain ⟨hP1, hD1⟩ := hB
  rw [ht] at hP1
  exact kk r u hpost H1 locs1 ls hP1 (hD1.weaken (fun _ _ _ h => hFc _ h)) hS1 hl
theorem la_callSl (K : la_Cx ω κ cc nL own R0) {post : Int64 → S → Prop} (hok : la_Sok y cc' nL' ret k) (hlink : Cond.methodLink own i y ∈ lw_all) (hM : la_CL ω y cc' nL' ret rm (As) ws wf post) (hk : As.length = k) (hlv : lv.length = nL) (hst : st = As.reverse ++ rest) (hw : (rest.map fun v => v.category).sum ≤ 8) (hR : rm.frames + 1 ≤ R0.frames ∧ 8 + (nL' + 11) + rm.locals ≤ R0.locals) (hf : n.1 + rm.cells ≤ R0.cells ∧ n.2 + rm.slots ≤ R0.slots) (hd : decode cc pc = .ok (.invokestatic i, 3)) (kk : ∀ (r : Int64) (u : S), post r u → la_At ω κ (n.1 + rm.cells, n.2 + rm.slots) (pc + 3) lv (.long r :: rest) (wf u)) : la_At ω κ n pc lv st ws := by
  obtain ⟨hx, hb, hml, hown, hts, hK, hG, hA, hRe, hlk⟩ := K
  subst hRe
  intro H locs ls hP hD hS hl
  have hFc := la_fr hD hS hA
  refine va_calll (va_runS (As := As) (rest := rest) ⟨hx, hb, hml, hown, hts⟩ (hM H.size) (va_cwS k hts (lw_S hlink hok.1 hok.2.1 hok.2.2.1) rfl rfl rfl hok.2.2.2 hR) ⟨la_blind, fun U hU hW => la_pre hP hK hG hD hU hW⟩ rfl hk (hl.1.trans hlv) hst (lv_room hw) hd hf) hS (fun q _ h => hFc q h) hFc (fun r u t H1 locs1 ht hvm hpost hB hz1 hk1 hS1 => ?_)
  obtain ⟨hP1, hD1⟩ := hB
  rw [ht] at hP1
  exact kk r u hpost H1 locs1 ls hP1 (hD1.weaken (fun _ _ _ h => hFc _ h)) hS1 hl
theorem la_callSv (K : la_Cx ω κ cc nL own R0) {post : S → Prop} (hok : la_Sok y cc' nL' ret k) (hlink : Cond.methodLink own i y ∈ lw_all) (hM : la_CV ω y cc' nL' ret rm (As) ws wf post) (hk : As.length = k) (hlv : lv.length = nL) (hst : st = As.reverse ++ rest) (hw : (rest.map fun v => v.category).sum ≤ 8) (hR : rm.frames + 1 ≤ R0.frames ∧ 8 + (nL' + 11) + rm.locals ≤ R0.locals) (hf : n.1 + rm.cells ≤ R0.cells ∧ n.2 + rm.slots ≤ R0.slots) (hd : decode cc pc = .ok (.invokestatic i, 3)) (kk : ∀ u : S, post u → la_At ω κ (n.1 + rm.cells, n.2 + rm.slots) (pc + 3) lv (rest) (wf u)) : la_At ω κ n pc lv st ws := by
  obtain ⟨hx, hb, hml, hown, hts, hK, hG, hA, hRe, hlk⟩ := K
  subst hRe
  intro H locs ls hP hD hS hl
  have hFc := la_fr hD hS hA
  refine va_callv (va_runS (As := As) (rest := rest) ⟨hx, hb, hml, hown, hts⟩ (hM H.size) (va_cwS k hts (lw_S hlink hok.1 hok.2.1 hok.2.2.1) rfl rfl rfl hok.2.2.2 hR) ⟨la_blind, fun U hU hW => la_pre hP hK hG hD hU hW⟩ rfl hk (hl.1.trans hlv) hst (lv_room hw) hd hf) hS (fun q _ h => hFc q h) hFc (fun u t H1 locs1 ht hvm hpost hB hz1 hk1 hS1 => ?_)
  obtain ⟨hP1, hD1⟩ := hB
  rw [ht] at hP1
  exact kk u hpost H1 locs1 ls hP1 (hD1.weaken (fun _ _ _ h => hFc _ h)) hS1 hl
theorem la_callSr (K : la_Cx ω κ cc nL own R0) {rf : S → Nat} {post : S → Prop} (hok : la_Sok y cc' nL' ret k) (hlink : Cond.methodLink own i y ∈ lw_all) (hM : la_CR ω y cc' nL' ret rm (As) ws wf rf post) (hk : As.length = k) (hlv : lv.length = nL) (hst : st = As.reverse ++ rest) (hw : (rest.map fun v => v.category).sum ≤ 8) (hR : rm.frames + 1 ≤ R0.frames ∧ 8 + (nL' + 11) + rm.locals ≤ R0.locals) (hf : n.1 + rm.cells ≤ R0.cells ∧ n.2 + rm.slots ≤ R0.slots) (hd : decode cc pc = .ok (.invokestatic i, 3)) (kk : ∀ u : S, post u → la_At ω κ (n.1 + rm.cells, n.2 + rm.slots) (pc + 3) lv (.ref (rf u) :: rest) (wf u)) : la_At ω κ n pc lv st ws := by
  obtain ⟨hx, hb, hml, hown, hts, hK, hG, hA, hRe, hlk⟩ := K
  subst hRe
  intro H locs ls hP hD hS hl
  have hFc := la_fr hD hS hA
  refine va_callr (va_runS (As := As) (rest := rest) ⟨hx, hb, hml, hown, hts⟩ (hM H.size) (va_cwS k hts (lw_S hlink hok.1 hok.2.1 hok.2.2.1) rfl rfl rfl hok.2.2.2 hR) ⟨la_blind, fun U hU hW => la_pre hP hK hG hD hU hW⟩ rfl hk (hl.1.trans hlv) hst (lv_room hw) hd hf) hS (fun q _ h => hFc q h) hFc (fun u ra t H1 locs1 ht hvm hpost hB hz1 hk1 hS1 => ?_)
  obtain ⟨hra, hP1, hD1⟩ := hB
  subst hra
  rw [ht] at hP1
  exact kk u hpost H1 locs1 ls hP1 (hD1.weaken (fun _ _ _ h => hFc _ h)) hS1 hl
theorem la_callSi0 (K : la_Cx ω κ cc nL own R0) {lev : Nat} {post : Int32 → S → Prop} (hok : la_Sok y cc' nL' ret k) (hlink : Cond.methodLink own i y ∈ lw_all) (hM : la_CI ω y cc' nL' ret (la_rm lev) (As) ws wf post) (hk : As.length = k) (hlv : lv.length = nL) (hst : st = As.reverse ++ rest) (hw : (rest.map fun v => v.category).sum ≤ 8) (hR : (la_rm lev).frames + 1 ≤ R0.frames ∧ 8 + (nL' + 11) + (la_rm lev).locals ≤ R0.locals) (hf : n.1 ≤ R0.cells ∧ n.2 ≤ R0.slots) (hd : decode cc pc = .ok (.invokestatic i, 3)) (kk : ∀ (r : Int32) (u : S), post r u → la_At ω κ n (pc + 3) lv (.int r :: rest) (wf u)) : la_At ω κ n pc lv st ws := la_callSi K (rm := la_rm lev) hok hlink hM hk hlv hst hw hR hf hd kk
theorem la_callSl0 (K : la_Cx ω κ cc nL own R0) {lev : Nat} {post : Int64 → S → Prop} (hok : la_Sok y cc' nL' ret k) (hlink : Cond.methodLink own i y ∈ lw_all) (hM : la_CL ω y cc' nL' ret (la_rm lev) (As) ws wf post) (hk : As.length = k) (hlv : lv.length = nL) (hst : st = As.reverse ++ rest) (hw : (rest.map fun v => v.category).sum ≤ 8) (hR : (la_rm lev).frames + 1 ≤ R0.frames ∧ 8 + (nL' + 11) + (la_rm lev).locals ≤ R0.locals) (hf : n.1 ≤ R0.cells ∧ n.2 ≤ R0.slots) (hd : decode cc pc = .ok (.invokestatic i, 3)) (kk : ∀ (r : Int64) (u : S), post r u → la_At ω κ n (pc + 3) lv (.long r :: rest) (wf u)) : la_At ω κ n pc lv st ws := la_callSl K (rm := la_rm lev) hok hlink hM hk hlv hst hw hR hf hd kk
theorem la_callSv0 (K : la_Cx ω κ cc nL own R0) {lev : Nat} {post : S → Prop} (hok : la_Sok y cc' nL' ret k) (hlink : Cond.methodLink own i y ∈ lw_all) (hM : la_CV ω y cc' nL' ret (la_rm lev) (As) ws wf post) (hk : As.length = k) (hlv : lv.length = nL) (hst : st = As.reverse ++ rest) (hw : (rest.map fun v => v.category).sum ≤ 8) (hR : (la_rm lev).frames + 1 ≤ R0.frames ∧ 8 + (nL' + 11) + (la_rm lev).locals ≤ R0.locals) (hf : n.1 ≤ R0.cells ∧ n.2 ≤ R0.slots) (hd : decode cc pc = .ok (.invokestatic i, 3)) (kk : ∀ u : S, post u → la_At ω κ n (pc + 3) lv (rest) (wf u)) : la_At ω κ n pc lv st ws := la_callSv K (rm := la_rm lev) hok hlink hM hk hlv hst hw hR hf hd kk
theorem la_callSr0 (K : la_Cx ω κ cc nL own R0) {rf : S → Nat} {lev : Nat} {post : S → Prop} (hok : la_Sok y cc' nL' ret k) (hlink : Cond.methodLink own i y ∈ lw_all) (hM : la_CR ω y cc' nL' ret (la_rm lev) (As) ws wf rf post) (hk : As.length = k) (hlv : lv.length = nL) (hst : st = As.reverse ++ rest) (hw : (rest.map fun v => v.category).sum ≤ 8) (hR : (la_rm lev).frames + 1 ≤ R0.frames ∧ 8 + (nL' + 11) + (la_rm lev).locals ≤ R0.locals) (hf : n.1 ≤ R0.cells ∧ n.2 ≤ R0.slots) (hd : decode cc pc = .ok (.invokestatic i, 3)) (kk : ∀ u : S, post u → la_At ω κ n (pc + 3) lv (.ref (rf u) :: rest) (wf u)) : la_At ω κ n pc lv st ws := la_callSr K (rm := la_rm lev) hok hlink hM hk hlv hst hw hR hf hd kk
theorem la_callSp (K : la_Cx ω κ cc nL own R0) {f : Int32} {lev : Nat} (hok : la_Sok y cc' nL' ret k) (hlink : Cond.methodLink own i y ∈ lw_all) (hM : la_CP ω y cc' nL' ret (la_rm lev) (As) ws f) (hk : As.length = k) (hlv : lv.length = nL) (hst : st = As.reverse ++ rest) (hw : (rest.map fun v => v.category).sum ≤ 8) (hR : (la_rm lev).frames + 1 ≤ R0.frames ∧ 8 + (nL' + 11) + (la_rm lev).locals ≤ R0.locals) (hf : n.1 ≤ R0.cells ∧ n.2 ≤ R0.slots) (hd : decode cc pc = .ok (.invokestatic i, 3)) (kk : la_At ω κ n (pc + 3) lv (.int f :: rest) ws) : la_At ω κ n pc lv st ws := la_callSi K (rm := la_rm lev) hok hlink hM hk hlv hst hw hR hf hd (fun r _ hp => by subst hp; exact kk)
theorem la_callVNi (K : la_Cx ω κ cc nL own R0) {host : String} {post : Int32 → S → Prop} (hok : la_Vok y cc' nL' ret k) (hlink : Cond.methodLinkNest own i y host ∈ lw_tbl) (hM : la_CI ω y cc' nL' ret rm (.ref b :: As) ws wf post) (q0 : Nat) {ci : Nat} {fs : List Value} {T : u_T} {N : Nat} (he : ws[q0]? = some (b, .inr (ci, fs))) (hc : la_cl[ci]? = some (y.cls, T, N)) (hk : As.length = k) (hlv : lv.length = nL) (hst : st = As.reverse ++ .ref b :: rest) (hw : (rest.map fun v => v.category).sum ≤ 8) (hR : rm.frames + 1 ≤ R0.frames ∧ 8 + (nL' + 11) + rm.locals ≤ R0.locals) (hf : n.1 + rm.cells ≤ R0.cells ∧ n.2 + rm.slots ≤ R0.slots) (hd : decode cc pc = .ok (.invokevirtual i, 3)) (kk : ∀ (r : Int32) (u : S), post r u → la_At ω κ (n.1 + rm.cells, n.2 + rm.slots) (pc + 3) lv (.int r :: rest) (wf u)) : la_At ω κ n pc lv st ws := by
  obtain ⟨hx, hb, hml, hown, hts, hK, hG, hA, hRe, hlk⟩ := K
  subst hRe
  intro H locs ls hP hD hS hl
  have hFc := la_fr hD hS hA
  refine va_calli (va_runVN (host := host) (As := As) (rest := rest) ⟨hx, hb, hml, hown, hts⟩ (hM H.size) ⟨va_cnB k hts (lw_meth hok.2.2.2.1) rfl rfl rfl (la_Gu hG hlink rfl) (hts _ hok.2.2.1) hok.2.2.2.2 hR, hts _ hok.1, hts _ hok.2.1⟩ ⟨la_blind, va_recv hK hP hc he, fun U hU hW => la_pre hP hK hG hD hU hW⟩ rfl hk (hl.1.trans hlv) hst (lv_room hw) hd hf) hS (fun q _ h => hFc q h) hFc (fun r u t H1 locs1 ht hvm hpost hB hz1 hk1 hS1 => ?_)
  obtain ⟨hP1, hD1⟩ := hB
  rw [ht] at hP1
  exact kk r u hpost H1 locs1 ls hP1 (hD1.weaken (fun _ _ _ h => hFc _ h)) hS1 hl
theorem la_callVNl (K : la_Cx ω κ cc nL own R0) {host : String} {post : Int64 → S → Prop} (hok : la_Vok y cc' nL' ret k) (hlink : Cond.methodLinkNest own i y host ∈ lw_tbl) (hM : la_CL ω y cc' nL' ret rm (.ref b :: As) ws wf post) (q0 : Nat) {ci : Nat} {fs : List Value} {T : u_T} {N : Nat} (he : ws[q0]? = some (b, .inr (ci, fs))) (hc : la_cl[ci]? = some (y.cls, T, N)) (hk : As.length = k) (hlv : lv.length = nL) (hst : st = As.reverse ++ .ref b :: rest) (hw : (rest.map fun v => v.category).sum ≤ 8) (hR : rm.frames + 1 ≤ R0.frames ∧ 8 + (nL' + 11) + rm.locals ≤ R0.locals) (hf : n.1 + rm.cells ≤ R0.cells ∧ n.2 + rm.slots ≤ R0.slots) (hd : decode cc pc = .ok (.invokevirtual i, 3)) (kk : ∀ (r : Int64) (u : S), post r u → la_At ω κ (n.1 + rm.cells, n.2 + rm.slots) (pc + 3) lv (.long r :: rest) (wf u)) : la_At ω κ n pc lv st ws := by
  obtain ⟨hx, hb, hml, hown, hts, hK, hG, hA, hRe, hlk⟩ := K
  subst hRe
  intro H locs ls hP hD hS hl
  have hFc := la_fr hD hS hA
  refine va_calll (va_runVN (host := host) (As := As) (rest := rest) ⟨hx, hb, hml, hown, hts⟩ (hM H.size) ⟨va_cnB k hts (lw_meth hok.2.2.2.1) rfl rfl rfl (la_Gu hG hlink rfl) (hts _ hok.2.2.1) hok.2.2.2.2 hR, hts _ hok.1, hts _ hok.2.1⟩ ⟨la_blind, va_recv hK hP hc he, fun U hU hW => la_pre hP hK hG hD hU hW⟩ rfl hk (hl.1.trans hlv) hst (lv_room hw) hd hf) hS (fun q _ h => hFc q h) hFc (fun r u t H1 locs1 ht hvm hpost hB hz1 hk1 hS1 => ?_)
  obtain ⟨hP1, hD1⟩ := hB
  rw [ht] at hP1
  exact kk r u hpost H1 locs1 ls hP1 (hD1.weaken (fun _ _ _ h => hFc _ h)) hS1 hl
theorem la_callVNv (K : la_Cx ω κ cc nL own R0) {host : String} {post : S → Prop} (hok : la_Vok y cc' nL' ret k) (hlink : Cond.methodLinkNest own i y host ∈ lw_tbl) (hM : la_CV ω y cc' nL' ret rm (.ref b :: As) ws wf post) (q0 : Nat) {ci : Nat} {fs : List Value} {T : u_T} {N : Nat} (he : ws[q0]? = some (b, .inr (ci, fs))) (hc : la_cl[ci]? = some (y.cls, T, N)) (hk : As.length = k) (hlv : lv.length = nL) (hst : st = As.reverse ++ .ref b :: rest) (hw : (rest.map fun v => v.category).sum ≤ 8) (hR : rm.frames + 1 ≤ R0.frames ∧ 8 + (nL' + 11) + rm.locals ≤ R0.locals) (hf : n.1 + rm.cells ≤ R0.cells ∧ n.2 + rm.slots ≤ R0.slots) (hd : decode cc pc = .ok (.invokevirtual i, 3)) (kk : ∀ u : S, post u → la_At ω κ (n.1 + rm.cells, n.2 + rm.slots) (pc + 3) lv (rest) (wf u)) : la_At ω κ n pc lv st ws := by
  obtain ⟨hx, hb, hml, hown, hts, hK, hG, hA, hRe, hlk⟩ := K
  subst hRe
  intro H locs ls hP hD hS hl
  have hFc := la_fr hD hS hA
  refine va_callv (va_runVN (host := host) (As := As) (rest := rest) ⟨hx, hb, hml, hown, hts⟩ (hM H.size) ⟨va_cnB k hts (lw_meth hok.2.2.2.1) rfl rfl rfl (la_Gu hG hlink rfl) (hts _ hok.2.2.1) hok.2.2.2.2 hR, hts _ hok.1, hts _ hok.2.1⟩ ⟨la_blind, va_recv hK hP hc he, fun U hU hW => la_pre hP hK hG hD hU hW⟩ rfl hk (hl.1.trans hlv) hst (lv_room hw) hd hf) hS (fun q _ h => hFc q h) hFc (fun u t H1 locs1 ht hvm hpost hB hz1 hk1 hS1 => ?_)
  obtain ⟨hP1, hD1⟩ := hB
  rw [ht] at hP1
  exact kk u hpost H1 locs1 ls hP1 (hD1.weaken (fun _ _ _ h => hFc _ h)) hS1 hl
theorem la_callVNr (K : la_Cx ω κ cc nL own R0) {host : String} {rf : S → Nat} {post : S → Prop} (hok : la_Vok y cc' nL' ret k) (hlink : Cond.methodLinkNest own i y host ∈ lw_tbl) (hM : la_CR ω y cc' nL' ret rm (.ref b :: As) ws wf rf post) (q0 : Nat) {ci : Nat} {fs : List Value} {T : u_T} {N : Nat} (he : ws[q0]? = some (b, .inr (ci, fs))) (hc : la_cl[ci]? = some (y.cls, T, N)) (hk : As.length = k) (hlv : lv.length = nL) (hst : st = As.reverse ++ .ref b :: rest) (hw : (rest.map fun v => v.category).sum ≤ 8) (hR : rm.frames + 1 ≤ R0.frames ∧ 8 + (nL' + 11) + rm.locals ≤ R0.locals) (hf : n.1 + rm.cells ≤ R0.cells ∧ n.2 + rm.slots ≤ R0.slots) (hd : decode cc pc = .ok (.invokevirtual i, 3)) (kk : ∀ u : S, post u → la_At ω κ (n.1 + rm.cells, n.2 + rm.slots) (pc + 3) lv (.ref (rf u) :: rest) (wf u)) : la_At ω κ n pc lv st ws := by
  obtain ⟨hx, hb, hml, hown, hts, hK, hG, hA, hRe, hlk⟩ := K
  subst hRe
  intro H locs ls hP hD hS hl
  have hFc := la_fr hD hS hA
  refine va_callr (va_runVN (host := host) (As := As) (rest := rest) ⟨hx, hb, hml, hown, hts⟩ (hM H.size) ⟨va_cnB k hts (lw_meth hok.2.2.2.1) rfl rfl rfl (la_Gu hG hlink rfl) (hts _ hok.2.2.1) hok.2.2.2.2 hR, hts _ hok.1, hts _ hok.2.1⟩ ⟨la_blind, va_recv hK hP hc he, fun U hU hW => la_pre hP hK hG hD hU hW⟩ rfl hk (hl.1.trans hlv) hst (lv_room hw) hd hf) hS (fun q _ h => hFc q h) hFc (fun u ra t H1 locs1 ht hvm hpost hB hz1 hk1 hS1 => ?_)
  obtain ⟨hra, hP1, hD1⟩ := hB
  subst hra
  rw [ht] at hP1
  exact kk u hpost H1 locs1 ls hP1 (hD1.weaken (fun _ _ _ h => hFc _ h)) hS1 hl
theorem la_callVNi0 (K : la_Cx ω κ cc nL own R0) {host : String} {lev : Nat} {post : Int32 → S → Prop} (hok : la_Vok y cc' nL' ret k) (hlink : Cond.methodLinkNest own i y host ∈ lw_tbl) (hM : la_CI ω y cc' nL' ret (la_rm lev) (.ref b :: As) ws wf post) (q0 : Nat) {ci : Nat} {fs : List Value} {T : u_T} {N : Nat} (he : ws[q0]? = some (b, .inr (ci, fs))) (hc : la_cl[ci]? = some (y.cls, T, N)) (hk : As.length = k) (hlv : lv.length = nL) (hst : st = As.reverse ++ .ref b :: rest) (hw : (rest.map fun v => v.category).sum ≤ 8) (hR : (la_rm lev).frames + 1 ≤ R0.frames ∧ 8 + (nL' + 11) + (la_rm lev).locals ≤ R0.locals) (hf : n.1 ≤ R0.cells ∧ n.2 ≤ R0.slots) (hd : decode cc pc = .ok (.invokevirtual i, 3)) (kk : ∀ (r : Int32) (u : S), post r u → la_At ω κ n (pc + 3) lv (.int r :: rest) (wf u)) : la_At ω κ n pc lv st ws := la_callVNi K (host := host) (rm := la_rm lev) hok hlink hM q0 he hc hk hlv hst hw hR hf hd kk
theorem la_callVNl0 (K : la_Cx ω κ cc nL own R0) {host : String} {lev : Nat} {post : Int64 → S → Prop} (hok : la_Vok y cc' nL' ret k) (hlink : Cond.methodLinkNest own i y host ∈ lw_tbl) (hM : la_CL ω y cc' nL' ret (la_rm lev) (.ref b :: As) ws wf post) (q0 : Nat) {ci : Nat} {fs : List Value} {T : u_T} {N : Nat} (he : ws[q0]? = some (b, .inr (ci, fs))) (hc : la_cl[ci]? = some (y.cls, T, N)) (hk : As.length = k) (hlv : lv.length = nL) (hst : st = As.reverse ++ .ref b :: rest) (hw : (rest.map fun v => v.category).sum ≤ 8) (hR : (la_rm lev).frames + 1 ≤ R0.frames ∧ 8 + (nL' + 11) + (la_rm lev).locals ≤ R0.locals) (hf : n.1 ≤ R0.cells ∧ n.2 ≤ R0.slots) (hd : decode cc pc = .ok (.invokevirtual i, 3)) (kk : ∀ (r : Int64) (u : S), post r u → la_At ω κ n (pc + 3) lv (.long r :: rest) (wf u)) : la_At ω κ n pc lv st ws := la_callVNl K (host := host) (rm := la_rm lev) hok hlink hM q0 he hc hk hlv hst hw hR hf hd kk
theorem la_callVNv0 (K : la_Cx ω κ cc nL own R0) {host : String} {lev : Nat} {post : S → Prop} (hok : la_Vok y cc' nL' ret k) (hlink : Cond.methodLinkNest own i y host ∈ lw_tbl) (hM : la_CV ω y cc' nL' ret (la_rm lev) (.ref b :: As) ws wf post) (q0 : Nat) {ci : Nat} {fs : List Value} {T : u_T} {N : Nat} (he : ws[q0]? = some (b, .inr (ci, fs))) (hc : la_cl[ci]? = some (y.cls, T, N)) (hk : As.length = k) (hlv : lv.length = nL) (hst : st = As.reverse ++ .ref b :: rest) (hw : (rest.map fun v => v.category).sum ≤ 8) (hR : (la_rm lev).frames + 1 ≤ R0.frames ∧ 8 + (nL' + 11) + (la_rm lev).locals ≤ R0.locals) (hf : n.1 ≤ R0.cells ∧ n.2 ≤ R0.slots) (hd : decode cc pc = .ok (.invokevirtual i, 3)) (kk : ∀ u : S, post u → la_At ω κ n (pc + 3) lv (rest) (wf u)) : la_At ω κ n pc lv st ws := la_callVNv K (host := host) (rm := la_rm lev) hok hlink hM q0 he hc hk hlv hst hw hR hf hd kk
theorem la_callVNr0 (K : la_Cx ω κ cc nL own R0) {host : String} {rf : S → Nat} {lev : Nat} {post : S → Prop} (hok : la_Vok y cc' nL' ret k) (hlink : Cond.methodLinkNest own i y host ∈ lw_tbl) (hM : la_CR ω y cc' nL' ret (la_rm lev) (.ref b :: As) ws wf rf post) (q0 : Nat) {ci : Nat} {fs : List Value} {T : u_T} {N : Nat} (he : ws[q0]? = some (b, .inr (ci, fs))) (hc : la_cl[ci]? = some (y.cls, T, N)) (hk : As.length = k) (hlv : lv.length = nL) (hst : st = As.reverse ++ .ref b :: rest) (hw : (rest.map fun v => v.category).sum ≤ 8) (hR : (la_rm lev).frames + 1 ≤ R0.frames ∧ 8 + (nL' + 11) + (la_rm lev).locals ≤ R0.locals) (hf : n.1 ≤ R0.cells ∧ n.2 ≤ R0.slots) (hd : decode cc pc = .ok (.invokevirtual i, 3)) (kk : ∀ u : S, post u → la_At ω κ n (pc + 3) lv (.ref (rf u) :: rest) (wf u)) : la_At ω κ n pc lv st ws := la_callVNr K (host := host) (rm := la_rm lev) hok hlink hM q0 he hc hk hlv hst hw hR hf hd kk
theorem la_callVNp (K : la_Cx ω κ cc nL own R0) {host : String} {f : Int32} {lev : Nat} (hok : la_Vok y cc' nL' ret k) (hlink : Cond.methodLinkNest own i y host ∈ lw_tbl) (hM : la_CP ω y cc' nL' ret (la_rm lev) (.ref b :: As) ws f) (q0 : Nat) {ci : Nat} {fs : List Value} {T : u_T} {N : Nat} (he : ws[q0]? = some (b, .inr (ci, fs))) (hc : la_cl[ci]? = some (y.cls, T, N)) (hk : As.length = k) (hlv : lv.length = nL) (hst : st = As.reverse ++ .ref b :: rest) (hw : (rest.map fun v => v.category).sum ≤ 8) (hR : (la_rm lev).frames + 1 ≤ R0.frames ∧ 8 + (nL' + 11) + (la_rm lev).locals ≤ R0.locals) (hf : n.1 ≤ R0.cells ∧ n.2 ≤ R0.slots) (hd : decode cc pc = .ok (.invokevirtual i, 3)) (kk : la_At ω κ n (pc + 3) lv (.int f :: rest) ws) : la_At ω κ n pc lv st ws := la_callVNi K (host := host) (rm := la_rm lev) hok hlink hM q0 he hc hk hlv hst hw hR hf hd (fun r _ hp => by subst hp; exact kk)
theorem la_callSNi (K : la_Cx ω κ cc nL own R0) {host : String} {post : Int32 → S → Prop} (hok : la_Sok y cc' nL' ret k) (hlink : Cond.methodLinkNest own i y host ∈ lw_tbl) (hM : la_CI ω y cc' nL' ret rm (As) ws wf post) (hk : As.length = k) (hlv : lv.length = nL) (hst : st = As.reverse ++ rest) (hw : (rest.map fun v => v.category).sum ≤ 8) (hR : rm.frames + 1 ≤ R0.frames ∧ 8 + (nL' + 11) + rm.locals ≤ R0.locals) (hf : n.1 + rm.cells ≤ R0.cells ∧ n.2 + rm.slots ≤ R0.slots) (hd : decode cc pc = .ok (.invokestatic i, 3)) (kk : ∀ (r : Int32) (u : S), post r u → la_At ω κ (n.1 + rm.cells, n.2 + rm.slots) (pc + 3) lv (.int r :: rest) (wf u)) : la_At ω κ n pc lv st ws := by
  obtain ⟨hx, hb, hml, hown, hts, hK, hG, hA, hRe, hlk⟩ := K
  subst hRe
  intro H locs ls hP hD hS hl
  have hFc := la_fr hD hS hA
  refine va_calli (va_runSN (host := host) (As := As) (rest := rest) ⟨hx, hb, hml, hown, hts⟩ (hM H.size) ⟨va_cnB k hts (lw_meth hok.2.2.1) rfl rfl rfl (la_Gu hG hlink rfl) (hts _ hok.2.1) hok.2.2.2 hR, hts _ hok.1, trivial⟩ ⟨la_blind, fun U hU hW => la_pre hP hK hG hD hU hW⟩ rfl hk (hl.1.trans hlv) hst (lv_room hw) hd hf) hS (fun q _ h => hFc q h) hFc (fun r u t H1 locs1 ht hvm hpost hB hz1 hk1 hS1 => ?_)
  obtain ⟨hP1, hD1⟩ := hB
  rw [ht] at hP1
  exact kk r u hpost H1 locs1 ls hP1 (hD1.weaken (fun _ _ _ h => hFc _ h)) hS1 hl
theorem la_callSNl (K : la_Cx ω κ cc nL own R0) {host : String} {post : Int64 → S → Prop} (hok : la_Sok y cc' nL' ret k) (hlink : Cond.methodLinkNest own i y host ∈ lw_tbl) (hM : la_CL ω y cc' nL' ret rm (As) ws wf post) (hk : As.length = k) (hlv : lv.length = nL) (hst : st = As.reverse ++ rest) (hw : (rest.map fun v => v.category).sum ≤ 8) (hR : rm.frames + 1 ≤ R0.frames ∧ 8 + (nL' + 11) + rm.locals ≤ R0.locals) (hf : n.1 + rm.cells ≤ R0.cells ∧ n.2 + rm.slots ≤ R0.slots) (hd : decode cc pc = .ok (.invokestatic i, 3)) (kk : ∀ (r : Int64) (u : S), post r u → la_At ω κ (n.1 + rm.cells, n.2 + rm.slots) (pc + 3) lv (.long r :: rest) (wf u)) : la_At ω κ n pc lv st ws := by
  obtain ⟨hx, hb, hml, hown, hts, hK, hG, hA, hRe, hlk⟩ := K
  subst hRe
  intro H locs ls hP hD hS hl
  have hFc := la_fr hD hS hA
  refine va_calll (va_runSN (host := host) (As := As) (rest := rest) ⟨hx, hb, hml, hown, hts⟩ (hM H.size) ⟨va_cnB k hts (lw_meth hok.2.2.1) rfl rfl rfl (la_Gu hG hlink rfl) (hts _ hok.2.1) hok.2.2.2 hR, hts _ hok.1, trivial⟩ ⟨la_blind, fun U hU hW => la_pre hP hK hG hD hU hW⟩ rfl hk (hl.1.trans hlv) hst (lv_room hw) hd hf) hS (fun q _ h => hFc q h) hFc (fun r u t H1 locs1 ht hvm hpost hB hz1 hk1 hS1 => ?_)
  obtain ⟨hP1, hD1⟩ := hB
  rw [ht] at hP1
  exact kk r u hpost H1 locs1 ls hP1 (hD1.weaken (fun _ _ _ h => hFc _ h)) hS1 hl
theorem la_callSNv (K : la_Cx ω κ cc nL own R0) {host : String} {post : S → Prop} (hok : la_Sok y cc' nL' ret k) (hlink : Cond.methodLinkNest own i y host ∈ lw_tbl) (hM : la_CV ω y cc' nL' ret rm (As) ws wf post) (hk : As.length = k) (hlv : lv.length = nL) (hst : st = As.reverse ++ rest) (hw : (rest.map fun v => v.category).sum ≤ 8) (hR : rm.frames + 1 ≤ R0.frames ∧ 8 + (nL' + 11) + rm.locals ≤ R0.locals) (hf : n.1 + rm.cells ≤ R0.cells ∧ n.2 + rm.slots ≤ R0.slots) (hd : decode cc pc = .ok (.invokestatic i, 3)) (kk : ∀ u : S, post u → la_At ω κ (n.1 + rm.cells, n.2 + rm.slots) (pc + 3) lv (rest) (wf u)) : la_At ω κ n pc lv st ws := by
  obtain ⟨hx, hb, hml, hown, hts, hK, hG, hA, hRe, hlk⟩ := K
  subst hRe
  intro H locs ls hP hD hS hl
  have hFc := la_fr hD hS hA
  refine va_callv (va_runSN (host := host) (As := As) (rest := rest) ⟨hx, hb, hml, hown, hts⟩ (hM H.size) ⟨va_cnB k hts (lw_meth hok.2.2.1) rfl rfl rfl (la_Gu hG hlink rfl) (hts _ hok.2.1) hok.2.2.2 hR, hts _ hok.1, trivial⟩ ⟨la_blind, fun U hU hW => la_pre hP hK hG hD hU hW⟩ rfl hk (hl.1.trans hlv) hst (lv_room hw) hd hf) hS (fun q _ h => hFc q h) hFc (fun u t H1 locs1 ht hvm hpost hB hz1 hk1 hS1 => ?_)
  obtain ⟨hP1, hD1⟩ := hB
  rw [ht] at hP1
  exact kk u hpost H1 locs1 ls hP1 (hD1.weaken (fun _ _ _ h => hFc _ h)) hS1 hl
theorem la_callSNr (K : la_Cx ω κ cc nL own R0) {host : String} {rf : S → Nat} {post : S → Prop} (hok : la_Sok y cc' nL' ret k) (hlink : Cond.methodLinkNest own i y host ∈ lw_tbl) (hM : la_CR ω y cc' nL' ret rm (As) ws wf rf post) (hk : As.length = k) (hlv : lv.length = nL) (hst : st = As.reverse ++ rest) (hw : (rest.map fun v => v.category).sum ≤ 8) (hR : rm.frames + 1 ≤ R0.frames ∧ 8 + (nL' + 11) + rm.locals ≤ R0.locals) (hf : n.1 + rm.cells ≤ R0.cells ∧ n.2 + rm.slots ≤ R0.slots) (hd : decode cc pc = .ok (.invokestatic i, 3)) (kk : ∀ u : S, post u → la_At ω κ (n.1 + rm.cells, n.2 + rm.slots) (pc + 3) lv (.ref (rf u) :: rest) (wf u)) : la_At ω κ n pc lv st ws := by
  obtain ⟨hx, hb, hml, hown, hts, hK, hG, hA, hRe, hlk⟩ := K
  subst hRe
  intro H locs ls hP hD hS hl
  have hFc := la_fr hD hS hA
  refine va_callr (va_runSN (host := host) (As := As) (rest := rest) ⟨hx, hb, hml, hown, hts⟩ (hM H.size) ⟨va_cnB k hts (lw_meth hok.2.2.1) rfl rfl rfl (la_Gu hG hlink rfl) (hts _ hok.2.1) hok.2.2.2 hR, hts _ hok.1, trivial⟩ ⟨la_blind, fun U hU hW => la_pre hP hK hG hD hU hW⟩ rfl hk (hl.1.trans hlv) hst (lv_room hw) hd hf) hS (fun q _ h => hFc q h) hFc (fun u ra t H1 locs1 ht hvm hpost hB hz1 hk1 hS1 => ?_)
  obtain ⟨hra, hP1, hD1⟩ := hB
  subst hra
  rw [ht] at hP1
  exact kk u hpost H1 locs1 ls hP1 (hD1.weaken (fun _ _ _ h => hFc _ h)) hS1 hl
theorem la_callSNi0 (K : la_Cx ω κ cc nL own R0) {host : String} {lev : Nat} {post : Int32 → S → Prop} (hok : la_Sok y cc' nL' ret k) (hlink : Cond.methodLinkNest own i y host ∈ lw_tbl) (hM : la_CI ω y cc' nL' ret (la_rm lev) (As) ws wf post) (hk : As.length = k) (hlv : lv.length = nL) (hst : st = As.reverse ++ rest) (hw : (rest.map fun v => v.category).sum ≤ 8) (hR : (la_rm lev).frames + 1 ≤ R0.frames ∧ 8 + (nL' + 11) + (la_rm lev).locals ≤ R0.locals) (hf : n.1 ≤ R0.cells ∧ n.2 ≤ R0.slots) (hd : decode cc pc = .ok (.invokestatic i, 3)) (kk : ∀ (r : Int32) (u : S), post r u → la_At ω κ n (pc + 3) lv (.int r :: rest) (wf u)) : la_At ω κ n pc lv st ws := la_callSNi K (host := host) (rm := la_rm lev) hok hlink hM hk hlv hst hw hR hf hd kk
theorem la_callSNl0 (K : la_Cx ω κ cc nL own R0) {host : String} {lev : Nat} {post : Int64 → S → Prop} (hok : la_Sok y cc' nL' ret k) (hlink : Cond.methodLinkNest own i y host ∈ lw_tbl) (hM : la_CL ω y cc' nL' ret (la_rm lev) (As) ws wf post) (hk : As.length = k) (hlv : lv.length = nL) (hst : st = As.reverse ++ rest) (hw : (rest.map fun v => v.category).sum ≤ 8) (hR : (la_rm lev).frames + 1 ≤ R0.frames ∧ 8 + (nL' + 11) + (la_rm lev).locals ≤ R0.locals) (hf : n.1 ≤ R0.cells ∧ n.2 ≤ R0.slots) (hd : decode cc pc = .ok (.invokestatic i, 3)) (kk : ∀ (r : Int64) (u : S), post r u → la_At ω κ n (pc + 3) lv (.long r :: rest) (wf u)) : la_At ω κ n pc lv st ws := la_callSNl K (host := host) (rm := la_rm lev) hok hlink hM hk hlv hst hw hR hf hd kk
theorem la_callSNv0 (K : la_Cx ω κ cc nL own R0) {host : String} {lev : Nat} {post : S → Prop} (hok : la_Sok y cc' nL' ret k) (hlink : Cond.methodLinkNest own i y host ∈ lw_tbl) (hM : la_CV ω y cc' nL' ret (la_rm lev) (As) ws wf post) (hk : As.length = k) (hlv : lv.length = nL) (hst : st = As.reverse ++ rest) (hw : (rest.map fun v => v.category).sum ≤ 8) (hR : (la_rm lev).frames + 1 ≤ R0.frames ∧ 8 + (nL' + 11) + (la_rm lev).locals ≤ R0.locals) (hf : n.1 ≤ R0.cells ∧ n.2 ≤ R0.slots) (hd : decode cc pc = .ok (.invokestatic i, 3)) (kk : ∀ u : S, post u → la_At ω κ n (pc + 3) lv (rest) (wf u)) : la_At ω κ n pc lv st ws := la_callSNv K (host := host) (rm := la_rm lev) hok hlink hM hk hlv hst hw hR hf hd kk
theorem la_callSNr0 (K : la_Cx ω κ cc nL own R0) {host : String} {rf : S → Nat} {lev : Nat} {post : S → Prop} (hok : la_Sok y cc' nL' ret k) (hlink : Cond.methodLinkNest own i y host ∈ lw_tbl) (hM : la_CR ω y cc' nL' ret (la_rm lev) (As) ws wf rf post) (hk : As.length = k) (hlv : lv.length = nL) (hst : st = As.reverse ++ rest) (hw : (rest.map fun v => v.category).sum ≤ 8) (hR : (la_rm lev).frames + 1 ≤ R0.frames ∧ 8 + (nL' + 11) + (la_rm lev).locals ≤ R0.locals) (hf : n.1 ≤ R0.cells ∧ n.2 ≤ R0.slots) (hd : decode cc pc = .ok (.invokestatic i, 3)) (kk : ∀ u : S, post u → la_At ω κ n (pc + 3) lv (.ref (rf u) :: rest) (wf u)) : la_At ω κ n pc lv st ws := la_callSNr K (host := host) (rm := la_rm lev) hok hlink hM hk hlv hst hw hR hf hd kk
theorem la_callSNp (K : la_Cx ω κ cc nL own R0) {host : String} {f : Int32} {lev : Nat} (hok : la_Sok y cc' nL' ret k) (hlink : Cond.methodLinkNest own i y host ∈ lw_tbl) (hM : la_CP ω y cc' nL' ret (la_rm lev) (As) ws f) (hk : As.length = k) (hlv : lv.length = nL) (hst : st = As.reverse ++ rest) (hw : (rest.map fun v => v.category).sum ≤ 8) (hR : (la_rm lev).frames + 1 ≤ R0.frames ∧ 8 + (nL' + 11) + (la_rm lev).locals ≤ R0.locals) (hf : n.1 ≤ R0.cells ∧ n.2 ≤ R0.slots) (hd : decode cc pc = .ok (.invokestatic i, 3)) (kk : la_At ω κ n (pc + 3) lv (.int f :: rest) ws) : la_At ω κ n pc lv st ws := la_callSNi K (host := host) (rm := la_rm lev) hok hlink hM hk hlv hst hw hR hf hd (fun r _ hp => by subst hp; exact kk)
end LAD
