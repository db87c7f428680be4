/-! CALLS UNDER A PART OF THE WORLD THAT THE CALLEE DOES NOT TOUCH; worlds in another order. Printed by mkframe.py. -/
section LFR
variable {D : va_G} {cl : List vw_C} {A : Nat → Prop} {ws ws' wx : va_W} {H H1 : Heap}
theorem lf_L {k : Nat} {q : Nat × va_E} (h : ws[k]? = some q) : (ws ++ wx)[k]? = some q := by rw [List.getElem?_append_left (List.getElem?_eq_some_iff.mp h).1]; exact h
theorem lf_R {k : Nat} {q : Nat × va_E} (h : wx[k]? = some q) : (ws ++ wx)[ws.length + k]? = some q := by rw [List.getElem?_append_right (by omega), Nat.add_sub_cancel_left]; exact h
theorem lf_or {k : Nat} {q : Nat × va_E} (h : (ws ++ wx)[k]? = some q) : ws[k]? = some q ∨ ∃ j, k = ws.length + j ∧ wx[j]? = some q := by
  by_cases hk : k < ws.length
  · rw [List.getElem?_append_left hk] at h; exact Or.inl h
  · rw [List.getElem?_append_right (by omega)] at h
    exact Or.inr ⟨k - ws.length, by omega, h⟩
theorem lf_P1 (h : va_P D cl (ws ++ wx) H) : va_P D cl ws H := fun k q hk => h k q (lf_L hk)
theorem lf_D1 (h : va_D A (ws ++ wx)) : va_D A ws := ⟨fun i j p q hi hj e => h.1 i j p q (lf_L hi) (lf_L hj) e, fun k q hk => h.2 k q (lf_L hk)⟩
theorem lf_apart (hP : va_P D cl (ws ++ wx) H) (hD : va_D A (ws ++ wx)) {k : Nat} {q : Nat × va_E} (hq : wx[k]? = some q) : q.1 < H.size ∧ ¬ va_A ws H.size q.1 := by
  have h1 : q.1 < H.size := (hP _ q (lf_R hq)).lt
  refine ⟨h1, ?_⟩
  rintro (⟨j, e, hj⟩ | h2)
  · have := hD.1 j (ws.length + k) (q.1, e) q (lf_L hj) (lf_R hq) rfl
    have h3 := (List.getElem?_eq_some_iff.mp hj).1
    omega
  · omega
theorem lf_P (h1 : va_P D cl ws' H1) (hP : va_P D cl (ws ++ wx) H) (hD : va_D A (ws ++ wx)) (hk : ∀ q : Nat, q < H.size → ¬ va_A ws H.size q → H1[q]? = H[q]?) : va_P D cl (ws' ++ wx) H1 := by
  intro k q hq
  rcases lf_or hq with h | ⟨j, -, h⟩
  · exact h1 k q h
  · obtain ⟨a1, a2⟩ := lf_apart hP hD h
    have hx : va_P D cl [q] H := fun i x hx => by
      have : i = 0 := by have := (List.getElem?_eq_some_iff.mp hx).1; simp only [List.length_cons, List.length_nil] at this; omega
      subst this
      cases hx
      exact hP _ q (lf_R h)
    exact (hx.kept (fun i x hx => by
      have : i = 0 := by have := (List.getElem?_eq_some_iff.mp hx).1; simp only [List.length_cons, List.length_nil] at this; omega
      subst this
      cases hx
      exact hk q.1 a1 a2)) 0 q rfl
theorem lf_D (h1 : va_D (va_A ws H.size) ws') (hP : va_P D cl (ws ++ wx) H) (hD : va_D A (ws ++ wx)) (hA : ∀ q, va_A ws H.size q → A q) : va_D A (ws' ++ wx) := by
  refine ⟨fun i j p q hi hj e => ?_, fun k q hk => ?_⟩
  · rcases lf_or hi with h2 | ⟨i', ei, h2⟩
    · rcases lf_or hj with h3 | ⟨j', ej, h3⟩
      · exact h1.1 i j p q h2 h3 e
      · exact absurd (e ▸ h1.2 i p h2) (lf_apart hP hD h3).2
    · rcases lf_or hj with h3 | ⟨j', ej, h3⟩
      · exact absurd (e.symm ▸ h1.2 j q h3) (lf_apart hP hD h2).2
      · have := hD.1 _ _ p q (lf_R h2) (lf_R h3) e
        omega
  · rcases lf_or hk with h2 | ⟨j, -, h2⟩
    · exact hA _ (h1.2 k q h2)
    · exact hD.2 _ q (lf_R h2)
end LFR
section LFP
variable {ω : la_O} {κ : la_K} {n : Nat × Nat} {pc : Nat} {lv : List (Option Value)} {st : List Value} {ws ws' : va_W}
/-- the world in another order -/
theorem la_At_perm (hp : ws.Perm ws') (h : la_At ω κ n pc lv st ws) : la_At ω κ n pc lv st ws' := by
  intro H locs ls hP hD hS hl
  have hn : (ws'.map Prod.fst).Nodup := by
    rw [List.nodup_iff_pairwise_ne, List.pairwise_iff_getElem]
    intro i j hi hj hij e
    simp only [List.length_map] at hi hj
    rw [List.getElem_map, List.getElem_map] at e
    have := hD.1 i j ws'[i] ws'[j] (List.getElem?_eq_getElem hi) (List.getElem?_eq_getElem hj) e
    omega
  have hn2 : (ws.map Prod.fst).Nodup := (hp.map Prod.fst).nodup_iff.mpr hn
  refine h H locs ls (fun k q hk => ?_) ⟨fun i j p q hi hj e => ?_, fun k q hk => ?_⟩ hS hl
  · obtain ⟨k', hk', e⟩ := List.getElem_of_mem (hp.mem_iff.mp (List.mem_of_getElem? hk))
    exact hP k' q (by rw [List.getElem?_eq_getElem hk', e])
  · obtain ⟨hi1, hi2⟩ := List.getElem?_eq_some_iff.mp hi
    obtain ⟨hj1, hj2⟩ := List.getElem?_eq_some_iff.mp hj
    have hpw := List.pairwise_iff_getElem.mp (List.nodup_iff_pairwise_ne.mp hn2)
    rcases Nat.lt_trichotomy i j with h9 | h9 | h9
    · exact absurd (by rw [List.getElem_map, List.getElem_map, hi2, hj2]; exact e) (hpw i j (by rw [List.length_map]; exact hi1) (by rw [List.length_map]; exact hj1) h9)
    · exact h9
    · exact absurd (by rw [List.getElem_map, List.getElem_map, hi2, hj2]; exact e.symm) (hpw j i (by rw [List.length_map]; exact hj1) (by rw [List.length_map]; exact hi1) h9)
  · obtain ⟨k', hk', e⟩ := List.getElem_of_mem (hp.mem_iff.mp (List.mem_of_getElem? hk))
    exact hD.2 k' q (by rw [List.getElem?_eq_getElem hk', e])
end LFP
section LFC
variable {ω : la_O} {κ : la_K} {cc : ByteArray} {nL : Nat} {own : String} {R0 : Room} {n : Nat × Nat} {pc : Nat} {lv : List (Option Value)} {st : List Value} {ws wx : va_W}
variable {y : MethodName} {cc' : ByteArray} {nL' : Nat} {ret : Option FieldType} {k : Nat} {rm : Room} {As rest : List Value} {S : Type} {wf : S → va_W} {i b : Nat}
theorem la_callViF (K : la_Cx ω κ cc nL own R0) {post : Int32 → S → Prop} (hok : la_Vok y cc' nL' ret k) (hlink : Cond.methodLink own i y ∈ lw_all) (hM : la_CI ω y cc' nL' ret rm (.ref b :: As) ws wf post) (q0 : Nat) {ci : Nat} {fs : List Value} {T : u_T} {N : Nat} (he : ws[q0]? = some (b, .inr (ci, fs))) (hc : la_cl[ci]? = some (y.cls, T, N)) (hk : As.length = k) (hlv : lv.length = nL) (hst : st = As.reverse ++ .ref b :: rest) (hw : (rest.map fun v => v.category).sum ≤ 8) (hR : rm.frames + 1 ≤ R0.frames ∧ 8 + (nL' + 11) + rm.locals ≤ R0.locals) (hf : n.1 + rm.cells ≤ R0.cells ∧ n.2 + rm.slots ≤ R0.slots) (hd : decode cc pc = .ok (.invokevirtual i, 3)) (kk : ∀ (r : Int32) (u : S), post r u → la_At ω κ (n.1 + rm.cells, n.2 + rm.slots) (pc + 3) lv (.int r :: rest) (wf u ++ wx)) : la_At ω κ n pc lv st (ws ++ wx) := by
  obtain ⟨hx, hb, hml, hown, hts, hK, hG, hA, hRe, hlk⟩ := K
  subst hRe
  intro H locs ls hPx hDx hS hl
  have hP := lf_P1 hPx
  have hD := lf_D1 hDx
  have hFc := la_fr hD hS hA
  refine va_calli (va_runV (As := As) (rest := rest) ⟨hx, hb, hml, hown, hts⟩ (hM H.size) (cwV k hts (lw_V hlink hok.1 hok.2.1 hok.2.2.1 hok.2.2.2.1) rfl rfl rfl ⟨rfl, hok.2.2.2.2⟩ hR) ⟨la_blind, va_recv hK hP hc he, fun U hU hW => la_pre hP hK hG hD hU hW⟩ rfl hk (hl.1.trans hlv) hst (lv_room hw) hd hf) hS (fun q _ h => hFc q h) hFc (fun r u t H1 locs1 ht hvm hpost hB hz1 hk1 hS1 => ?_)
  obtain ⟨hP1, hD1⟩ := hB
  rw [ht] at hP1
  have hP2 := lf_P hP1 hPx hDx hk1
  have hD2 := lf_D hD1 hPx hDx (fun q h => hFc q h)
  exact kk r u hpost H1 locs1 ls hP2 hD2 hS1 hl
theorem la_callVlF (K : la_Cx ω κ cc nL own R0) {post : Int64 → S → Prop} (hok : la_Vok y cc' nL' ret k) (hlink : Cond.methodLink own i y ∈ lw_all) (hM : la_CL ω y cc' nL' ret rm (.ref b :: As) ws wf post) (q0 : Nat) {ci : Nat} {fs : List Value} {T : u_T} {N : Nat} (he : ws[q0]? = some (b, .inr (ci, fs))) (hc : la_cl[ci]? = some (y.cls, T, N)) (hk : As.length = k) (hlv : lv.length = nL) (hst : st = As.reverse ++ .ref b :: rest) (hw : (rest.map fun v => v.category).sum ≤ 8) (hR : rm.frames + 1 ≤ R0.frames ∧ 8 + (nL' + 11) + rm.locals ≤ R0.locals) (hf : n.1 + rm.cells ≤ R0.cells ∧ n.2 + rm.slots ≤ R0.slots) (hd : decode cc pc = .ok (.invokevirtual i, 3)) (kk : ∀ (r : Int64) (u : S), post r u → la_At ω κ (n.1 + rm.cells, n.2 + rm.slots) (pc + 3) lv (.long r :: rest) (wf u ++ wx)) : la_At ω κ n pc lv st (ws ++ wx) := by
  obtain ⟨hx, hb, hml, hown, hts, hK, hG, hA, hRe, hlk⟩ := K
  subst hRe
  intro H locs ls hPx hDx hS hl
  have hP := lf_P1 hPx
  have hD := lf_D1 hDx
  have hFc := la_fr hD hS hA
  refine va_calll (va_runV (As := As) (rest := rest) ⟨hx, hb, hml, hown, hts⟩ (hM H.size) (cwV k hts (lw_V hlink hok.1 hok.2.1 hok.2.2.1 hok.2.2.2.1) rfl rfl rfl ⟨rfl, hok.2.2.2.2⟩ hR) ⟨la_blind, va_recv hK hP hc he, fun U hU hW => la_pre hP hK hG hD hU hW⟩ rfl hk (hl.1.trans hlv) hst (lv_room hw) hd hf) hS (fun q _ h => hFc q h) hFc (fun r u t H1 locs1 ht hvm hpost hB hz1 hk1 hS1 => ?_)
  obtain ⟨hP1, hD1⟩ := hB
  rw [ht] at hP1
  have hP2 := lf_P hP1 hPx hDx hk1
  have hD2 := lf_D hD1 hPx hDx (fun q h => hFc q h)
  exact kk r u hpost H1 locs1 ls hP2 hD2 hS1 hl
theorem lt_atF {Z : State → Prop} {hh : List (Nat × Nat × Nat × Nat)} {post : lt_R → S → Prop} (K : la_Cx ω κ cc nL own R0) (hM : lt_C ω y cc' nL' ret hh rm Z As ws wf post) (hZb : lt_Zb Z) (hy : plainName y.cls = true) (hcode : lt_Code (la_s κ) y cc' nL' ret hh) (hinv : lt_Inv ω κ n pc st rest (ws ++ wx) y As) {ig : Instr} {len : Nat} (hd : decode cc pc = .ok (ig, len))
    (hlv : lv.length = nL) (hw : (rest.map fun v => v.category).sum ≤ 8) (hR : rm.frames + 1 ≤ R0.frames ∧ 8 + (nL' + 11) + rm.locals ≤ R0.locals) (hf : n.1 + rm.cells ≤ R0.cells ∧ n.2 + rm.slots ≤ R0.slots)
    (hZ : ∀ (H : Heap) (locs : List Loc), va_S (la_A κ) (la_s κ).heap H locs → ∀ U : State, U.heap = H → (la_s κ).WarmedH U.vm → Z U)
    (kk : ∀ (v : Option Value) (u : S), post (.inl v) u → la_At ω κ (n.1 + rm.cells, n.2 + rm.slots) (pc + len) lv (v.toList ++ rest) (wf u ++ wx))
    (kt : ∀ (X : String) (u : S), post (.inr X) u → la_Th ω κ (n.1 + rm.cells, n.2 + rm.slots) pc lv X (wf u ++ wx)) : la_At ω κ n pc lv st (ws ++ wx) := by
  obtain ⟨hx, hb, hml, hown, hts, hK, hG, hA, hRe, hlk⟩ := K
  subst hRe
  obtain ⟨mk, methk, ck, hn, hmk, hck, hcc, hnk, hhk, hrk, hlkk⟩ := hcode
  intro H locs ls hPx hDx hS hl T hT X
  have hP := lf_P1 hPx
  have hD := lf_D1 hDx
  have hFc := la_fr hD hS hA
  obtain ⟨vm₁, X₁, hgo⟩ := hinv H locs ls hPx hDx hS T hT X mk hn
  have hw2 : 2 * (F0 (la_m κ) pc ls rest).monitorRoom + ((F0 (la_m κ) pc ls rest).stack.map fun v => v.category).sum ≤ 8 := lv_room hw
  obtain ⟨o, t, T', L, hq, hL, X', e1, e2, kr, kth⟩ := lt_go X₁ hx (hM H.size) (fun a U g mk h => ⟨la_blind a U g mk h.1, hZb U g mk a h.2⟩) hy (g := F0 (la_m κ) pc ls rest) rfl (by rw [hml, ← hlv]; exact hl.1) (by rw [hb]; exact hd) (a := As.toArray) hn hmk hck hcc hnk hrk hlkk hhk hR.1 (by omega) hf.1 hf.2
    (pay_in hts lw_self) ⟨la_pre hP hK hG hD hT X₁.warmed, hZ H locs hS _ hT X₁.warmed⟩
  obtain ⟨⟨r, u, hr, hp, hP1, hD1⟩, hz, hk⟩ := hq
  have h0 : ((T.setVm vm₁).calling (F0 (la_m κ) pc ls rest) mk As.toArray).heap = H := hT
  rw [h0] at hz hk
  have hS1 : va_S (la_A κ) (la_s κ).heap t.heap (locs ++ L) := ⟨Nat.le_trans hS.1 hz, fun q h1 h2 => by rw [hk q (Nat.lt_of_lt_of_le h1 hS.1) (fun z => h2 (hFc q z))]; exact hS.2.1 q h1 h2, fun q hq => by
      rcases List.mem_append.mp hq with h | h
      · exact hS.2.2 q h
      · exact hFc _ (hL q h)⟩
  have hP2 := lf_P hP1 hPx hDx hk
  have hD2 := lf_D hD1 hPx hDx (fun q h => hFc q h)
  cases r with
  | inl v =>
    obtain ⟨t2, a1, b1⟩ := kk v u hp t.heap (locs ++ L) ls hP2 hD2 hS1 hl T' e1 X'
    exact ⟨t2, hgo t2 (fun acts => (kr v hr acts).trans a1), b1⟩
  | inr X0 =>
    obtain ⟨a, cell, ho, c1, c2, c3⟩ := hr
    obtain ⟨t2, a1, b1⟩ := kt X0 u hp t.heap (locs ++ L) ls a cell rest hP2 hD2 hS1 hl c1 c2 (by rw [← X'.warmed.alike.findClass, e2]; exact c3) T' e1 X'
    exact ⟨t2, hgo t2 (fun acts => (kth a ho acts).trans a1), b1⟩
end LFC
