/-! SUPER CALLS. Printed by mksup.py. -/
def la_Uok (own : String) (y : MethodName) (cc : ByteArray) (nL : Nat) (ret : Option FieldType) (k : Nat) : Prop := (Cond.sameMethod y.cls y.cls y.name y.desc ∈ lw_all ∧ Cond.superclass own y.cls ∈ lw_all ∧ Cond.instanceMethod y ∈ lw_all ∧ Cond.initialized y.cls ∈ lw_all ∧ Cond.code y cc nL ret ∈ lw_all) ∧ y.name ≠ "<init>" ∧ (parseMethodDescriptor y.desc).map (fun d => d.parameters.length) = some k
theorem lw_SU {own : String} {idx : Nat} {y : MethodName} {b : ByteArray} {L k : Nat} {r : Option FieldType} (h1 : Cond.methodLink own idx y ∈ lw_all) (h : la_Uok own y b L r k) : GoodIn lw_all (va_wsSU own idx y (ws_ y b L r)) := by
  obtain ⟨⟨h2, h3, h4, h5, h6⟩, -⟩ := h
  refine lw_app ?_ (lw_meth h6)
  intro w hw
  simp only [List.mem_cons, List.not_mem_nil, or_false] at hw
  rcases hw with e | e | e | e | e <;> rw [e] <;> assumption
section LAU
variable {ω : la_O} {κ : la_K} {cc : ByteArray} {nL : Nat} {own : String} {R0 : Room} {n : Nat × Nat} {pc : Nat} {lv : List (Option Value)} {st : List Value} {ws : va_W}
variable {y : MethodName} {C : String} {cc' : ByteArray} {nL' : Nat} {ret : Option FieldType} {k : Nat} {rm : Room} {As rest : List Value} {S : Type} {wf : S → va_W} {i b : Nat}
theorem la_callUi (K : la_Cx ω κ cc nL own R0) {post : Int32 → S → Prop} (hok : la_Uok own y cc' nL' ret k) (hlink : Cond.methodLink own i y ∈ lw_all) (hM : la_CI ω y cc' nL' ret rm (.ref b :: As) ws wf post) (q0 : Nat) {ci : Nat} {fs : List Value} {T : u_T} {N : Nat} (he : ws[q0]? = some (b, .inr (ci, fs))) (hc : la_cl[ci]? = some (C, T, N)) (hk : As.length = k) (hlv : lv.length = nL) (hst : st = As.reverse ++ .ref b :: rest) (hw : (rest.map fun v => v.category).sum ≤ 8) (hR : rm.frames + 1 ≤ R0.frames ∧ 8 + (nL' + 11) + rm.locals ≤ R0.locals) (hf : n.1 + rm.cells ≤ R0.cells ∧ n.2 + rm.slots ≤ R0.slots) (hd : decode cc pc = .ok (.invokespecial i, 3)) (kk : ∀ (r : Int32) (u : S), post r u → la_At ω κ (n.1 + rm.cells, n.2 + rm.slots) (pc + 3) lv (.int r :: rest) (wf u)) : la_At ω κ n pc lv st ws := by
  obtain ⟨hx, hb, hml, hown, hts, hK, hG, hA, hRe, hlk⟩ := K
  subst hRe
  intro H locs ls hP hD hS hl
  have hFc := la_fr hD hS hA
  refine va_calli (va_runSU (hK.1 ci _ hc).2 (As := As) (rest := rest) ⟨hx, hb, hml, hown, hts⟩ (hM H.size) (va_cwSU k hts (lw_SU hlink hok) rfl rfl rfl hok.2 hR) ⟨la_blind, va_recv hK hP hc he, fun U hU hW => la_pre hP hK hG hD hU hW⟩ rfl hk (hl.1.trans hlv) hst (lv_room hw) hd hf) hS (fun q _ h => hFc q h) hFc (fun r u t H1 locs1 ht hvm hpost hB hz1 hk1 hS1 => ?_)
  obtain ⟨hP1, hD1⟩ := hB
  rw [ht] at hP1
  exact kk r u hpost H1 locs1 ls hP1 (hD1.weaken (fun _ _ _ h => hFc _ h)) hS1 hl
theorem la_callUi0 (K : la_Cx ω κ cc nL own R0) {lev : Nat} {post : Int32 → S → Prop} (hok : la_Uok own y cc' nL' ret k) (hlink : Cond.methodLink own i y ∈ lw_all) (hM : la_CI ω y cc' nL' ret (la_rm lev) (.ref b :: As) ws wf post) (q0 : Nat) {ci : Nat} {fs : List Value} {T : u_T} {N : Nat} (he : ws[q0]? = some (b, .inr (ci, fs))) (hc : la_cl[ci]? = some (C, T, N)) (hk : As.length = k) (hlv : lv.length = nL) (hst : st = As.reverse ++ .ref b :: rest) (hw : (rest.map fun v => v.category).sum ≤ 8) (hR : (la_rm lev).frames + 1 ≤ R0.frames ∧ 8 + (nL' + 11) + (la_rm lev).locals ≤ R0.locals) (hf : n.1 ≤ R0.cells ∧ n.2 ≤ R0.slots) (hd : decode cc pc = .ok (.invokespecial i, 3)) (kk : ∀ (r : Int32) (u : S), post r u → la_At ω κ n (pc + 3) lv (.int r :: rest) (wf u)) : la_At ω κ n pc lv st ws := la_callUi K (rm := la_rm lev) hok hlink hM q0 he hc hk hlv hst hw hR hf hd kk
end LAU
theorem ou_Even_sends : la_Uok "LadderCalls$Even" yX1_sends cX1_sends 2 (some .int) 1 := ⟨⟨q1130, q93, q364, q42, q365⟩, by decide +kernel⟩
theorem ou_Turn_sends : la_Uok "LadderCalls$Turn" yX1_sends cX1_sends 2 (some .int) 1 := ⟨⟨q1130, q104, q364, q42, q365⟩, by decide +kernel⟩
theorem ou_Ahead_sends : la_Uok "LadderCalls$Ahead" yX2_sends cX2_sends 2 (some .int) 1 := ⟨⟨q1129, q119, q359, q43, q360⟩, by decide +kernel⟩
