/-! CALLS THROUGH THE INTERFACE, and the words of the start about has. Printed by mkface.py. -/
def la_Fok (C : String) (x y : MethodName) (cc : ByteArray) (nL : Nat) (ret : Option FieldType) (k : Nat) : Prop := (Cond.selects C x y ∈ lw_all ∧ Cond.instanceMethod y ∈ lw_all ∧ Cond.initialized y.cls ∈ lw_all ∧ Cond.code y cc nL ret ∈ lw_all) ∧ (Cond.declares x ∈ lw_tbl ∧ (Cond.interfaceMethod x.cls x.cls x.name x.desc ∈ lw_tbl ∧ la_nw (Cond.interfaceMethod x.cls x.cls x.name x.desc) = true) ∧ Cond.publicMethod y ∈ lw_tbl ∧ Cond.unhidden C x.name x.desc ∈ lw_tbl ∧ Cond.castable C x.cls ∈ lw_tbl) ∧ x.cls ≠ "java/lang/invoke/MethodHandle" ∧ x.cls ≠ "java/lang/invoke/VarHandle" ∧ (parseMethodDescriptor x.desc).map (fun d => d.parameters.length) = some k
theorem lw_F {own : String} {idx : Nat} {C : String} {x y : MethodName} {b : ByteArray} {L k : Nat} {r : Option FieldType} (h1 : Cond.methodLink own idx x ∈ lw_all) (h : la_Fok C x y b L r k) : GoodIn lw_all (va_wsF own idx C x y (ws_ y b L r)) := by
  obtain ⟨⟨h2, h3, h4, h5⟩, -⟩ := h
  refine lw_app ?_ (lw_meth h5)
  intro w hw
  simp only [List.mem_cons, List.not_mem_nil, or_false] at hw
  rcases hw with e | e | e | e <;> rw [e] <;> assumption
section LAF
variable {ω : la_O} {κ : la_K} {cc : ByteArray} {nL : Nat} {own : String} {R0 : Room} {n : Nat × Nat} {pc : Nat} {lv : List (Option Value)} {st : List Value} {ws : va_W}
variable {x y : MethodName} {C : String} {cc' : ByteArray} {nL' : Nat} {ret : Option FieldType} {k : Nat} {rm : Room} {As rest : List Value} {S : Type} {wf : S → va_W} {i b cnt : Nat}
theorem la_callFi (K : la_Cx ω κ cc nL own R0) {post : Int32 → S → Prop} (hok : la_Fok C x y cc' nL' ret k) (hlink : Cond.methodLink own i x ∈ lw_all) (hM : la_CI ω y cc' nL' ret rm (.ref b :: As) ws wf post) (q0 : Nat) {ci : Nat} {fs : List Value} {T : u_T} {N : Nat} (he : ws[q0]? = some (b, .inr (ci, fs))) (hc : la_cl[ci]? = some (C, T, N)) (hk : As.length = k) (hlv : lv.length = nL) (hst : st = As.reverse ++ .ref b :: rest) (hw : (rest.map fun v => v.category).sum ≤ 8) (hR : rm.frames + 1 ≤ R0.frames ∧ 8 + (nL' + 11) + rm.locals ≤ R0.locals) (hf : n.1 + rm.cells ≤ R0.cells ∧ n.2 + rm.slots ≤ R0.slots) (hd : decode cc pc = .ok (.invokeinterface i cnt, 5)) (kk : ∀ (r : Int32) (u : S), post r u → la_At ω κ (n.1 + rm.cells, n.2 + rm.slots) (pc + 5) lv (.int r :: rest) (wf u)) : la_At ω κ n pc lv st ws := by
  obtain ⟨hx, hb, hml, hown, hts, hK, hG, hA, hRe, hlk⟩ := K
  subst hRe
  intro H locs ls hP hD hS hl
  have hFc := la_fr hD hS hA
  refine va_callFi (va_runF (x := x) (hK.1 ci _ hc).2 (As := As) (rest := rest) ⟨hx, hb, hml, hown, hts⟩ (hM H.size) (va_cwF k hts (lw_F hlink hok) rfl rfl rfl ⟨la_Gu hG hok.2.1.1 rfl, la_Gu hG hok.2.1.2.1.1 hok.2.1.2.1.2, la_Gu hG hok.2.1.2.2.1 rfl, la_Gu hG hok.2.1.2.2.2.1 rfl, la_Gu hG hok.2.1.2.2.2.2 rfl⟩ hok.2.2 hR) ⟨la_blind, va_recv hK hP hc he, fun U hU hW => la_pre hP hK hG hD hU hW⟩ rfl hk (hl.1.trans hlv) hst (lv_room hw) hd hf) hS (fun q _ h => hFc q h) hFc (fun r u t H1 locs1 ht hvm hpost hB hz1 hk1 hS1 => ?_)
  obtain ⟨hP1, hD1⟩ := hB
  rw [ht] at hP1
  exact kk r u hpost H1 locs1 ls hP1 (hD1.weaken (fun _ _ _ h => hFc _ h)) hS1 hl
theorem la_callFi0 (K : la_Cx ω κ cc nL own R0) {lev : Nat} {post : Int32 → S → Prop} (hok : la_Fok C x y cc' nL' ret k) (hlink : Cond.methodLink own i x ∈ lw_all) (hM : la_CI ω y cc' nL' ret (la_rm lev) (.ref b :: As) ws wf post) (q0 : Nat) {ci : Nat} {fs : List Value} {T : u_T} {N : Nat} (he : ws[q0]? = some (b, .inr (ci, fs))) (hc : la_cl[ci]? = some (C, T, N)) (hk : As.length = k) (hlv : lv.length = nL) (hst : st = As.reverse ++ .ref b :: rest) (hw : (rest.map fun v => v.category).sum ≤ 8) (hR : (la_rm lev).frames + 1 ≤ R0.frames ∧ 8 + (nL' + 11) + (la_rm lev).locals ≤ R0.locals) (hf : n.1 ≤ R0.cells ∧ n.2 ≤ R0.slots) (hd : decode cc pc = .ok (.invokeinterface i cnt, 5)) (kk : ∀ (r : Int32) (u : S), post r u → la_At ω κ n (pc + 5) lv (.int r :: rest) (wf u)) : la_At ω κ n pc lv st ws := la_callFi K (rm := la_rm lev) hok hlink hM q0 he hc hk hlv hst hw hR hf hd kk
end LAF
theorem of_sends_0 : la_Fok "LadderCalls$Near" ⟨"LadderCalls$Sends", "sends", "(I)I"⟩ yX1_sends cX1_sends 2 (some .int) 1 := ⟨⟨q399, q364, q42, q365⟩, ⟨q329, ⟨q328, rfl⟩, q401, q400, q398⟩, by decide +kernel⟩
theorem of_sends_1 : la_Fok "LadderCalls$Even" ⟨"LadderCalls$Sends", "sends", "(I)I"⟩ yX2_sends cX2_sends 2 (some .int) 1 := ⟨⟨q395, q359, q43, q360⟩, ⟨q329, ⟨q328, rfl⟩, q397, q396, q394⟩, by decide +kernel⟩
theorem of_sends_2 : la_Fok "LadderCalls$Turn" ⟨"LadderCalls$Sends", "sends", "(I)I"⟩ yX3_sends cX3_sends 2 (some .int) 1 := ⟨⟨q403, q405, q44, q407⟩, ⟨q329, ⟨q328, rfl⟩, q406, q404, q402⟩, by decide +kernel⟩
theorem of_sends_3 : la_Fok "LadderCalls$Ahead" ⟨"LadderCalls$Sends", "sends", "(I)I"⟩ yX4_sends cX4_sends 4 (some .int) 1 := ⟨⟨q331, q333, q45, q335⟩, ⟨q329, ⟨q328, rfl⟩, q334, q332, q330⟩, by decide +kernel⟩
theorem ld_lk_Ahead : Cond.methodLink "LadderCalls$Ahead" 32 ⟨"LadderCalls$Ahead", "has", "(III)Z"⟩ ∈ flatC (Jvm.Cond.and given_1 narrow_1) := by decide +kernel
theorem ld_sm_Ahead : Cond.sameMethod "LadderCalls$Ahead" "LadderCalls$Sends" "has" "(III)Z" ∈ flatC (Jvm.Cond.and given_1 narrow_1) := by decide +kernel
theorem ld_lk_Even : Cond.methodLink "LadderCalls$Even" 28 ⟨"LadderCalls$Even", "has", "(III)Z"⟩ ∈ flatC (Jvm.Cond.and given_1 narrow_1) := by decide +kernel
theorem ld_sm_Even : Cond.sameMethod "LadderCalls$Even" "LadderCalls$Sends" "has" "(III)Z" ∈ flatC (Jvm.Cond.and given_1 narrow_1) := by decide +kernel
theorem ld_lk_Turn : Cond.methodLink "LadderCalls$Turn" 28 ⟨"LadderCalls$Turn", "has", "(III)Z"⟩ ∈ flatC (Jvm.Cond.and given_1 narrow_1) := by decide +kernel
theorem ld_sm_Turn : Cond.sameMethod "LadderCalls$Turn" "LadderCalls$Sends" "has" "(III)Z" ∈ flatC (Jvm.Cond.and given_1 narrow_1) := by decide +kernel
theorem ld_lk_Near : Cond.methodLink "LadderCalls" 200 ⟨"LadderCalls$Near", "has", "(III)Z"⟩ ∈ flatC (Jvm.Cond.and given_1 narrow_1) := by decide +kernel
theorem ld_sm_Near : Cond.sameMethod "LadderCalls$Near" "LadderCalls$Sends" "has" "(III)Z" ∈ flatC (Jvm.Cond.and given_1 narrow_1) := by decide +kernel
theorem ld_in_Near_0 : Cond.landsInDefault "LadderCalls$Near" ⟨"LadderCalls$Near", "has", "(III)Z"⟩ ⟨"LadderCalls$Sends", "has", "(III)Z"⟩ ∈ flatC (Jvm.Cond.and given_1 narrow_1) := by decide +kernel
theorem ld_in_Near_1 : Cond.landsInDefault "LadderCalls$Even" ⟨"LadderCalls$Near", "has", "(III)Z"⟩ ⟨"LadderCalls$Sends", "has", "(III)Z"⟩ ∈ flatC (Jvm.Cond.and given_1 narrow_1) := by decide +kernel
theorem ld_in_Near_2 : Cond.landsInDefault "LadderCalls$Turn" ⟨"LadderCalls$Near", "has", "(III)Z"⟩ ⟨"LadderCalls$Sends", "has", "(III)Z"⟩ ∈ flatC (Jvm.Cond.and given_1 narrow_1) := by decide +kernel
theorem ld_in_Near_3 : Cond.landsInDefault "LadderCalls$Ahead" ⟨"LadderCalls$Near", "has", "(III)Z"⟩ ⟨"LadderCalls$Sends", "has", "(III)Z"⟩ ∈ flatC (Jvm.Cond.and given_1 narrow_1) := by decide +kernel
theorem ld_in_Even_1 : Cond.landsInDefault "LadderCalls$Even" ⟨"LadderCalls$Even", "has", "(III)Z"⟩ ⟨"LadderCalls$Sends", "has", "(III)Z"⟩ ∈ flatC (Jvm.Cond.and given_1 narrow_1) := by decide +kernel
theorem ld_in_Even_3 : Cond.landsInDefault "LadderCalls$Ahead" ⟨"LadderCalls$Even", "has", "(III)Z"⟩ ⟨"LadderCalls$Sends", "has", "(III)Z"⟩ ∈ flatC (Jvm.Cond.and given_1 narrow_1) := by decide +kernel
theorem ld_in_Turn_2 : Cond.landsInDefault "LadderCalls$Turn" ⟨"LadderCalls$Turn", "has", "(III)Z"⟩ ⟨"LadderCalls$Sends", "has", "(III)Z"⟩ ∈ flatC (Jvm.Cond.and given_1 narrow_1) := by decide +kernel
theorem ld_in_Ahead_3 : Cond.landsInDefault "LadderCalls$Ahead" ⟨"LadderCalls$Ahead", "has", "(III)Z"⟩ ⟨"LadderCalls$Sends", "has", "(III)Z"⟩ ∈ flatC (Jvm.Cond.and given_1 narrow_1) := by decide +kernel
theorem ld_in_Sends_0 : Cond.landsInDefault "LadderCalls$Near" ⟨"LadderCalls$Sends", "has", "(III)Z"⟩ ⟨"LadderCalls$Sends", "has", "(III)Z"⟩ ∈ flatC (Jvm.Cond.and given_1 narrow_1) := by decide +kernel
theorem ld_in_Sends_1 : Cond.landsInDefault "LadderCalls$Even" ⟨"LadderCalls$Sends", "has", "(III)Z"⟩ ⟨"LadderCalls$Sends", "has", "(III)Z"⟩ ∈ flatC (Jvm.Cond.and given_1 narrow_1) := by decide +kernel
theorem ld_in_Sends_2 : Cond.landsInDefault "LadderCalls$Turn" ⟨"LadderCalls$Sends", "has", "(III)Z"⟩ ⟨"LadderCalls$Sends", "has", "(III)Z"⟩ ∈ flatC (Jvm.Cond.and given_1 narrow_1) := by decide +kernel
theorem ld_in_Sends_3 : Cond.landsInDefault "LadderCalls$Ahead" ⟨"LadderCalls$Sends", "has", "(III)Z"⟩ ⟨"LadderCalls$Sends", "has", "(III)Z"⟩ ∈ flatC (Jvm.Cond.and given_1 narrow_1) := by decide +kernel
