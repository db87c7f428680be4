/-! CALLS BY THE RECEIVER'S CLASS. Printed by mkdisp.py. -/
/-- what the tables say of a method y, run where x of owner is named, at a receiver of class C -/
def la_Ook (C owner : String) (x y : MethodName) (cc : ByteArray) (nL : Nat) (ret : Option FieldType) (k : Nat) : Prop := (Cond.sameMethod x.cls owner x.name x.desc ∈ lw_all ∧ Cond.instanceMethod ⟨owner, x.name, x.desc⟩ ∈ lw_all ∧ Cond.selects C x y ∈ lw_all ∧ Cond.instanceMethod y ∈ lw_all ∧ Cond.initialized y.cls ∈ lw_all ∧ Cond.code y cc nL ret ∈ lw_all) ∧ (∃ (b0 : ByteArray) (m0 : Nat) (r0 : Option FieldType), Cond.code ⟨owner, x.name, x.desc⟩ b0 m0 r0 ∈ lw_all) ∧ owner ≠ "java/lang/invoke/MethodHandle" ∧ owner ≠ "java/lang/invoke/VarHandle" ∧ (parseMethodDescriptor x.desc).map (fun d => d.parameters.length) = some k
theorem lw_O {own : String} {idx : Nat} {C owner : String} {x y : MethodName} {b : ByteArray} {L k : Nat} {r : Option FieldType} (h1 : Cond.methodLink own idx x ∈ lw_all) (h : la_Ook C owner x y b L r k) : GoodIn lw_all (va_wsO own idx C owner x y (ws_ y b L r)) := by
  obtain ⟨⟨h2, h3, h4, h5, h6, h7⟩, -⟩ := h
  refine lw_app ?_ (lw_meth h7)
  intro w hw
  simp only [List.mem_cons, List.not_mem_nil, or_false] at hw
  rcases hw with e | e | e | e | e | e
  · rw [e]; exact h1
  · rw [e]; exact h2
  · rw [e]; exact h3
  · rw [e]; exact h4
  · rw [e]; exact h5
  · rw [e]; exact h6
section LAO
variable {ω : la_O} {κ : la_K} {cc : ByteArray} {nL : Nat} {own : String} {R0 : Room} {n : Nat × Nat} {pc : Nat} {lv : List (Option Value)} {st : List Value} {ws : va_W}
variable {x y : MethodName} {C owner : String} {cc' : ByteArray} {nL' : Nat} {ret : Option FieldType} {k : Nat} {rm : Room} {As rest : List Value} {S : Type} {wf : S → va_W} {i b : Nat}
theorem la_callOi (K : la_Cx ω κ cc nL own R0) {post : Int32 → S → Prop} (hok : la_Ook C owner x y cc' nL' ret k) (hlink : Cond.methodLink own i x ∈ lw_all) (hM : la_CI ω y cc' nL' ret rm (.ref b :: As) ws wf post) (q0 : Nat) {ci : Nat} {fs : List Value} {T : u_T} {N : Nat} (he : ws[q0]? = some (b, .inr (ci, fs))) (hc : la_cl[ci]? = some (C, T, N)) (hk : As.length = k) (hlv : lv.length = nL) (hst : st = As.reverse ++ .ref b :: rest) (hw : (rest.map fun v => v.category).sum ≤ 8) (hR : rm.frames + 1 ≤ R0.frames ∧ 8 + (nL' + 11) + rm.locals ≤ R0.locals) (hf : n.1 + rm.cells ≤ R0.cells ∧ n.2 + rm.slots ≤ R0.slots) (hd : decode cc pc = .ok (.invokevirtual i, 3)) (kk : ∀ (r : Int32) (u : S), post r u → la_At ω κ (n.1 + rm.cells, n.2 + rm.slots) (pc + 3) lv (.int r :: rest) (wf u)) : la_At ω κ n pc lv st ws := by
  obtain ⟨hx, hb, hml, hown, hts, hK, hG, hA, hRe, hlk⟩ := K
  subst hRe
  obtain ⟨b0, m0, r0, h0⟩ := hok.2.1
  intro H locs ls hP hD hS hl
  have hFc := la_fr hD hS hA
  refine va_calli (va_runU (x := x) (owner := owner) (As := As) (rest := rest) ⟨hx, hb, hml, hown, hts⟩ (hM H.size) (va_cwO k hts (lw_O hlink hok) rfl rfl rfl h0 hok.2.2 hR) ⟨la_blind, va_recv hK hP hc he, fun U hU hW => la_pre hP hK hG hD hU hW⟩ rfl hk (hl.1.trans hlv) hst (lv_room hw) hd hf) hS (fun q _ h => hFc q h) hFc (fun r u t H1 locs1 ht hvm hpost hB hz1 hk1 hS1 => ?_)
  obtain ⟨hP1, hD1⟩ := hB
  rw [ht] at hP1
  exact kk r u hpost H1 locs1 ls hP1 (hD1.weaken (fun _ _ _ h => hFc _ h)) hS1 hl
theorem la_callOi0 (K : la_Cx ω κ cc nL own R0) {lev : Nat} {post : Int32 → S → Prop} (hok : la_Ook C owner x y cc' nL' ret k) (hlink : Cond.methodLink own i x ∈ lw_all) (hM : la_CI ω y cc' nL' ret (la_rm lev) (.ref b :: As) ws wf post) (q0 : Nat) {ci : Nat} {fs : List Value} {T : u_T} {N : Nat} (he : ws[q0]? = some (b, .inr (ci, fs))) (hc : la_cl[ci]? = some (C, T, N)) (hk : As.length = k) (hlv : lv.length = nL) (hst : st = As.reverse ++ .ref b :: rest) (hw : (rest.map fun v => v.category).sum ≤ 8) (hR : (la_rm lev).frames + 1 ≤ R0.frames ∧ 8 + (nL' + 11) + (la_rm lev).locals ≤ R0.locals) (hf : n.1 ≤ R0.cells ∧ n.2 ≤ R0.slots) (hd : decode cc pc = .ok (.invokevirtual i, 3)) (kk : ∀ (r : Int32) (u : S), post r u → la_At ω κ n (pc + 3) lv (.int r :: rest) (wf u)) : la_At ω κ n pc lv st ws := la_callOi K (rm := la_rm lev) hok hlink hM q0 he hc hk hlv hst hw hR hf hd kk
theorem la_callOl (K : la_Cx ω κ cc nL own R0) {post : Int64 → S → Prop} (hok : la_Ook C owner x y cc' nL' ret k) (hlink : Cond.methodLink own i x ∈ lw_all) (hM : la_CL ω y cc' nL' ret rm (.ref b :: As) ws wf post) (q0 : Nat) {ci : Nat} {fs : List Value} {T : u_T} {N : Nat} (he : ws[q0]? = some (b, .inr (ci, fs))) (hc : la_cl[ci]? = some (C, T, N)) (hk : As.length = k) (hlv : lv.length = nL) (hst : st = As.reverse ++ .ref b :: rest) (hw : (rest.map fun v => v.category).sum ≤ 8) (hR : rm.frames + 1 ≤ R0.frames ∧ 8 + (nL' + 11) + rm.locals ≤ R0.locals) (hf : n.1 + rm.cells ≤ R0.cells ∧ n.2 + rm.slots ≤ R0.slots) (hd : decode cc pc = .ok (.invokevirtual i, 3)) (kk : ∀ (r : Int64) (u : S), post r u → la_At ω κ (n.1 + rm.cells, n.2 + rm.slots) (pc + 3) lv (.long r :: rest) (wf u)) : la_At ω κ n pc lv st ws := by
  obtain ⟨hx, hb, hml, hown, hts, hK, hG, hA, hRe, hlk⟩ := K
  subst hRe
  obtain ⟨b0, m0, r0, h0⟩ := hok.2.1
  intro H locs ls hP hD hS hl
  have hFc := la_fr hD hS hA
  refine va_calll (va_runU (x := x) (owner := owner) (As := As) (rest := rest) ⟨hx, hb, hml, hown, hts⟩ (hM H.size) (va_cwO k hts (lw_O hlink hok) rfl rfl rfl h0 hok.2.2 hR) ⟨la_blind, va_recv hK hP hc he, fun U hU hW => la_pre hP hK hG hD hU hW⟩ rfl hk (hl.1.trans hlv) hst (lv_room hw) hd hf) hS (fun q _ h => hFc q h) hFc (fun r u t H1 locs1 ht hvm hpost hB hz1 hk1 hS1 => ?_)
  obtain ⟨hP1, hD1⟩ := hB
  rw [ht] at hP1
  exact kk r u hpost H1 locs1 ls hP1 (hD1.weaken (fun _ _ _ h => hFc _ h)) hS1 hl
theorem la_callOl0 (K : la_Cx ω κ cc nL own R0) {lev : Nat} {post : Int64 → S → Prop} (hok : la_Ook C owner x y cc' nL' ret k) (hlink : Cond.methodLink own i x ∈ lw_all) (hM : la_CL ω y cc' nL' ret (la_rm lev) (.ref b :: As) ws wf post) (q0 : Nat) {ci : Nat} {fs : List Value} {T : u_T} {N : Nat} (he : ws[q0]? = some (b, .inr (ci, fs))) (hc : la_cl[ci]? = some (C, T, N)) (hk : As.length = k) (hlv : lv.length = nL) (hst : st = As.reverse ++ .ref b :: rest) (hw : (rest.map fun v => v.category).sum ≤ 8) (hR : (la_rm lev).frames + 1 ≤ R0.frames ∧ 8 + (nL' + 11) + (la_rm lev).locals ≤ R0.locals) (hf : n.1 ≤ R0.cells ∧ n.2 ≤ R0.slots) (hd : decode cc pc = .ok (.invokevirtual i, 3)) (kk : ∀ (r : Int64) (u : S), post r u → la_At ω κ n (pc + 3) lv (.long r :: rest) (wf u)) : la_At ω κ n pc lv st ws := la_callOl K (rm := la_rm lev) hok hlink hM q0 he hc hk hlv hst hw hR hf hd kk
theorem la_callOv (K : la_Cx ω κ cc nL own R0) {post : S → Prop} (hok : la_Ook C owner x y cc' nL' ret k) (hlink : Cond.methodLink own i x ∈ lw_all) (hM : la_CV ω y cc' nL' ret rm (.ref b :: As) ws wf post) (q0 : Nat) {ci : Nat} {fs : List Value} {T : u_T} {N : Nat} (he : ws[q0]? = some (b, .inr (ci, fs))) (hc : la_cl[ci]? = some (C, T, N)) (hk : As.length = k) (hlv : lv.length = nL) (hst : st = As.reverse ++ .ref b :: rest) (hw : (rest.map fun v => v.category).sum ≤ 8) (hR : rm.frames + 1 ≤ R0.frames ∧ 8 + (nL' + 11) + rm.locals ≤ R0.locals) (hf : n.1 + rm.cells ≤ R0.cells ∧ n.2 + rm.slots ≤ R0.slots) (hd : decode cc pc = .ok (.invokevirtual i, 3)) (kk : ∀ u : S, post u → la_At ω κ (n.1 + rm.cells, n.2 + rm.slots) (pc + 3) lv (rest) (wf u)) : la_At ω κ n pc lv st ws := by
  obtain ⟨hx, hb, hml, hown, hts, hK, hG, hA, hRe, hlk⟩ := K
  subst hRe
  obtain ⟨b0, m0, r0, h0⟩ := hok.2.1
  intro H locs ls hP hD hS hl
  have hFc := la_fr hD hS hA
  refine va_callv (va_runU (x := x) (owner := owner) (As := As) (rest := rest) ⟨hx, hb, hml, hown, hts⟩ (hM H.size) (va_cwO k hts (lw_O hlink hok) rfl rfl rfl h0 hok.2.2 hR) ⟨la_blind, va_recv hK hP hc he, fun U hU hW => la_pre hP hK hG hD hU hW⟩ rfl hk (hl.1.trans hlv) hst (lv_room hw) hd hf) hS (fun q _ h => hFc q h) hFc (fun u t H1 locs1 ht hvm hpost hB hz1 hk1 hS1 => ?_)
  obtain ⟨hP1, hD1⟩ := hB
  rw [ht] at hP1
  exact kk u hpost H1 locs1 ls hP1 (hD1.weaken (fun _ _ _ h => hFc _ h)) hS1 hl
theorem la_callOv0 (K : la_Cx ω κ cc nL own R0) {lev : Nat} {post : S → Prop} (hok : la_Ook C owner x y cc' nL' ret k) (hlink : Cond.methodLink own i x ∈ lw_all) (hM : la_CV ω y cc' nL' ret (la_rm lev) (.ref b :: As) ws wf post) (q0 : Nat) {ci : Nat} {fs : List Value} {T : u_T} {N : Nat} (he : ws[q0]? = some (b, .inr (ci, fs))) (hc : la_cl[ci]? = some (C, T, N)) (hk : As.length = k) (hlv : lv.length = nL) (hst : st = As.reverse ++ .ref b :: rest) (hw : (rest.map fun v => v.category).sum ≤ 8) (hR : (la_rm lev).frames + 1 ≤ R0.frames ∧ 8 + (nL' + 11) + (la_rm lev).locals ≤ R0.locals) (hf : n.1 ≤ R0.cells ∧ n.2 ≤ R0.slots) (hd : decode cc pc = .ok (.invokevirtual i, 3)) (kk : ∀ u : S, post u → la_At ω κ n (pc + 3) lv (rest) (wf u)) : la_At ω κ n pc lv st ws := la_callOv K (rm := la_rm lev) hok hlink hM q0 he hc hk hlv hst hw hR hf hd kk
theorem la_callOp (K : la_Cx ω κ cc nL own R0) {f : Int32} {lev : Nat} (hok : la_Ook C owner x y cc' nL' ret k) (hlink : Cond.methodLink own i x ∈ lw_all) (hM : la_CP ω y cc' nL' ret (la_rm lev) (.ref b :: As) ws f) (q0 : Nat) {ci : Nat} {fs : List Value} {T : u_T} {N : Nat} (he : ws[q0]? = some (b, .inr (ci, fs))) (hc : la_cl[ci]? = some (C, T, N)) (hk : As.length = k) (hlv : lv.length = nL) (hst : st = As.reverse ++ .ref b :: rest) (hw : (rest.map fun v => v.category).sum ≤ 8) (hR : (la_rm lev).frames + 1 ≤ R0.frames ∧ 8 + (nL' + 11) + (la_rm lev).locals ≤ R0.locals) (hf : n.1 ≤ R0.cells ∧ n.2 ≤ R0.slots) (hd : decode cc pc = .ok (.invokevirtual i, 3)) (kk : la_At ω κ n (pc + 3) lv (.int f :: rest) ws) : la_At ω κ n pc lv st ws := la_callOi K (rm := la_rm lev) hok hlink hM q0 he hc hk hlv hst hw hR hf hd (fun r _ hp => by subst hp; exact kk)
end LAO
theorem oo_kind_0 : la_Ook "LadderCalls$Near" "LadderCalls$Near" ⟨"LadderCalls$Near", "kind", "()I"⟩ yX1_kind cX1_kind 1 (some .int) 0 := ⟨⟨q303, q301, q302, q301, q42, q313⟩, ⟨_, _, _, q313⟩, by decide +kernel⟩
theorem oo_kind_1 : la_Ook "LadderCalls$Even" "LadderCalls$Near" ⟨"LadderCalls$Near", "kind", "()I"⟩ yX2_kind cX2_kind 1 (some .int) 0 := ⟨⟨q303, q301, q307, q308, q43, q309⟩, ⟨_, _, _, q313⟩, by decide +kernel⟩
theorem oo_kind_2 : la_Ook "LadderCalls$Turn" "LadderCalls$Near" ⟨"LadderCalls$Near", "kind", "()I"⟩ yX3_kind cX3_kind 1 (some .int) 0 := ⟨⟨q303, q301, q310, q311, q44, q312⟩, ⟨_, _, _, q313⟩, by decide +kernel⟩
theorem oo_kind_3 : la_Ook "LadderCalls$Ahead" "LadderCalls$Near" ⟨"LadderCalls$Near", "kind", "()I"⟩ yX4_kind cX4_kind 1 (some .int) 0 := ⟨⟨q303, q301, q304, q305, q45, q306⟩, ⟨_, _, _, q313⟩, by decide +kernel⟩
theorem oo_sends_0 : la_Ook "LadderCalls$Near" "LadderCalls$Near" ⟨"LadderCalls$Near", "sends", "(I)I"⟩ yX1_sends cX1_sends 2 (some .int) 1 := ⟨⟨q1130, q364, q1138, q364, q42, q365⟩, ⟨_, _, _, q365⟩, by decide +kernel⟩
theorem oo_sends_1 : la_Ook "LadderCalls$Even" "LadderCalls$Near" ⟨"LadderCalls$Near", "sends", "(I)I"⟩ yX2_sends cX2_sends 2 (some .int) 1 := ⟨⟨q1130, q364, q1137, q359, q43, q360⟩, ⟨_, _, _, q365⟩, by decide +kernel⟩
theorem oo_sends_2 : la_Ook "LadderCalls$Turn" "LadderCalls$Near" ⟨"LadderCalls$Near", "sends", "(I)I"⟩ yX3_sends cX3_sends 2 (some .int) 1 := ⟨⟨q1130, q364, q1139, q405, q44, q407⟩, ⟨_, _, _, q365⟩, by decide +kernel⟩
theorem oo_sends_3 : la_Ook "LadderCalls$Ahead" "LadderCalls$Near" ⟨"LadderCalls$Near", "sends", "(I)I"⟩ yX4_sends cX4_sends 4 (some .int) 1 := ⟨⟨q1130, q364, q1136, q333, q45, q335⟩, ⟨_, _, _, q365⟩, by decide +kernel⟩
theorem oo_went_0 : la_Ook "LadderCalls$Near" "LadderCalls$Near" ⟨"LadderCalls$Near", "went", "(IZ)V"⟩ yX1_went cX1_went 3 none 2 := ⟨⟨q418, q416, q417, q416, q42, q424⟩, ⟨_, _, _, q424⟩, by decide +kernel⟩
theorem oo_went_1 : la_Ook "LadderCalls$Even" "LadderCalls$Near" ⟨"LadderCalls$Near", "went", "(IZ)V"⟩ yX1_went cX1_went 3 none 2 := ⟨⟨q418, q416, q420, q416, q42, q424⟩, ⟨_, _, _, q424⟩, by decide +kernel⟩
theorem oo_went_2 : la_Ook "LadderCalls$Turn" "LadderCalls$Near" ⟨"LadderCalls$Near", "went", "(IZ)V"⟩ yX3_went cX3_went 3 none 2 := ⟨⟨q418, q416, q421, q422, q44, q423⟩, ⟨_, _, _, q424⟩, by decide +kernel⟩
theorem oo_went_3 : la_Ook "LadderCalls$Ahead" "LadderCalls$Near" ⟨"LadderCalls$Near", "went", "(IZ)V"⟩ yX1_went cX1_went 3 none 2 := ⟨⟨q418, q416, q419, q416, q42, q424⟩, ⟨_, _, _, q424⟩, by decide +kernel⟩
theorem oo_nearest_0 : la_Ook "LadderCalls$Near" "LadderCalls$Near" ⟨"LadderCalls$Near", "nearest", "(I)I"⟩ yX1_nearest cX1_nearest 2 (some .int) 1 := ⟨⟨q1131, q346, q1134, q346, q42, q347⟩, ⟨_, _, _, q347⟩, by decide +kernel⟩
theorem oo_nearest_1 : la_Ook "LadderCalls$Even" "LadderCalls$Near" ⟨"LadderCalls$Near", "nearest", "(I)I"⟩ yX1_nearest cX1_nearest 2 (some .int) 1 := ⟨⟨q1131, q346, q1133, q346, q42, q347⟩, ⟨_, _, _, q347⟩, by decide +kernel⟩
theorem oo_nearest_2 : la_Ook "LadderCalls$Turn" "LadderCalls$Near" ⟨"LadderCalls$Near", "nearest", "(I)I"⟩ yX1_nearest cX1_nearest 2 (some .int) 1 := ⟨⟨q1131, q346, q1135, q346, q42, q347⟩, ⟨_, _, _, q347⟩, by decide +kernel⟩
theorem oo_nearest_3 : la_Ook "LadderCalls$Ahead" "LadderCalls$Near" ⟨"LadderCalls$Near", "nearest", "(I)I"⟩ yX1_nearest cX1_nearest 2 (some .int) 1 := ⟨⟨q1131, q346, q1132, q346, q42, q347⟩, ⟨_, _, _, q347⟩, by decide +kernel⟩
theorem oo_least_0 : la_Ook "LadderCalls$Near" "LadderCalls$Near" ⟨"LadderCalls$Near", "least", "(I[I)I"⟩ yX1_least cX1_least 7 (some .int) 2 := ⟨⟨q351, q349, q350, q349, q42, q355⟩, ⟨_, _, _, q355⟩, by decide +kernel⟩
theorem oo_least_1 : la_Ook "LadderCalls$Even" "LadderCalls$Near" ⟨"LadderCalls$Near", "least", "(I[I)I"⟩ yX1_least cX1_least 7 (some .int) 2 := ⟨⟨q351, q349, q353, q349, q42, q355⟩, ⟨_, _, _, q355⟩, by decide +kernel⟩
theorem oo_least_2 : la_Ook "LadderCalls$Turn" "LadderCalls$Near" ⟨"LadderCalls$Near", "least", "(I[I)I"⟩ yX1_least cX1_least 7 (some .int) 2 := ⟨⟨q351, q349, q354, q349, q42, q355⟩, ⟨_, _, _, q355⟩, by decide +kernel⟩
theorem oo_least_3 : la_Ook "LadderCalls$Ahead" "LadderCalls$Near" ⟨"LadderCalls$Near", "least", "(I[I)I"⟩ yX1_least cX1_least 7 (some .int) 2 := ⟨⟨q351, q349, q352, q349, q42, q355⟩, ⟨_, _, _, q355⟩, by decide +kernel⟩
theorem oo_Even_least_1 : la_Ook "LadderCalls$Even" "LadderCalls$Near" ⟨"LadderCalls$Even", "least", "(I[I)I"⟩ yX1_least cX1_least 7 (some .int) 2 := ⟨⟨q368, q349, q371, q349, q42, q355⟩, ⟨_, _, _, q355⟩, by decide +kernel⟩
theorem oo_Even_least_3 : la_Ook "LadderCalls$Ahead" "LadderCalls$Near" ⟨"LadderCalls$Even", "least", "(I[I)I"⟩ yX1_least cX1_least 7 (some .int) 2 := ⟨⟨q368, q349, q370, q349, q42, q355⟩, ⟨_, _, _, q355⟩, by decide +kernel⟩
theorem oo_Ahead_least_3 : la_Ook "LadderCalls$Ahead" "LadderCalls$Near" ⟨"LadderCalls$Ahead", "least", "(I[I)I"⟩ yX1_least cX1_least 7 (some .int) 2 := ⟨⟨q392, q349, q393, q349, q42, q355⟩, ⟨_, _, _, q355⟩, by decide +kernel⟩
theorem oo_Ahead_nearest_3 : la_Ook "LadderCalls$Ahead" "LadderCalls$Near" ⟨"LadderCalls$Ahead", "nearest", "(I)I"⟩ yX1_nearest cX1_nearest 2 (some .int) 1 := ⟨⟨q343, q346, q345, q346, q42, q347⟩, ⟨_, _, _, q347⟩, by decide +kernel⟩
