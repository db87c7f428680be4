/-! THE COMPONENT's METHODS, part 11: rows of went. Printed by c11.py. -/
section LC11
variable {ω : la_O} {ad : Nat → Nat} {S : Int32} {T : Int64} {P R L B Nw U C Kd : Nat} {fr to ln aw su ca we fa sb tb wk nw wo k0 k1 k2 k3 k4 k5 : Nat → Nat} {RE : Nat → Nat → Nat} {BF : Nat → Option Nat} {BK : va_W}
/-- whose turn it is behind a call -/
noncomputable def lp_ut (Kd L U l : Nat) (q : Prop) : Nat := if Kd = 2 then (if lp_b q = 1 then U else (l + 1) % L) else U
theorem lb_r_went {κ : la_K} {cc : ByteArray} {nL : Nat} {own : String} {R0 : Room} {n : Nat × Nat} {pc i : Nat} {lv : List (Option Value)} {st : List Value} (K : la_Cx ω κ cc nL own R0) {l : Nat} {q : Prop} (hKd : Kd < 4) (hL1 : 1 ≤ L) (hL3 : L ≤ 3) (hl : l < L) (hlink : Cond.methodLink own i ⟨"LadderCalls$Near", "went", "(IZ)V"⟩ ∈ lw_all) (hlv : lv.length = nL) (hw : (st.map fun v => v.category).sum ≤ 8) (hR : (la_rm 0).frames + 1 ≤ R0.frames ∧ 8 + (3 + 11) + (la_rm 0).locals ≤ R0.locals) (hf : n.1 ≤ R0.cells ∧ n.2 ≤ R0.slots) (hd : decode cc pc = .ok (.invokevirtual i, 3)) (kk : la_At ω κ n (pc + 3) lv st (lb_W ω.2.2 ad ((P, R, T, S, L, B, Nw, lp_ut Kd L U l q, C, Kd), (fr, to, ln, aw), (su, ca, we, fa, sb, tb), (wk, nw, wo), (k0, k1, k2, k3, k4, k5), RE, BF, BK))) : la_At ω κ n pc lv (.int (nI (lp_b q)) :: .int (nI l) :: .ref (ad (21 + Kd)) :: st) (lb_W ω.2.2 ad ((P, R, T, S, L, B, Nw, U, C, Kd), (fr, to, ln, aw), (su, ca, we, fa, sb, tb), (wk, nw, wo), (k0, k1, k2, k3, k4, k5), RE, BF, BK)) := by
  have h4 : Kd = 0 ∨ Kd = 1 ∨ Kd = 2 ∨ Kd = 3 := by omega
  rcases h4 with rfl | rfl | rfl | rfl
  · exact la_callOv0 K oo_went_0 hlink (As := [.int (nI l), .int (nI (lp_b q))]) lb_went0 21 rfl rfl rfl hlv rfl hw hR hf hd (fun u h => by subst h; exact kk)
  · exact la_callOv0 K oo_went_1 hlink (As := [.int (nI l), .int (nI (lp_b q))]) lb_went0 22 rfl rfl rfl hlv rfl hw hR hf hd (fun u h => by subst h; exact kk)
  · exact la_callOv0 K oo_went_2 hlink (As := [.int (nI l), .int (nI (lp_b q))]) (lb_went2 hL1 hL3 hl) 23 rfl rfl rfl hlv rfl hw hR hf hd (fun u h => by subst h; exact kk)
  · exact la_callOv0 K oo_went_3 hlink (As := [.int (nI l), .int (nI (lp_b q))]) lb_went0 24 rfl rfl rfl hlv rfl hw hR hf hd (fun u h => by subst h; exact kk)
end LC11
