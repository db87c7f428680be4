/-! System.arraycopy of numbers, from the start of one array to the start of another. -/
theorem la_cpy_N (f g : Nat → Nat) (n : Nat) : va_cpy (fun k => nI (f k)) (fun k => nI (g k)) 0 0 n = fun k => nI (va_cpy f g 0 0 n k) := by
  funext k
  unfold va_cpy
  split <;> rfl
section LACP
variable {ω : la_O} {κ : la_K} {cc : ByteArray} {nL : Nat} {own : String} {R0 : Room} {n : Nat × Nat} {pc : Nat} {lv : List (Option Value)} {st : List Value} {ws : va_W}
theorem la_copy (K : la_Cx ω κ cc nL own R0) {i a0 a1 N0 N1 m : Nat} {f g : Nat → Nat} (hlink : Cond.methodLink own i arraycopyName ∈ lw_all) (q0 q1 : Nat) (he0 : ws[q0]? = some (a0, la_ia ω.2.2 N0 f)) (he1 : ws[q1]? = some (a1, la_ia ω.2.2 N1 g)) (h0 : m ≤ N0) (h1 : m ≤ N1) (hm : m < 2 ^ 31) (hlv : lv.length = nL) (hR1 : 1 ≤ R0.frames) (hR2 : (st.map fun v => v.category).sum + (nativeFrameWords "java/lang/System" "arraycopy" 5 + 11) ≤ R0.locals) (hd : decode cc pc = .ok (.invokestatic i, 3)) (kk : la_At ω κ n (pc + 3) lv st (ws.set q1 (a1, la_ia ω.2.2 N1 (va_cpy f g 0 0 m)))) : la_At ω κ n pc lv (.int (nI m) :: .int (nI 0) :: .ref a1 :: .int (nI 0) :: .ref a0 :: st) ws := by
  obtain ⟨hx, hb, hml, hown, hts, hK, hG, hA, hR, hlk⟩ := K
  subst hR
  intro H locs ls hP hD hS hl
  have e0 : (nI 0).toNatClampNeg = 0 := nI_clamp (by decide)
  have em : (nI m).toNatClampNeg = m := nI_clamp hm
  refine va_copyi hx hb (hml.trans (hlv.symm.trans hl.1.symm)) hown (hts _ hlink) (hts _ q389) (hts _ q388) (hts _ q48) hK hP hD hS q0 q1 0 0 he0 he1 rfl rfl rfl (nI_pos (by decide)) (nI_pos (by decide)) (nI_pos hm) (by rw [e0, em]; omega) (by rw [e0, em]; omega) (fun _ _ => rfl) hR1 hR2 hd (fun H1 locs1 hP1 hD1 hS1 => ?_)
  rw [e0, em, la_cpy_N] at hP1 hD1
  exact kk H1 locs1 ls hP1 hD1 hS1 hl
end LACP
