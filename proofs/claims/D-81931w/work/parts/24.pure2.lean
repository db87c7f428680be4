/-! PURE PART 2: booleans, least values, stands. No program in sight. -/
noncomputable def lp_b (p : Prop) : Nat := @ite Nat p (Classical.propDecidable p) 1 0
theorem lp_b_t {p : Prop} (h : p) : lp_b p = 1 := if_pos h
theorem lp_b_f {p : Prop} (h : ¬ p) : lp_b p = 0 := if_neg h
theorem lp_b_lt (p : Prop) : lp_b p < 2 := by
  by_cases h : p
  · rw [lp_b_t h]; decide
  · rw [lp_b_f h]; decide
theorem lp_b_eq {p : Prop} {z : Nat} (h1 : z < 2) (h2 : z = 1 ↔ p) : z = lp_b p := by
  by_cases h : p
  · rw [lp_b_t h]; exact h2.mpr h
  · rw [lp_b_f h]; have : ¬ z = 1 := fun e => h (h2.mp e); omega
section LBR
variable {ω : la_O} {κ : la_K} {cc : ByteArray} {nL : Nat} {own : String} {R0 : Room} {n : Nat × Nat} {pc : Nat} {lv : List (Option Value)} {st : List Value} {ws : va_W}
theorem la_if_eqB (K : la_Cx ω κ cc nL own R0) {p : Prop} {off : Int} (tgt : Nat) (hd : decode cc pc = .ok (.ifCond .eq off, 3)) (ht : (pc : Int) + off = (tgt : Int)) (kt : ¬ p → la_At ω κ n tgt lv st ws) (kf : p → la_At ω κ n (pc + 3) lv st ws) : la_At ω κ n pc lv (.int (nI (lp_b p)) :: st) ws :=
  la_if_eqN K tgt hd ht (by have := lp_b_lt p; omega) (fun h => kt (fun z => by rw [lp_b_t z] at h; omega)) (fun h => kf (Classical.byContradiction fun z => by rw [lp_b_f z] at h; omega))
theorem la_if_neB (K : la_Cx ω κ cc nL own R0) {p : Prop} {off : Int} (tgt : Nat) (hd : decode cc pc = .ok (.ifCond .ne off, 3)) (ht : (pc : Int) + off = (tgt : Int)) (kt : p → la_At ω κ n tgt lv st ws) (kf : ¬ p → la_At ω κ n (pc + 3) lv st ws) : la_At ω κ n pc lv (.int (nI (lp_b p)) :: st) ws :=
  la_if_neN K tgt hd ht (by have := lp_b_lt p; omega) (fun h => kt (Classical.byContradiction fun z => by rw [lp_b_f z] at h; omega)) (fun h => kf (fun z => by rw [lp_b_t z] at h; omega))
end LBR
theorem lp_or {z w : Nat} (hz : z < 2) (hw : w < 2) : nI z ||| nI w = nI (max z w) := by
  have h1 : z = 0 ∨ z = 1 := by omega
  have h2 : w = 0 ∨ w = 1 := by omega
  rcases h1 with rfl | rfl <;> rcases h2 with rfl | rfl <;> decide +kernel
/-- v is the least of Q and I -/
def lp_mn (I : Nat) (Q : Nat → Prop) (v : Nat) : Prop := v ≤ I ∧ (∀ u, Q u → v ≤ u) ∧ (v = I ∨ Q v)
theorem lp_mn_uniq {I : Nat} {Q : Nat → Prop} {v w : Nat} (hv : lp_mn I Q v) (hw : lp_mn I Q w) : v = w := by
  obtain ⟨a1, a2, a3⟩ := hv
  obtain ⟨b1, b2, b3⟩ := hw
  have h1 : v ≤ w := by
    rcases b3 with e | e
    · rw [e]; exact a1
    · exact a2 w e
  have h2 : w ≤ v := by
    rcases a3 with e | e
    · rw [e]; exact b1
    · exact b2 v e
  omega
theorem lp_mn_ex (I : Nat) (Q : Nat → Prop) : ∃ v, lp_mn I Q v := by
  obtain ⟨v, h1, h2⟩ := pk_least (fun v => v = I ∨ Q v) ⟨I, Or.inl rfl⟩
  refine ⟨v, Nat.not_lt.mp fun h => h2 I h (Or.inl rfl), fun u hu => Nat.not_lt.mp fun h => h2 u h (Or.inr hu), h1⟩
noncomputable def lp_min (I : Nat) (Q : Nat → Prop) : Nat := Classical.choose (lp_mn_ex I Q)
theorem lp_min_mn (I : Nat) (Q : Nat → Prop) : lp_mn I Q (lp_min I Q) := Classical.choose_spec (lp_mn_ex I Q)
theorem lp_mn_min {I : Nat} {Q : Nat → Prop} {v : Nat} (h : lp_mn I Q v) : v = lp_min I Q := lp_mn_uniq h (lp_min_mn I Q)
theorem lp_mn_congr {I : Nat} {Q Q' : Nat → Prop} {v : Nat} (h : lp_mn I Q v) (e : ∀ u, Q u ↔ Q' u) : lp_mn I Q' v := ⟨h.1, fun u hu => h.2.1 u ((e u).mpr hu), h.2.2.imp id (e v).mp⟩
theorem lp_mn_0 {I : Nat} {Q : Nat → Prop} (h : ∀ u, ¬ Q u) : lp_mn I Q I := ⟨Nat.le_refl I, fun u hu => absurd hu (h u), Or.inl rfl⟩
theorem lp_mn_add {I : Nat} {Q Q' : Nat → Prop} {v w : Nat} (h : lp_mn I Q v) (e : ∀ u, Q' u ↔ (Q u ∨ u = w)) : lp_mn I Q' (min v w) := by
  obtain ⟨a1, a2, a3⟩ := h
  refine ⟨by omega, fun u hu => ?_, ?_⟩
  · rcases (e u).mp hu with q | q
    · have := a2 u q; omega
    · omega
  · by_cases hw : w < v
    · right
      rw [show min v w = w by omega]
      exact (e w).mpr (Or.inr rfl)
    · rw [show min v w = v by omega]
      rcases a3 with q | q
      · exact Or.inl q
      · exact Or.inr ((e v).mpr (Or.inl q))
theorem lp_mn_skip {I : Nat} {Q Q' : Nat → Prop} {v : Nat} (h : lp_mn I Q v) (h1 : ∀ u, Q u → Q' u) (h2 : ∀ u, Q' u → ¬ Q u → v ≤ u) : lp_mn I Q' v :=
  ⟨h.1, fun u hu => by
    by_cases q : Q u
    · exact h.2.1 u q
    · exact h2 u hu q, h.2.2.imp id (h1 v)⟩
theorem lp_mn_I {I I' : Nat} {Q : Nat → Prop} {v v' : Nat} (h : lp_mn I Q v) (h' : lp_mn I' Q v') (u : Nat) (hu : Q u) (h1 : u ≤ I) (h2 : u ≤ I') : v = v' := by
  have a1 := h.2.1 u hu
  have b1 := h'.2.1 u hu
  have h3 : v ≤ v' := by
    rcases h'.2.2 with e | e
    · omega
    · exact h.2.1 v' e
  have h4 : v' ≤ v := by
    rcases h.2.2 with e | e
    · omega
    · exact h'.2.1 v e
  omega
/-- a stand's place, a stand with one ladder moved -/
def lp_dg (s l : Nat) : Nat := s / 2 ^ (3 * l) % 8
def lp_mv (s l p : Nat) : Nat := s - lp_dg s l * 2 ^ (3 * l) + p * 2 ^ (3 * l)
def lp_sd (P n k : Nat) : Prop := k < 2 ^ (3 * n) ∧ ∀ l, l < n → lp_dg k l < P
theorem lp_dg_lt (s l : Nat) : lp_dg s l < 8 := Nat.mod_lt _ (by decide)
theorem lp_3 {l : Nat} (h : l < 3) : l = 0 ∨ l = 1 ∨ l = 2 := by omega
theorem lp_mv_lt {s l p : Nat} (hs : s < 512) (hl : l < 3) (hp : p < 8) : lp_mv s l p < 512 := by
  rcases lp_3 hl with rfl | rfl | rfl <;> simp only [lp_mv, lp_dg, Nat.reduceMul, Nat.reducePow] <;> omega
theorem lp_dg_mv {s l p : Nat} (hs : s < 512) (hl : l < 3) (hp : p < 8) : lp_dg (lp_mv s l p) l = p := by
  rcases lp_3 hl with rfl | rfl | rfl <;> simp only [lp_mv, lp_dg, Nat.reduceMul, Nat.reducePow] <;> omega
theorem lp_dg_mv_ne {s l k p : Nat} (hs : s < 512) (hl : l < 3) (hk : k < 3) (hp : p < 8) (h : ¬ k = l) : lp_dg (lp_mv s l p) k = lp_dg s k := by
  rcases lp_3 hl with rfl | rfl | rfl <;> rcases lp_3 hk with rfl | rfl | rfl <;> first | (exact absurd rfl h) | (simp only [lp_mv, lp_dg, Nat.reduceMul, Nat.reducePow]; omega)
theorem lp_ext {s t : Nat} (hs : s < 512) (ht : t < 512) (h : ∀ l, l < 3 → lp_dg s l = lp_dg t l) : s = t := by
  have h0 := h 0 (by decide)
  have h1 := h 1 (by decide)
  have h2 := h 2 (by decide)
  simp only [lp_dg, Nat.reduceMul, Nat.reducePow] at h0 h1 h2
  omega
theorem lp_mv_mv {s l p q : Nat} (hs : s < 512) (hl : l < 3) (hp : p < 8) : lp_mv (lp_mv s l p) l q = lp_mv s l q := by
  rcases lp_3 hl with rfl | rfl | rfl <;> simp only [lp_mv, lp_dg, Nat.reduceMul, Nat.reducePow] <;> omega
theorem lp_mv_self {s l : Nat} (hs : s < 512) (hl : l < 3) : lp_mv s l (lp_dg s l) = s := by
  rcases lp_3 hl with rfl | rfl | rfl <;> simp only [lp_mv, lp_dg, Nat.reduceMul, Nat.reducePow] <;> omega
theorem lp_pw {n : Nat} (h : n ≤ 3) : 2 ^ (3 * n) ≤ 512 := by
  have : n = 0 ∨ n = 1 ∨ n = 2 ∨ n = 3 := by omega
  rcases this with rfl | rfl | rfl | rfl <;> decide
theorem lp_sd_lt {P n k : Nat} (h : lp_sd P n k) (hn : n ≤ 3) : k < 512 := Nat.lt_of_lt_of_le h.1 (lp_pw hn)
theorem lp_mv_small {s l p n : Nat} (hn : n ≤ 3) (hs : s < 2 ^ (3 * n)) (hl : l < n) (hp : p < 8) : lp_mv s l p < 2 ^ (3 * n) := by
  have hn2 : n = 0 ∨ n = 1 ∨ n = 2 ∨ n = 3 := by omega
  have hl2 : l = 0 ∨ l = 1 ∨ l = 2 := by omega
  rcases hn2 with rfl | rfl | rfl | rfl <;> rcases hl2 with rfl | rfl | rfl <;> first | (exact absurd hl (by decide)) | (simp only [lp_mv, lp_dg, Nat.reduceMul, Nat.reducePow] at hs ⊢; omega)
theorem lp_sd_mv {P n s l p : Nat} (h : lp_sd P n s) (hn : n ≤ 3) (hl : l < n) (hp : p < P) (hP : P ≤ 6) : lp_sd P n (lp_mv s l p) := by
  refine ⟨lp_mv_small hn h.1 hl (by omega), fun k hk => ?_⟩
  by_cases e : k = l
  · subst e
    rw [lp_dg_mv (lp_sd_lt h hn) (by omega) (by omega)]
    exact hp
  · rw [lp_dg_mv_ne (lp_sd_lt h hn) (by omega) (by omega) (by omega) e]
    exact h.2 k hk
theorem lp_mv_bits {s l p : Nat} (hs : s < 512) (hl : l < 3) (hp : p < 8) : (nI s &&& ((nI 7 <<< (nI (3 * l) &&& 31)) ^^^ (-1))) ||| (nI p <<< (nI (3 * l) &&& 31)) = nI (lp_mv s l p) := by
  have h : ∀ (l : Fin 3) (p : Fin 8) (s : Fin 512), (nI s.val &&& ((nI 7 <<< (nI (3 * l.val) &&& 31)) ^^^ (-1))) ||| (nI p.val <<< (nI (3 * l.val) &&& 31)) = nI (lp_mv s.val l.val p.val) := by decide +kernel
  exact h ⟨l, hl⟩ ⟨p, hp⟩ ⟨s, hs⟩
theorem lp_join {s k : Nat} (hs : s < 512) (hk : k < 3) : nI (s % 2 ^ (3 * k)) ||| (nI (lp_dg s k) <<< (nI (3 * k) &&& 31)) = nI (s % 2 ^ (3 * (k + 1))) := by
  have h : ∀ (k : Fin 3) (s : Fin 512), nI (s.val % 2 ^ (3 * k.val)) ||| (nI (lp_dg s.val k.val) <<< (nI (3 * k.val) &&& 31)) = nI (s.val % 2 ^ (3 * (k.val + 1))) := by decide +kernel
  exact h ⟨k, hk⟩ ⟨s, hs⟩
