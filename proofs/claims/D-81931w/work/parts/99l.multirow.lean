/-! THE ROW OF multianewarray. -/
theorem arrV_congr {c : ClassId} {n : Nat} {V V' : Nat → Value} (h : ∀ j, j < n → V j = V' j) : arrV c n V = arrV c n V' := by
  have e : (arrV c n V).slots = (arrV c n V').slots := by
    apply Array.ext_getElem?
    intro i
    by_cases hi : i < n
    · rw [arrV_read _ _ hi, arrV_read _ _ hi, h i hi]
    · rw [Array.getElem?_eq_none (by rw [arrV_size]; omega), Array.getElem?_eq_none (by rw [arrV_size]; omega)]
  show ({ cls := c, slots := (arrV c n V).slots, vm := .none } : Cell) = { cls := c, slots := (arrV c n V').slots, vm := .none }
  rw [e]
def lb_new (E : Nat → ClassId) (h M N : Nat) : va_W := (h, .inl (E 7, M, .inr (.inr (.inr (.inr (fun j => some (h + 1 + j))))))) :: (List.range M).map (fun j => (h + 1 + j, la_ia E N (fun _ => 0)))
theorem lb_new_at {E : Nat → ClassId} {h M N k : Nat} {q : Nat × va_E} (hq : (lb_new E h M N)[k]? = some q) : (k = 0 ∧ q = (h, .inl (E 7, M, .inr (.inr (.inr (.inr (fun j => some (h + 1 + j)))))))) ∨ ∃ j, k = j + 1 ∧ j < M ∧ q = (h + 1 + j, la_ia E N (fun _ => 0)) := by
  rcases k with _ | j
  · exact Or.inl ⟨rfl, (Option.some.inj hq).symm⟩
  · right
    have h1 : ((List.range M).map (fun j => ((h + 1 + j, la_ia E N (fun _ => 0)) : Nat × va_E)))[j]? = some q := hq
    rw [List.getElem?_map] at h1
    obtain ⟨i, hi, rfl⟩ := Option.map_eq_some_iff.mp h1
    obtain ⟨hlt, e⟩ := List.getElem?_eq_some_iff.mp hi
    rw [List.getElem_range] at e
    subst e
    exact ⟨j, rfl, by rw [List.length_range] at hlt; exact hlt, rfl⟩
section LMR2
variable {ω : la_O} {κ : la_K} {cc : ByteArray} {nL : Nat} {own : String} {R0 : Room} {n : Nat × Nat} {pc : Nat} {lv : List (Option Value)} {st : List Value} {ws : va_W}
theorem la_multi (K : la_Cx ω κ cc nL own R0) {index M N : Nat} (hl1 : Cond.classLink own index "[[I" ∈ lw_all) (hM0 : 0 < M) (hM : M < 100000) (hN : N < 100000) (hf : n.1 + 1 + M ≤ R0.cells ∧ n.2 + M + N * M ≤ R0.slots) (hd : decode cc pc = .ok (.multianewarray index 2, 4)) (kk : ∀ h : Nat, la_At ω κ (n.1 + 1 + M, n.2 + M + N * M) (pc + 4) lv (.ref h :: st) (ws ++ lb_new ω.2.2 h M N)) : la_At ω κ n pc lv (.int (nI N) :: .int (nI M) :: st) ws := by
  obtain ⟨hx, hb, hml, hown, hts, hK, hG, hA, hR, hlk⟩ := K
  subst hR
  intro H locs ls hP hD hS hl T hT X
  obtain ⟨comp, c0, kA, f1, f2, f3, f4, f5⟩ := arrayOverA_spec (lt_ao hG q121 #[])
  have e1 : c0 = ω.2.2 7 := Option.some.inj (f5.symm.trans (hK.2 7 _ rfl).2)
  have e2 : comp = ω.2.2 0 := Option.some.inj (f1.symm.trans (hK.2 0 _ rfl).2)
  subst e1 e2
  obtain ⟨-, kB, hkB, cB, hkindB⟩ := (hK.2 0 _ rfl).1 0 (fun _ => .null)
  obtain ⟨vm₁, hW, hstep⟩ := lt_multi (M := M) (N := N) X hx hown (hts _ hl1) f5 f3 f4 hkB hkindB hM0 hM hN hf.1 hf.2 (g := F0 (la_m κ) pc ls (.int (nI N) :: .int (nI M) :: st)) rfl rfl (by rw [hb]; exact hd)
  obtain ⟨L, hL, Y⟩ := lt_mu_stand (cO := ω.2.2 7) (cI := ω.2.2 0) (M := M) (N := N) (X.noted hW) M
  have hH : (T.setVm vm₁).heap = H := hT
  have z1 := lt_mu_size (cO := ω.2.2 7) (cI := ω.2.2 0) (M := M) (N := N) (U := T.setVm vm₁) M
  have o1 := lt_mu_old (cO := ω.2.2 7) (cI := ω.2.2 0) (M := M) (N := N) (U := T.setVm vm₁) M
  have a1 := lt_mu_outer (cO := ω.2.2 7) (cI := ω.2.2 0) (M := M) (N := N) (U := T.setVm vm₁) M
  have i1 := lt_mu_inner (cO := ω.2.2 7) (cI := ω.2.2 0) (M := M) (N := N) (U := T.setVm vm₁) M
  rw [hH] at z1 o1 a1 i1 hL
  have hnew : ∀ k q, (lb_new ω.2.2 H.size M N)[k]? = some q → q.1 = H.size + k := by
    intro k q hq
    rcases lb_new_at hq with ⟨rfl, rfl⟩ | ⟨j, rfl, -, rfl⟩
    · rfl
    · show H.size + 1 + j = H.size + (j + 1); omega
  have hP1 : va_P ω.2.1 la_cl (ws ++ lb_new ω.2.2 H.size M N) (lt_mu (ω.2.2 7) (ω.2.2 0) M N (T.setVm vm₁) M).heap := by
    refine (hP.kept (fun k q hk => o1 q.1 ((hP k q hk).lt))).app (fun k q hq => ?_)
    rcases lb_new_at hq with ⟨rfl, rfl⟩ | ⟨j, rfl, hj, rfl⟩
    · show _ = some (vp_cell _ _)
      rw [vp_cell_q]
      refine a1.trans (congrArg some ?_)
      unfold lt_oc
      refine arrV_congr (fun j hj => ?_)
      rw [if_pos hj]
      rfl
    · exact i1 j hj
  have hD1 : va_D (la_A κ) (ws ++ lb_new ω.2.2 H.size M N) := by
    refine ⟨fun i j p q hi hj e => ?_, fun k q hk => ?_⟩
    · rcases lf_or hi with h2 | ⟨i', ei, h2⟩
      · rcases lf_or hj with h3 | ⟨j', ej, h3⟩
        · exact hD.1 i j p q h2 h3 e
        · have := hnew _ _ h3
          have := (hP i p h2).lt
          omega
      · rcases lf_or hj with h3 | ⟨j', ej, h3⟩
        · have := hnew _ _ h2
          have := (hP j q h3).lt
          omega
        · have := hnew _ _ h2
          have := hnew _ _ h3
          omega
    · rcases lf_or hk with h2 | ⟨j, -, h2⟩
      · exact hD.2 k q h2
      · rw [hnew _ _ h2]
        exact hA _ (Nat.le_trans hS.1 (by omega))
  have hS1 : va_S (la_A κ) (la_s κ).heap (lt_mu (ω.2.2 7) (ω.2.2 0) M N (T.setVm vm₁) M).heap (locs ++ L) := ⟨Nat.le_trans hS.1 (by omega), fun q h1 h2 => (o1 q (Nat.lt_of_lt_of_le h1 hS.1)).trans (hS.2.1 q h1 h2), fun q hq => by
    rcases List.mem_append.mp hq with h | h
    · exact hS.2.2 q h
    · rw [hL q h]; exact hA _ hS.1⟩
  obtain ⟨t, b1, b2⟩ := kk H.size _ (locs ++ L) ls hP1 hD1 hS1 hl _ rfl Y
  refine ⟨t, hstep t ?_, b2⟩
  rw [show T.heap.size = H.size by rw [hT]]
  exact b1
end LMR2
