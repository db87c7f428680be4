/-! THE COMPONENT's INVARIANT behind place, begin, end, rule, back; the launch keeps no traces. -/
section LJW
variable {P R L B Nw U C Kd : Nat} {fr to ln aw su ca we fa sb tb : Nat → Nat}
theorem lb_J_place {aw' : Nat → Nat} (hJ : lb_Jx P R L B Nw U C Kd fr to ln aw su ca we fa sb tb) (hL : L = 0) (hP : P < 6) (haw : ∀ a b, a < P + 1 → b < P + 1 → aw' (6 * a + b) = (lp_ds 1000000 fr to ln R (P + 1)) a b) : lb_Jx (P + 1) R L B Nw U C Kd fr to ln aw' su ca we fa sb tb := by
  obtain ⟨-, hR, hro, hL3, hC12, hKd, hLC, -, -⟩ := hJ
  exact ⟨by omega, hR, fun k hk => ⟨by have := (hro k hk).1; omega, by have := (hro k hk).2.1; omega, (hro k hk).2.2⟩, hL3, hC12, hKd, hLC, haw, fun h => by omega⟩
theorem lb_J_begin {k x : Nat} {su' : Nat → Nat} (hJ : lb_Jx P R L B Nw U C Kd fr to ln aw su ca we fa sb tb) (hk1 : 1 ≤ k) (hk3 : k ≤ 3) (hsd : lp_sd P k x) (ht : ¬ lp_torn0 1000000 P aw) (hsu : ∀ i, i < 3 → su' i = 0) : lb_Jx P R k x x 0 0 Kd fr to ln aw su' ca we fa sb tb := by
  obtain ⟨hP, hR, hro, hL3, hC12, hKd, hLC, haw, -⟩ := hJ
  obtain ⟨d1, d2, -⟩ := lp_torn_day hP (fun j hj => ⟨(hro j hj).1, (hro j hj).2.1, (hro j hj).2.2.1, (hro j hj).2.2.2.2⟩) haw ht
  refine ⟨hP, hR, hro, hk3, by omega, hKd, fun h => by omega, haw, fun _ => ⟨hsd, fun i hi => by omega, fun i hi => by omega, fun i hi => by omega, d1, d2, rfl, fun i hi => ?_, ?_, fun i hi => by omega, fun i hi => by omega⟩⟩
  · rw [hsu i (by omega)]; rfl
  · show 0 = 0 % k
    rw [Nat.zero_mod]
theorem lb_J_end (hJ : lb_Jx P R L B Nw U C Kd fr to ln aw su ca we fa sb tb) : lb_Jx P R 0 B Nw U 0 Kd fr to ln aw su ca we fa sb tb := by
  obtain ⟨hP, hR, hro, -, -, hKd, -, haw, -⟩ := hJ
  exact ⟨hP, hR, hro, by omega, by omega, hKd, fun _ => rfl, haw, fun h => by omega⟩
theorem lb_J_rule {k : Nat} (hJ : lb_Jx P R L B Nw U C Kd fr to ln aw su ca we fa sb tb) (hk : k < 4) : lb_Jx P R L B Nw U C k fr to ln aw su ca we fa sb tb := by
  obtain ⟨hP, hR, hro, hL, hC, -, hLC, haw, hD⟩ := hJ
  exact ⟨hP, hR, hro, hL, hC, by omega, hLC, haw, hD⟩
theorem lb_J_back {c : Nat} (hJ : lb_Jx P R L B Nw U (c + 1) Kd fr to ln aw su ca we fa sb tb) : lb_Jx P R L B (lp_mv Nw (we c) (fa c % 8)) (tb c) c Kd fr to ln aw (va_up su (we c) (su (we c) - fa c / 8)) ca we fa sb tb := by
  obtain ⟨hP, hR, hro, hL, hC, hKd, hLC, haw, hD⟩ := hJ
  exact ⟨hP, hR, hro, hL, by omega, hKd, fun h => by have := hLC h; omega, haw, fun h => (lb_unstep hP hL (by omega) (hD h)).1⟩
end LJW
theorem lt_off_of {l : Launch} (h : l.flags = flags0) : lt_off l := fun e ha => Launch.traces_off h ha
theorem lm_J_τ0 : lm_J lm_τ0 := by
  refine ⟨Nat.zero_le _, Nat.zero_le _, fun k hk => absurd hk (Nat.not_lt_zero _), Nat.zero_le _, Nat.zero_le _, Nat.zero_le _, fun _ => rfl, fun i => Nat.zero_le _, fun i => Nat.zero_le _, fun h => absurd h (by decide)⟩
