/-! THE COMPONENT's METHODS, part 9: has. Printed by c9.py. -/
section LC9
variable {ω : la_O} {ad : Nat → Nat} {S : Int32} {T : Int64} {P R L B Nw U C Kd : Nat} {fr to ln aw su ca we fa sb tb wk nw wo k0 k1 k2 k3 k4 k5 : Nat → Nat} {RE : Nat → Nat → Nat} {BF : Nat → Option Nat} {BK : va_W}
theorem lp_HQ_next {w : Nat → Nat} {p k z x : Nat} (h : lp_HQ w p k z) (hx : x < 2) (e : x = 1 ↔ (z = 1 ∨ w k = p)) : lp_HQ w p (k + 1) x := by
  obtain ⟨h1, h2⟩ := h
  refine ⟨hx, ?_, ?_⟩
  · intro q
    rcases e.mp q with z1 | z2
    · obtain ⟨k', a, b⟩ := h2.mp z1
      exact ⟨k', by omega, b⟩
    · exact ⟨k, by omega, z2⟩
  · rintro ⟨k', a, b⟩
    apply e.mpr
    by_cases hk : k' = k
    · subst hk; exact Or.inr b
    · exact Or.inl (h2.mpr ⟨k', by omega, b⟩)
set_option maxHeartbeats 4000000 in
theorem lb_has {a s p : Nat} {ws : va_W} (hs : s < 512) (hL3 : L ≤ 3) (hp : p < 8) : lt_C ω yX11_has cX11_has 6 (some .boolean) [] (la_rm 0) (fun _ => True) [.ref a, .int (nI s), .int (nI L), .int (nI p)] ws (fun _ : Unit => ws) (fun r _ => r = .inl (some (.int (nI (lp_b (lp_there L (fun k => lp_dg s k) p)))))) := by
  refine lt_CZ_of [some (.ref a), some (.int (nI (s))), some (.int (nI (L))), some (.int (nI (p))), none, none] rfl rfl (Nat.le_of_ble_eq_true rfl) ?_
  intro κ K _ _ hret
  have lp : ∀ (j k : Nat) (z : Nat), k ≤ L → L < k + j → lp_HQ (fun k => lp_dg s k) p k z → la_At ω κ (0, 0) 6 [some (.ref a), some (.int (nI (s))), some (.int (nI (L))), some (.int (nI (p))), some (.int (nI (z))), some (.int (nI (k)))] [] ws := by
    intro j
    induction j with
    | zero => intro k z h1 h2; omega
    | succ j ih =>
      intro k z h1 h2 hz
      refine la_iload K dX11_has_6 rfl ?_
      refine la_iload_n K dX11_has_8 rfl ?_
      refine la_icmp_geN K 43 dX11_has_9 rfl (by omega) (by omega) (fun h9 => ?_) (fun h9 => ?_)
      · refine la_iload K dX11_has_43 rfl ?_
        exact hret _ _ _ () hz.1 dX11_has_45 (by rw [show k = L by omega] at hz; rw [lp_HQ_end hz])
      · have hz1 := hz.1
        refine la_iload K dX11_has_12 rfl ?_
        refine la_if_neN K 30 dX11_has_14 rfl (by have := hz.1; omega) (fun h14 => ?_) (fun h14 => ?_)
        · refine la_iconst K dX11_has_30 la_ki_1 ?_
          refine la_goto K 35 dX11_has_31 rfl ?_
          refine la_istore4 K dX11_has_35 rfl ?_
          refine la_iinc5 K dX11_has_37 (la_inc_N _) rfl ?_
          refine la_goto K 6 dX11_has_40 rfl ?_
          exact ih (k + 1) 1 (by omega) (by omega) (lp_HQ_next hz (by omega) ⟨fun _ => Or.inl (by omega), fun _ => rfl⟩)
        · refine la_iload_n K dX11_has_17 rfl ?_
          refine la_iconst K dX11_has_18 la_ki_3 ?_
          refine la_iload K dX11_has_19 rfl ?_
          refine la_imulN K dX11_has_21 ?_
          refine la_ishrN K dX11_has_22 (by omega) (by omega) ?_
          refine la_bipush K dX11_has_23 la_kb_7 ?_
          refine la_iand7 K dX11_has_25 (by have := Nat.div_le_self s (2 ^ (3 * k)); omega) ?_
          refine la_iload_n K dX11_has_26 rfl ?_
          refine la_icmp_neN K 34 dX11_has_27 rfl (by have := lp_dg_lt s k; unfold lp_dg at this; omega) (by omega) (fun h27 => ?_) (fun h27 => ?_)
          · refine la_iconst K dX11_has_34 la_ki_0 ?_
            refine la_istore4 K dX11_has_35 rfl ?_
            refine la_iinc5 K dX11_has_37 (la_inc_N _) rfl ?_
            refine la_goto K 6 dX11_has_40 rfl ?_
            exact ih (k + 1) 0 (by omega) (by omega) (lp_HQ_next hz (by omega) ⟨fun q => absurd q (by decide), fun q => by rcases q with q | q; (· omega); exact absurd q h27⟩)
          · refine la_iconst K dX11_has_30 la_ki_1 ?_
            refine la_goto K 35 dX11_has_31 rfl ?_
            refine la_istore4 K dX11_has_35 rfl ?_
            refine la_iinc5 K dX11_has_37 (la_inc_N _) rfl ?_
            refine la_goto K 6 dX11_has_40 rfl ?_
            exact ih (k + 1) 1 (by omega) (by omega) (lp_HQ_next hz (by omega) ⟨fun _ => Or.inr h27, fun _ => rfl⟩)
  refine la_iconst K dX11_has_0 la_ki_0 ?_
  refine la_istore4 K dX11_has_1 rfl ?_
  refine la_iconst K dX11_has_3 la_ki_0 ?_
  refine la_istore5 K dX11_has_4 rfl ?_
  exact lp (L + 1) 0 0 (by omega) (by omega) lp_HQ_0
end LC9
