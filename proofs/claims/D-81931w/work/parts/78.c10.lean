/-! THE COMPONENT's METHODS, part 10: isBook, isInt. Printed by c10.py. -/
section LC10
variable {ω : la_O} {ad : Nat → Nat} {S : Int32} {T : Int64} {P R L B Nw U C Kd : Nat} {fr to ln aw su ca we fa sb tb wk nw wo k0 k1 k2 k3 k4 k5 : Nat → Nat} {RE : Nat → Nat → Nat} {BF : Nat → Option Nat} {BK : va_W}
theorem lb_isBook (x : Int32) {ws : va_W} : la_CP ω yX0_isBook cX0_isBook 1 (some .boolean) (la_rm 1) [.int x] ws (nI (if lp_inI x 0 2 then 1 else 0)) := by
  refine la_CZ_of (by decide) [some (.int (x))] rfl rfl (Nat.le_of_ble_eq_true rfl) ?_
  intro κ K hret
  refine la_iload_n K dX0_isBook_0 rfl ?_
  refine la_iconst K dX0_isBook_1 la_ki_0 ?_
  refine la_iconst K dX0_isBook_2 la_ki_2 ?_
  refine la_callSp K ok_X0_in q258 (lb_in _ _ _ _) rfl rfl rfl (Nat.le_of_ble_eq_true rfl) ⟨Nat.le_of_ble_eq_true rfl, Nat.le_of_ble_eq_true rfl⟩ ⟨Nat.zero_le _, Nat.zero_le _⟩ dX0_isBook_3 ?_
  exact hret _ _ _ () (by split <;> omega) dX0_isBook_6 (by by_cases h : lp_inI x 0 2; (· rw [if_pos h, if_pos ((lp_intsC0 x (by decide)).mpr h)]); rw [if_neg h, if_neg (fun z => h ((lp_intsC0 x (by decide)).mp z))])
theorem lp_cmp0 (x y : Int64) : lg_cmp x y = 0 ↔ x = y := by
  unfold lg_cmp
  constructor
  · intro h
    split at h
    · exact absurd h (by decide)
    · split at h
      · assumption
      · exact absurd h (by decide)
  · intro h
    subst h
    rw [if_neg (show ¬ x > x from Int64.lt_irrefl), if_pos rfl]
theorem lb_isInt (x : Int64) {ws : va_W} : la_CP ω yX0_isInt cX0_isInt 2 (some .boolean) (la_rm 0) [.long x] ws (nI (if x = x.toInt32.toInt64 then 1 else 0)) := by
  refine la_CZ_of (by decide) [some (.long (x)), none] rfl rfl (Nat.le_of_ble_eq_true rfl) ?_
  intro κ K hret
  refine la_lload_n K dX0_isInt_0 rfl ?_
  refine la_lload_n K dX0_isInt_1 rfl ?_
  refine la_l2i K dX0_isInt_2 rfl ?_
  refine la_i2l K dX0_isInt_3 rfl ?_
  refine la_lcmp K dX0_isInt_4 ?_
  refine la_if_ne K 12 dX0_isInt_5 rfl (fun h5 => ?_) (fun h5 => ?_)
  · refine la_iconst K dX0_isInt_12 la_ki_0 ?_
    exact hret _ _ _ () (by omega) dX0_isInt_13 (by rw [if_neg (fun z => h5 ((lp_cmp0 _ _).mpr z))])
  · refine la_iconst K dX0_isInt_8 la_ki_1 ?_
    refine la_goto K 13 dX0_isInt_9 rfl ?_
    exact hret _ _ _ () (by omega) dX0_isInt_13 (by rw [if_pos ((lp_cmp0 _ _).mp h5)])
end LC10
