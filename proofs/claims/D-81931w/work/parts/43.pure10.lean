/-! PURE PART 10: ways. -/
def lp_wv (w : Option Nat) : Int32 := match w with
  | none => -9
  | some y => nI y
def lp_mg (w : Option Nat) (x : Nat) : Option Nat := match w with
  | none => some x
  | some y => some (min y x)
/-- one side of a road looked at: it leads from X to Y -/
def lp_wsd (d : Nat → Nat → Nat) (a b X Y n : Nat) (w : Option Nat) : Option Nat := if X = a ∧ n + d Y b = d a b then lp_mg w Y else w
def lp_wfo (d : Nat → Nat → Nat) (fr to ln : Nat → Nat) (a b : Nat) : Nat → Option Nat
  | 0 => none
  | k + 1 => lp_wsd d a b (to k) (fr k) (ln k) (lp_wsd d a b (fr k) (to k) (ln k) (lp_wfo d fr to ln a b k))
def lp_waA (I P R : Nat) (d : Nat → Nat → Nat) (fr to ln : Nat → Nat) (a b : Int32) : Int32 := if lp_in a P ∧ lp_in b P then (if a = b then b else if I ≤ d a.toNatClampNeg b.toNatClampNeg then -9 else lp_wv (lp_wfo d fr to ln a.toNatClampNeg b.toNatClampNeg R)) else -1
def lp_w6 (w : Option Nat) : Prop := ∀ y, w = some y → y < 6
theorem lp_w6_sd {d : Nat → Nat → Nat} {a b X Y n : Nat} {w : Option Nat} (h : lp_w6 w) (hY : Y < 6) : lp_w6 (lp_wsd d a b X Y n w) := by
  unfold lp_wsd
  split
  · intro y hy
    unfold lp_mg at hy
    rcases hw : w with _ | z
    · rw [hw] at hy
      cases hy
      exact hY
    · rw [hw] at hy
      have := h z hw
      cases hy
      omega
  · exact h
theorem lp_w6_fo {d : Nat → Nat → Nat} {fr to ln : Nat → Nat} {a b : Nat} : ∀ k, (∀ j, j < k → fr j < 6 ∧ to j < 6) → lp_w6 (lp_wfo d fr to ln a b k) := by
  intro k
  induction k with
  | zero => intro _ y hy; cases hy
  | succ k ih =>
    intro h
    have hk := h k (by omega)
    exact lp_w6_sd (lp_w6_sd (ih (fun j hj => h j (by omega))) hk.2) hk.1
