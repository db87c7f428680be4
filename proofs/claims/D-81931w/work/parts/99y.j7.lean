/-! JOINT LEMMAS, part 9: told. Printed by j7.py. -/
section LJ9
variable {E : Nat → ClassId} {bk : lp_Bk} {th S lt : Int32} {T : Int64} {P R L B Kd C : Nat} {ra rb rl fa aa su cp cl cf ck cm le tr re bh so br wh wy : Nat → Nat} {ct rs : Nat → Int32} {ce : Nat → Int64}
variable {B' Nw U : Nat} {fr to ln aw su' ca we fa' sb tb wk nw wo k0 k1 k2 k3 k4 k5 : Nat → Nat} {RE : Nat → Nat → Nat} {BF : Nat → Option Nat} {BK : va_W}
theorem lj_told (h : lj E bk ((th, S, T, P, R, L, B, Kd, lt, C), (ra, rb, rl, fa), (aa, su), (cp, cl, cf, ck, cm, ct), (le, tr, re), (bh, so, br, rs, ce), (wh, wy)) ((P, R, T, S, L, B', Nw, U, C, Kd), (fr, to, ln, aw), (su', ca, we, fa', sb, tb), (wk, nw, wo), (k0, k1, k2, k3, k4, k5), RE, BF, BK)) (i w : Int32) : lp_tdA C ca we (fun q => fa' q / 8) sb i w = lp_tdA C cp cl cf ck i w := by
  unfold lp_tdA
  by_cases e : lp_in i C ∧ lp_inI w 0 3
  · have hJ : lb_Jx P R L B' Nw U C Kd fr to ln aw su' ca we fa' sb tb := h.2.2.2.2.2.2
    have hca : ∀ i, i < C → ca i = cp i ∧ we i = cl i ∧ sb i = ck i := h.2.2.1
    obtain ⟨k, hk, rfl⟩ := lp_in_N e.1 (by have := hJ.2.2.2.2.1; omega)
    have hL : 1 ≤ L := by
      rcases Nat.eq_zero_or_pos L with z | z
      · have := hJ.2.2.2.2.2.2.1 z; omega
      · exact z
    have hk2 : k < 2 ^ 31 := by have := hJ.2.2.2.2.1; omega
    rw [if_pos e, if_pos e, nI_clamp hk2]
    dsimp only
    rw [(hca k hk).1, (hca k hk).2.1, (hca k hk).2.2, lj_cf h hL k hk]
  · rw [if_neg e, if_neg e]
end LJ9
