/-! JOINT LEMMAS, part 10: moves. Printed by j8.py. -/
section LJA
variable {E : Nat → ClassId} {bk : lp_Bk} {th S lt : Int32} {T : Int64} {P R L B Kd C : Nat} {ra rb rl fa aa su cp cl cf ck cm le tr re bh so br wh wy : Nat → Nat} {ct rs : Nat → Int32} {ce : Nat → Int64}
variable {B' Nw U : Nat} {fr to ln aw su' ca we fa' sb tb wk nw wo k0 k1 k2 k3 k4 k5 : Nat → Nat} {RE : Nat → Nat → Nat} {BF : Nat → Option Nat} {BK : va_W}
theorem lj_moves (h : lj E bk ((th, S, T, P, R, L, B, Kd, lt, C), (ra, rb, rl, fa), (aa, su), (cp, cl, cf, ck, cm, ct), (le, tr, re), (bh, so, br, rs, ce), (wh, wy)) ((P, R, T, S, L, B', Nw, U, C, Kd), (fr, to, ln, aw), (su', ca, we, fa', sb, tb), (wk, nw, wo), (k0, k1, k2, k3, k4, k5), RE, BF, BK)) (s t : Int32) : (if L = 0 then (-2 : Int32) else @ite _ (lp_st P L s ∧ lp_st P L t) (Classical.propDecidable _) (nI (lp_mo 1000000 L aw s.toNatClampNeg t.toNatClampNeg L 0 0)) (-1)) = lp_mvA P L fa s t := by
  unfold lp_mvA
  by_cases e : L = 0
  · rw [if_pos e, if_pos e]
  · have hL : 1 ≤ L := Nat.one_le_iff_ne_zero.mpr e
    have hJ : lb_Jx P R L B' Nw U C Kd fr to ln aw su' ca we fa' sb tb := h.2.2.2.2.2.2
    obtain ⟨-, e2⟩ := lj_d h hL
    rw [if_neg e, if_neg e]
    by_cases e3 : lp_st P L s ∧ lp_st P L t
    · rw [if_pos e3, if_pos e3]
      obtain ⟨⟨a, rfl, ha1, ha2⟩, ⟨b, rfl, hb1, hb2⟩⟩ := e3
      rw [nI_clamp ha1, nI_clamp hb1, lp_mo_eq hL hJ.2.2.2.1 ha2 hb2 (hJ.2.2.2.2.2.2.2.2 hL).2.2.2.2.1]
      have e4 : lp_MQ L aw a b = lp_MQ L fa a b := funext fun u => propext (lp_MQ_d (fun x y hx hy => (e2 x y hx hy).symm) hL hJ.2.2.2.1 ha2 hb2 u)
      rw [e4]
    · rw [if_neg e3, if_neg e3]
end LJA
