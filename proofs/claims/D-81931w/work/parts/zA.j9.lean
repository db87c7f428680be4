/-! JOINT LEMMAS, part 11: way, work, least, ratio, plan. Printed by j9.py. -/
section LJB
variable {E : Nat → ClassId} {bk : lp_Bk} {th S lt : Int32} {T : Int64} {P R L B Kd C : Nat} {ra rb rl fa aa su cp cl cf ck cm le tr re bh so br wh wy : Nat → Nat} {ct rs : Nat → Int32} {ce : Nat → Int64}
variable {B' Nw U : Nat} {fr to ln aw su' ca we fa' sb tb wk nw wo k0 k1 k2 k3 k4 k5 : Nat → Nat} {RE : Nat → Nat → Nat} {BF : Nat → Option Nat} {BK : va_W}
theorem lp_wfo_congr {d : Nat → Nat → Nat} {f f2 t t2 l l2 : Nat → Nat} {a b : Nat} : ∀ n, (∀ k, k < n → f k = f2 k ∧ t k = t2 k ∧ l k = l2 k) → lp_wfo d f t l a b n = lp_wfo d f2 t2 l2 a b n := by
  intro n
  induction n with
  | zero => intro _; rfl
  | succ n ih =>
    intro h
    obtain ⟨x1, x2, x3⟩ := h n (Nat.lt_succ_self n)
    rw [lp_wfo, lp_wfo, ih (fun k hk => h k (Nat.lt_succ_of_lt hk)), x1, x2, x3]
theorem lj_way (h : lj E bk ((th, S, T, P, R, L, B, Kd, lt, C), (ra, rb, rl, fa), (aa, su), (cp, cl, cf, ck, cm, ct), (le, tr, re), (bh, so, br, rs, ce), (wh, wy)) ((P, R, T, S, L, B', Nw, U, C, Kd), (fr, to, ln, aw), (su', ca, we, fa', sb, tb), (wk, nw, wo), (k0, k1, k2, k3, k4, k5), RE, BF, BK)) (a b : Int32) : lp_waA 1000000 P R (fun a b => aw (6 * a + b)) fr to ln a b = lp_waA 100000000 P R (lp_ds 100000000 ra rb rl R 6) ra rb rl a b := by
  have hb : lb_Jx P R L B' Nw U C Kd fr to ln aw su' ca we fa' sb tb := h.2.2.2.2.2.2
  have hro : ∀ k, k < R → fr k = ra k ∧ to k = rb k ∧ ln k = rl k := h.2.1
  have e : lp_ds 100000000 fr to ln R 6 = lp_ds 100000000 ra rb rl R 6 := by
    funext a b
    exact lp_ds_congr hro 6 a b
  rw [lp_waA_eq hb.1 (fun j hj => ⟨(hb.2.2.1 j hj).1, (hb.2.2.1 j hj).2.1, (hb.2.2.1 j hj).2.2.2.2⟩) hb.2.2.2.2.2.2.2.1 a b, e]
  unfold lp_waA
  rw [lp_wfo_congr R hro]
theorem lj_rw (h : lj E bk ((th, S, T, P, R, L, B, Kd, lt, C), (ra, rb, rl, fa), (aa, su), (cp, cl, cf, ck, cm, ct), (le, tr, re), (bh, so, br, rs, ce), (wh, wy)) ((P, R, T, S, L, B', Nw, U, C, Kd), (fr, to, ln, aw), (su', ca, we, fa', sb, tb), (wk, nw, wo), (k0, k1, k2, k3, k4, k5), RE, BF, BK)) (hL : 1 ≤ L) {n : Nat} (hn : n ≤ C) : lp_rw L aw B' ca n = lp_rw L fa B cp n := by
  have hb : lb_Jx P R L B' Nw U C Kd fr to ln aw su' ca we fa' sb tb := h.2.2.2.2.2.2
  have hca : ∀ i, i < C → ca i = cp i ∧ we i = cl i ∧ sb i = ck i := h.2.2.1
  have hD := hb.2.2.2.2.2.2.2.2 hL
  obtain ⟨e1, e2⟩ := lj_d h hL
  rw [← lp_rw_d e2 hb.1 hb.2.2.2.1 hD.1 hD.2.1 n hn, e1]
  exact lp_rw_congr (fun i hi => (hca i hi).1) n hn
theorem lj_work (h : lj E bk ((th, S, T, P, R, L, B, Kd, lt, C), (ra, rb, rl, fa), (aa, su), (cp, cl, cf, ck, cm, ct), (le, tr, re), (bh, so, br, rs, ce), (wh, wy)) ((P, R, T, S, L, B', Nw, U, C, Kd), (fr, to, ln, aw), (su', ca, we, fa', sb, tb), (wk, nw, wo), (k0, k1, k2, k3, k4, k5), RE, BF, BK)) (n s : Int32) : (if L = 0 then (-2 : Int32) else @ite _ (lp_inI n 0 C ∧ lp_st P L s) (Classical.propDecidable _) (nI (lp_wc P L aw B' ca n.toNatClampNeg s.toNatClampNeg)) (-1)) = lp_wkA P L C B fa cp n s := by
  unfold lp_wkA
  by_cases e : L = 0
  · rw [if_pos e, if_pos e]
  · have hL : 1 ≤ L := Nat.one_le_iff_ne_zero.mpr e
    have hb : lb_Jx P R L B' Nw U C Kd fr to ln aw su' ca we fa' sb tb := h.2.2.2.2.2.2
    have hca : ∀ i, i < C → ca i = cp i ∧ we i = cl i ∧ sb i = ck i := h.2.2.1
    have hD := hb.2.2.2.2.2.2.2.2 hL
    obtain ⟨e1, e2⟩ := lj_d h hL
    have hC : C ≤ 12 := hb.2.2.2.2.1
    rw [if_neg e, if_neg e]
    by_cases e3 : lp_inI n 0 C ∧ lp_st P L s
    · rw [if_pos e3, if_pos e3]
      obtain ⟨h3, ⟨b, rfl, hb1, hb2⟩⟩ := e3
      obtain ⟨k, -, hk, rfl⟩ := lp_inI_N h3 (by omega)
      rw [nI_clamp hb1, nI_clamp (by omega), lp_work hb.1 hL hb.2.2.2.1 hD.1 hD.2.2.2.2.1 (by omega) (fun j hj => hD.2.1 j (by omega)) hb2, lj_rw h hL hk, lp_wm_d (fun x y hx hy => (e2 x y hx hy).symm) hL hb.2.2.2.1 (fun t _ ht => ?_) hb2]
      rw [← lj_rw h hL hk] at ht
      exact lp_rw_stand hb.1 hb.2.2.2.1 hD.1 hD.2.1 k hk t ht
    · rw [if_neg e3, if_neg e3]
theorem lj_lo (h : lj E bk ((th, S, T, P, R, L, B, Kd, lt, C), (ra, rb, rl, fa), (aa, su), (cp, cl, cf, ck, cm, ct), (le, tr, re), (bh, so, br, rs, ce), (wh, wy)) ((P, R, T, S, L, B', Nw, U, C, Kd), (fr, to, ln, aw), (su', ca, we, fa', sb, tb), (wk, nw, wo), (k0, k1, k2, k3, k4, k5), RE, BF, BK)) (hL : 1 ≤ L) {n : Nat} (hn : n ≤ C) : lp_min 1000000 (lp_LQ (lp_wc P L aw B' ca n) (2 ^ (3 * L))) = lp_lo L fa B cp n := by
  have hb : lb_Jx P R L B' Nw U C Kd fr to ln aw su' ca we fa' sb tb := h.2.2.2.2.2.2
  have hD := hb.2.2.2.2.2.2.2.2 hL
  have hC : C ≤ 12 := hb.2.2.2.2.1
  rw [lp_least hb.1 hL hb.2.2.2.1 hD.1 hD.2.2.2.2.1 hD.2.2.2.2.2.1 (by omega) (fun j hj => hD.2.1 j (by omega))]
  unfold lp_lo
  rw [lj_rw h hL hn]
theorem lj_least (h : lj E bk ((th, S, T, P, R, L, B, Kd, lt, C), (ra, rb, rl, fa), (aa, su), (cp, cl, cf, ck, cm, ct), (le, tr, re), (bh, so, br, rs, ce), (wh, wy)) ((P, R, T, S, L, B', Nw, U, C, Kd), (fr, to, ln, aw), (su', ca, we, fa', sb, tb), (wk, nw, wo), (k0, k1, k2, k3, k4, k5), RE, BF, BK)) (n : Int32) : (if L = 0 then (-2 : Int32) else if lp_inI n 0 C then nI (lp_min 1000000 (lp_LQ (lp_wc P L aw B' ca n.toNatClampNeg) (2 ^ (3 * L)))) else -1) = lp_leA L C B fa cp n := by
  unfold lp_leA
  by_cases e : L = 0
  · rw [if_pos e, if_pos e]
  · have hL : 1 ≤ L := Nat.one_le_iff_ne_zero.mpr e
    have hb : lb_Jx P R L B' Nw U C Kd fr to ln aw su' ca we fa' sb tb := h.2.2.2.2.2.2
    have hca : ∀ i, i < C → ca i = cp i ∧ we i = cl i ∧ sb i = ck i := h.2.2.1
    have hD := hb.2.2.2.2.2.2.2.2 hL
    obtain ⟨e1, e2⟩ := lj_d h hL
    have hC : C ≤ 12 := hb.2.2.2.2.1
    rw [if_neg e, if_neg e]
    by_cases e3 : lp_inI n 0 C
    · rw [if_pos e3, if_pos e3]
      obtain ⟨k, -, hk, rfl⟩ := lp_inI_N e3 (by omega)
      rw [nI_clamp (by omega), lj_lo h hL hk]
    · rw [if_neg e3, if_neg e3]
theorem lj_ratio (h : lj E bk ((th, S, T, P, R, L, B, Kd, lt, C), (ra, rb, rl, fa), (aa, su), (cp, cl, cf, ck, cm, ct), (le, tr, re), (bh, so, br, rs, ce), (wh, wy)) ((P, R, T, S, L, B', Nw, U, C, Kd), (fr, to, ln, aw), (su', ca, we, fa', sb, tb), (wk, nw, wo), (k0, k1, k2, k3, k4, k5), RE, BF, BK)) : (if L = 0 then (-2 : Int32) else if lp_min 1000000 (lp_LQ (lp_wc P L aw B' ca C) (2 ^ (3 * L))) = 0 then -9 else nI (1000 * lp_tot su' L / lp_min 1000000 (lp_LQ (lp_wc P L aw B' ca C) (2 ^ (3 * L))))) = lp_raA L C B fa cp su := by
  unfold lp_raA
  by_cases e : L = 0
  · rw [if_pos e, if_pos e]
  · have hL : 1 ≤ L := Nat.one_le_iff_ne_zero.mpr e
    rw [if_neg e, if_neg e, lj_lo h hL (Nat.le_refl _), lp_tot_congr L (lj_su h hL)]
theorem lp_fl_uni {I I' P L : Nat} {d d' c c' : Nat → Nat} (hP : P ≤ 6) (hL1 : 1 ≤ L) (hL : L ≤ 3) (hd6 : ∀ a b, a < P → b < P → d (6 * a + b) ≤ 6400) (hd : ∀ a b, a < P → b < P → d (6 * a + b) = d' (6 * a + b)) {C : Nat} (h1 : ∀ i, i < C → c i < P) (hc : ∀ i, i < C → c i = c' i) {n : Nat} (hn : n ≤ C) (hC : C ≤ 12) (hI : 1000000 ≤ I) (hI' : 1000000 ≤ I') {k x : Nat} (hk : k < n) (hx : lp_sd P L x) : lp_fl I P L d c n k x = lp_fl I' P L d' c' n k x := by
  have r : ∀ j i y, i + j ≤ C → lp_sd P L y → lp_ro I P L d c j i y = lp_ro I' P L d' c' j i y := fun j i y hi hy => by
    rw [lp_ro_I (I' := I') hP hL1 hL hd6 h1 j i y hi (by omega) (by omega) hy, lp_ro_d hP hL hd h1 j i hi, lp_ro_congr hc j i hi]
  unfold lp_fl
  refine lp_min_congr (fun l => ?_)
  have hkC : k < C := Nat.lt_of_lt_of_le hk hn
  constructor
  · rintro ⟨hl, e⟩
    refine ⟨hl, ?_⟩
    unfold lp_rv at e ⊢
    rw [r _ _ _ (by omega) hx, r _ _ _ (by omega) (lp_sd_mv hx hL hl (h1 k hkC) hP), hd _ _ (hx.2 l hl) (h1 k hkC), hc k hkC] at e
    exact e
  · rintro ⟨hl, e⟩
    refine ⟨hl, ?_⟩
    unfold lp_rv at e ⊢
    rw [r _ _ _ (by omega) hx, r _ _ _ (by omega) (lp_sd_mv hx hL hl (h1 k hkC) hP), hd _ _ (hx.2 l hl) (h1 k hkC), hc k hkC]
    exact e
theorem lp_pp_uni {I I' P L B : Nat} {d d' c c' : Nat → Nat} (hP : P ≤ 6) (hL1 : 1 ≤ L) (hL : L ≤ 3) (hd6 : ∀ a b, a < P → b < P → d (6 * a + b) ≤ 6400) (hd : ∀ a b, a < P → b < P → d (6 * a + b) = d' (6 * a + b)) {C : Nat} (h1 : ∀ i, i < C → c i < P) (hc : ∀ i, i < C → c i = c' i) {n : Nat} (hn : n ≤ C) (hC : C ≤ 12) (hI : 1000000 ≤ I) (hI' : 1000000 ≤ I') (hB : lp_sd P L B) : ∀ k, k ≤ n → lp_pp I P L d c B n k = lp_pp I' P L d' c' B n k := by
  intro k
  induction k with
  | zero => intro _; rfl
  | succ k ih =>
    intro hk
    have hs := lp_pp_sd hP hL1 hL hd6 h1 hn (by omega) hI hB k (by omega)
    rw [lp_pp, lp_pp, lp_fl_uni hP hL1 hL hd6 hd h1 hc hn hC hI hI' (by omega) hs, ih (by omega), hc k (by omega)]
theorem lj_plan (h : lj E bk ((th, S, T, P, R, L, B, Kd, lt, C), (ra, rb, rl, fa), (aa, su), (cp, cl, cf, ck, cm, ct), (le, tr, re), (bh, so, br, rs, ce), (wh, wy)) ((P, R, T, S, L, B', Nw, U, C, Kd), (fr, to, ln, aw), (su', ca, we, fa', sb, tb), (wk, nw, wo), (k0, k1, k2, k3, k4, k5), RE, BF, BK)) (n i : Int32) : lp_plnA 1000000 P L C B' aw ca n i = lp_plnA 100000000 P L C B fa cp n i := by
  unfold lp_plnA
  by_cases e : L = 0
  · rw [if_pos e, if_pos e]
  · have hL : 1 ≤ L := Nat.one_le_iff_ne_zero.mpr e
    have hb : lb_Jx P R L B' Nw U C Kd fr to ln aw su' ca we fa' sb tb := h.2.2.2.2.2.2
    have hca : ∀ i, i < C → ca i = cp i ∧ we i = cl i ∧ sb i = ck i := h.2.2.1
    have hD := hb.2.2.2.2.2.2.2.2 hL
    obtain ⟨e1, e2⟩ := lj_d h hL
    have hC : C ≤ 12 := hb.2.2.2.2.1
    rw [if_neg e, if_neg e]
    by_cases e3 : lp_inI n 1 C ∧ lp_in i n.toNatClampNeg
    · rw [if_pos e3, if_pos e3]
      obtain ⟨k, -, hk, rfl⟩ := lp_inI_N e3.1 (by omega)
      have e4 := e3.2
      rw [nI_clamp (by omega)] at e4
      obtain ⟨j, hj, rfl⟩ := lp_in_N e4 (by omega)
      rw [nI_clamp (by omega), nI_clamp (by omega)]
      have e5 : ∀ a b, a < P → b < P → aw (6 * a + b) = fa (6 * a + b) := fun a b ha hb => (e2 a b ha hb).symm
      have e6 : ∀ i, i < C → ca i = cp i := fun i hi => (hca i hi).1
      have hs := lp_pp_sd (I := 1000000) hb.1 hL hb.2.2.2.1 hD.2.2.2.2.1 hD.2.1 hk (by omega) (Nat.le_refl _) hD.1 j (by omega)
      rw [lp_fl_uni (I' := 100000000) hb.1 hL hb.2.2.2.1 hD.2.2.2.2.1 e5 hD.2.1 e6 hk hC (Nat.le_refl _) (by omega) hj hs, lp_pp_uni (I' := 100000000) hb.1 hL hb.2.2.2.1 hD.2.2.2.2.1 e5 hD.2.1 e6 hk hC (Nat.le_refl _) (by omega) hD.1 j (by omega), e1]
    · rw [if_neg e3, if_neg e3]
theorem lj_re {re2 : Nat → Nat} {RE2 : Nat → Nat → Nat} (h : lj E bk ((th, S, T, P, R, L, B, Kd, lt, C), (ra, rb, rl, fa), (aa, su), (cp, cl, cf, ck, cm, ct), (le, tr, re), (bh, so, br, rs, ce), (wh, wy)) ((P, R, T, S, L, B', Nw, U, C, Kd), (fr, to, ln, aw), (su', ca, we, fa', sb, tb), (wk, nw, wo), (k0, k1, k2, k3, k4, k5), RE, BF, BK)) : lj E bk ((nI 0, S, T, P, R, L, B, Kd, lt, C), (ra, rb, rl, fa), (aa, su), (cp, cl, cf, ck, cm, ct), (le, tr, re2), (bh, so, br, rs, ce), (wh, wy)) ((P, R, T, S, L, B', Nw, U, C, Kd), (fr, to, ln, aw), (su', ca, we, fa', sb, tb), (wk, nw, wo), (k0, k1, k2, k3, k4, k5), RE2, BF, BK) := h
theorem lj_fa {fa2 : Nat → Nat} (h : lj E bk ((th, S, T, P, R, L, B, Kd, lt, C), (ra, rb, rl, fa), (aa, su), (cp, cl, cf, ck, cm, ct), (le, tr, re), (bh, so, br, rs, ce), (wh, wy)) ((P, R, T, S, L, B', Nw, U, C, Kd), (fr, to, ln, aw), (su', ca, we, fa', sb, tb), (wk, nw, wo), (k0, k1, k2, k3, k4, k5), RE, BF, BK)) (hf : fa2 = fa ∨ ∀ a b, a < 6 → b < 6 → fa2 (6 * a + b) = (lp_ds 100000000 ra rb rl R 6) a b) : lj E bk ((nI 0, S, T, P, R, L, B, Kd, lt, C), (ra, rb, rl, fa2), (aa, su), (cp, cl, cf, ck, cm, ct), (le, tr, re), (bh, so, br, rs, ce), (wh, wy)) ((P, R, T, S, L, B', Nw, U, C, Kd), (fr, to, ln, aw), (su', ca, we, fa', sb, tb), (wk, nw, wo), (k0, k1, k2, k3, k4, k5), RE, BF, BK) := by
  obtain ⟨h1, hro, hca, hbm, hbc, hjm, hjc⟩ := h
  refine ⟨h1, hro, hca, hbm, hbc, ?_, hjc⟩
  rcases hf with e | e
  · subst e; exact hjm
  · exact lm_J_fa hjm e
end LJB
