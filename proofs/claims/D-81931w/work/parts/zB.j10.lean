/-! JOINT LEMMAS, part 12: worst, books, roads, calls. Printed by j10.py. -/
section LJW
variable {P L B Kd n : Nat} {d d' p : Nat → Nat}
theorem lp_wl_lt (hL1 : 1 ≤ L) {i k : Nat} (h : i < k) : lp_wl L d B Kd p k i < L := by
  rw [lp_wl_keep h, lp_wl, va_up_self]
  exact lp_cho_lt hL1
theorem lp_wl_d (hd : ∀ a b, a < P → b < P → d (6 * a + b) = d' (6 * a + b)) (hP : P ≤ 6) (hL1 : 1 ≤ L) (hL : L ≤ 3) (hB : lp_sd P L B) (hp : ∀ i, i < n → p i < P) : ∀ k, k ≤ n → lp_wl L d B Kd p k = lp_wl L d' B Kd p k := by
  intro k
  induction k with
  | zero => intro _; rfl
  | succ k ih =>
    intro hk
    rw [lp_wl, lp_wl, ih (by omega), lp_cho_d hd hP hL1 hL hB (fun i hi => hp i (by omega)) (fun i hi => lp_wl_lt hL1 hi) (hp k (by omega))]
theorem lp_wtr_d (hd : ∀ a b, a < P → b < P → d (6 * a + b) = d' (6 * a + b)) (hP : P ≤ 6) (hL1 : 1 ≤ L) (hL : L ≤ 3) (hB : lp_sd P L B) (hp : ∀ i, i < n → p i < P) (T : Int64) : ∀ k, k ≤ n → lp_wtr L d B Kd p T k = lp_wtr L d' B Kd p T k := by
  intro k
  induction k with
  | zero => intro _; rfl
  | succ k ih =>
    intro hk
    rw [lp_wtr, lp_wtr, ih (by omega), lp_wl_d hd hP hL1 hL hB hp k (by omega)]
theorem lp_wct_d (hd : ∀ a b, a < P → b < P → d (6 * a + b) = d' (6 * a + b)) (hP : P ≤ 6) (hL1 : 1 ≤ L) (hL : L ≤ 3) (hB : lp_sd P L B) (hp : ∀ i, i < n → p i < P) : lp_wct L d B Kd p n = lp_wct L d' B Kd p n := by
  unfold lp_wct
  rw [lp_wl_d hd hP hL1 hL hB hp n (Nat.le_refl _)]
  exact lp_tot_congr n (fun i hi => lp_cf_d hd hP hL hB hp (fun i hi => lp_wl_lt hL1 hi) hi)
theorem lp_lo_d (hd : ∀ a b, a < P → b < P → d (6 * a + b) = d' (6 * a + b)) (hP : P ≤ 6) (hL : L ≤ 3) (hB : lp_sd P L B) (hp : ∀ i, i < n → p i < P) : lp_lo L d B p n = lp_lo L d' B p n := by
  unfold lp_lo
  rw [lp_rw_d hd hP hL hB hp n (Nat.le_refl _)]
theorem lp_wst_d (hd : ∀ a b, a < P → b < P → d (6 * a + b) = d' (6 * a + b)) (hP : P ≤ 6) (hL1 : 1 ≤ L) (hL : L ≤ 3) (hB : lp_sd P L B) {x : Nat} (hp : ∀ i, i < n → lp_pd n x i < P) (s : Option (Nat × Nat × Nat) × Int64) : lp_wst L d B Kd n s x = lp_wst L d' B Kd n s x := by
  unfold lp_wst
  rw [lp_wct_d hd hP hL1 hL hB hp, lp_lo_d hd hP hL hB hp, lp_wtr_d hd hP hL1 hL hB hp _ n (Nat.le_refl _)]
theorem lp_wfd_d (hd : ∀ a b, a < P → b < P → d (6 * a + b) = d' (6 * a + b)) (hP : P ≤ 6) (hL1 : 1 ≤ L) (hL : L ≤ 3) (hB : lp_sd P L B) : ∀ (xs : List Nat) (s : Option (Nat × Nat × Nat) × Int64), (∀ x ∈ xs, ∀ i, i < n → lp_pd n x i < P) → xs.foldl (lp_wst L d B Kd n) s = xs.foldl (lp_wst L d' B Kd n) s := by
  intro xs
  induction xs with
  | nil => intro s _; rfl
  | cons x xs ih =>
    intro s h
    rw [List.foldl_cons, List.foldl_cons, lp_wst_d hd hP hL1 hL hB (h x List.mem_cons_self)]
    exact ih _ (fun y hy => h y (List.mem_cons_of_mem _ hy))
theorem lp_rowsC_pd {M x : Nat} (h : x ∈ lp_rowsC P n M) : ∀ i, i < n → lp_pd n x i < P := by
  intro i hi
  have h2 := (List.mem_filter.mp h).2
  have h3 := List.all_eq_true.mp h2 (n - 1 - i) (List.mem_range.mpr (by omega))
  exact of_decide_eq_true h3
end LJW
section LJC
variable {E : Nat → ClassId} {bk : lp_Bk} {th S lt : Int32} {T : Int64} {P R L B Kd C : Nat} {ra rb rl fa aa su cp cl cf ck cm le tr re bh so br wh wy : Nat → Nat} {ct rs : Nat → Int32} {ce : Nat → Int64}
variable {B' Nw U : Nat} {fr to ln aw su' ca we fa' sb tb wk nw wo k0 k1 k2 k3 k4 k5 : Nat → Nat} {RE : Nat → Nat → Nat} {BF : Nat → Option Nat} {BK : va_W}
theorem lj_wfd (h : lj E bk ((th, S, T, P, R, L, B, Kd, lt, C), (ra, rb, rl, fa), (aa, su), (cp, cl, cf, ck, cm, ct), (le, tr, re), (bh, so, br, rs, ce), (wh, wy)) ((P, R, T, S, L, B', Nw, U, C, Kd), (fr, to, ln, aw), (su', ca, we, fa', sb, tb), (wk, nw, wo), (k0, k1, k2, k3, k4, k5), RE, BF, BK)) (hL : 1 ≤ L) (n M : Nat) : lp_wfd L aw B' Kd n T (lp_rowsC P n M) = lp_wfd L fa B Kd n T (lp_rowsC P n M) := by
  have hb : lb_Jx P R L B' Nw U C Kd fr to ln aw su' ca we fa' sb tb := h.2.2.2.2.2.2
  have hD := hb.2.2.2.2.2.2.2.2 hL
  obtain ⟨e1, e2⟩ := lj_d h hL
  unfold lp_wfd
  rw [← e1]
  exact lp_wfd_d (fun a b ha hb => (e2 a b ha hb).symm) hb.1 hL hb.2.2.2.1 hD.1 _ _ (fun x hx => lp_rowsC_pd hx)
theorem lj_worstA (h : lj E bk ((th, S, T, P, R, L, B, Kd, lt, C), (ra, rb, rl, fa), (aa, su), (cp, cl, cf, ck, cm, ct), (le, tr, re), (bh, so, br, rs, ce), (wh, wy)) ((P, R, T, S, L, B', Nw, U, C, Kd), (fr, to, ln, aw), (su', ca, we, fa', sb, tb), (wk, nw, wo), (k0, k1, k2, k3, k4, k5), RE, BF, BK)) (n wt : Int32) : lp_woA P L B' Kd aw T n wt = lp_woA P L B Kd fa T n wt := by
  unfold lp_woA
  by_cases e : L = 0
  · rw [if_pos e, if_pos e]
  · rw [if_neg e, if_neg e, lj_wfd h (Nat.one_le_iff_ne_zero.mpr e)]
theorem lj_worstT (h : lj E bk ((th, S, T, P, R, L, B, Kd, lt, C), (ra, rb, rl, fa), (aa, su), (cp, cl, cf, ck, cm, ct), (le, tr, re), (bh, so, br, rs, ce), (wh, wy)) ((P, R, T, S, L, B', Nw, U, C, Kd), (fr, to, ln, aw), (su', ca, we, fa', sb, tb), (wk, nw, wo), (k0, k1, k2, k3, k4, k5), RE, BF, BK)) (n wt : Int32) : lp_woT P L B' Kd aw T n wt = lp_woT P L B Kd fa T n wt := by
  unfold lp_woT
  by_cases e : L = 0
  · rw [if_pos e, if_pos e]
  · rw [if_neg e, if_neg e, lj_wfd h (Nat.one_le_iff_ne_zero.mpr e)]
theorem lj_worst {T1 T2 : Int64} {tr2 wh2 wy2 su3 ca3 we3 fa3 sb3 tb3 wk3 nw3 wo3 k03 k13 k23 k33 k43 k53 : Nat → Nat} (h : lj E bk ((th, S, T, P, R, L, B, Kd, lt, C), (ra, rb, rl, fa), (aa, su), (cp, cl, cf, ck, cm, ct), (le, tr, re), (bh, so, br, rs, ce), (wh, wy)) ((P, R, T, S, L, B', Nw, U, C, Kd), (fr, to, ln, aw), (su', ca, we, fa', sb, tb), (wk, nw, wo), (k0, k1, k2, k3, k4, k5), RE, BF, BK)) (eT : T2 = T1) (htr : ∀ i, tr2 i ≤ 100000000) (hc : (∀ i, i < 12 → ca3 i = ca i) ∧ (∀ i, i < 12 → we3 i = we i) ∧ (∀ i, i < 12 → sb3 i = sb i)) (hj : lb_J ((P, R, T2, S, L, B', Nw, U, C, Kd), (fr, to, ln, aw), (su3, ca3, we3, fa3, sb3, tb3), (wk3, nw3, wo3), (k03, k13, k23, k33, k43, k53), RE, BF, BK)) : lj E bk ((nI 0, S, T1, P, R, L, B, Kd, lt, C), (ra, rb, rl, fa), (aa, su), (cp, cl, cf, ck, cm, ct), (le, tr2, re), (bh, so, br, rs, ce), (wh2, wy2)) ((P, R, T2, S, L, B', Nw, U, C, Kd), (fr, to, ln, aw), (su3, ca3, we3, fa3, sb3, tb3), (wk3, nw3, wo3), (k03, k13, k23, k33, k43, k53), RE, BF, BK) := by
  obtain ⟨⟨h1, h2, h3, h4, h5, h6, h7, h8⟩, hro, hca, hbm, hbc, hjm, hjc⟩ := h
  have hC : C ≤ 12 := hjc.2.2.2.2.1
  refine ⟨⟨rfl, rfl, eT, rfl, rfl, h6, rfl, rfl⟩, hro, fun i hi => ⟨(hc.1 i (by omega)).trans (hca i hi).1, (hc.2.1 i (by omega)).trans (hca i hi).2.1, (hc.2.2 i (by omega)).trans (hca i hi).2.2⟩, hbm, hbc, ?_, hj⟩
  obtain ⟨gP, gR, gro, gL3, gC, gKd, gLC, gle, -, gD⟩ := hjm
  exact ⟨gP, gR, gro, gL3, gC, gKd, gLC, gle, htr, gD⟩
theorem lj_S {S1 S2 : Int32} (h : lj E bk ((th, S, T, P, R, L, B, Kd, lt, C), (ra, rb, rl, fa), (aa, su), (cp, cl, cf, ck, cm, ct), (le, tr, re), (bh, so, br, rs, ce), (wh, wy)) ((P, R, T, S, L, B', Nw, U, C, Kd), (fr, to, ln, aw), (su', ca, we, fa', sb, tb), (wk, nw, wo), (k0, k1, k2, k3, k4, k5), RE, BF, BK)) (e : S2 = S1) : lj E bk ((nI 0, S1, T, P, R, L, B, Kd, lt, C), (ra, rb, rl, fa), (aa, su), (cp, cl, cf, ck, cm, ct), (le, tr, re), (bh, so, br, rs, ce), (wh, wy)) ((P, R, T, S2, L, B', Nw, U, C, Kd), (fr, to, ln, aw), (su', ca, we, fa', sb, tb), (wk, nw, wo), (k0, k1, k2, k3, k4, k5), RE, BF, BK) := by
  obtain ⟨⟨h1, h2, h3, h4, h5, h6, h7, h8⟩, hro, hca, hbm, hbc, hjm, hjc⟩ := h
  exact ⟨⟨rfl, rfl, rfl, e, rfl, h6, rfl, rfl⟩, hro, hca, hbm, hbc, hjm, hjc⟩
theorem lj_bk {S1 S2 : Int32} {bk2 : lp_Bk} {bh2 so2 br2 : Nat → Nat} {rs2 : Nat → Int32} {ce2 : Nat → Int64} {BF2 : Nat → Option Nat} {BK2 : va_W} (h : lj E bk ((th, S, T, P, R, L, B, Kd, lt, C), (ra, rb, rl, fa), (aa, su), (cp, cl, cf, ck, cm, ct), (le, tr, re), (bh, so, br, rs, ce), (wh, wy)) ((P, R, T, S, L, B', Nw, U, C, Kd), (fr, to, ln, aw), (su', ca, we, fa', sb, tb), (wk, nw, wo), (k0, k1, k2, k3, k4, k5), RE, BF, BK)) (e : S2 = S1) (hm : lm_BR bk2 bh2 so2 br2 rs2 ce2) (hc : lb_BR E bk2 BF2 BK2) : lj E bk2 ((nI 0, S1, T, P, R, L, B, Kd, lt, C), (ra, rb, rl, fa), (aa, su), (cp, cl, cf, ck, cm, ct), (le, tr, re), (bh2, so2, br2, rs2, ce2), (wh, wy)) ((P, R, T, S2, L, B', Nw, U, C, Kd), (fr, to, ln, aw), (su', ca, we, fa', sb, tb), (wk, nw, wo), (k0, k1, k2, k3, k4, k5), RE, BF2, BK2) := by
  obtain ⟨⟨h1, h2, h3, h4, h5, h6, h7, h8⟩, hro, hca, -, -, hjm, hjc⟩ := h
  exact ⟨⟨rfl, rfl, rfl, e, rfl, h6, rfl, rfl⟩, hro, hca, hm, hc, hjm, hjc⟩
theorem lj_rds {S1 S2 : Int32} {R1 R2 : Nat} {ra2 rb2 rl2 fr2 to2 ln2 aw2 : Nat → Nat} (h : lj E bk ((th, S, T, P, R, L, B, Kd, lt, C), (ra, rb, rl, fa), (aa, su), (cp, cl, cf, ck, cm, ct), (le, tr, re), (bh, so, br, rs, ce), (wh, wy)) ((P, R, T, S, L, B', Nw, U, C, Kd), (fr, to, ln, aw), (su', ca, we, fa', sb, tb), (wk, nw, wo), (k0, k1, k2, k3, k4, k5), RE, BF, BK)) (e : S2 = S1) (eR : R2 = R1) (hr : ∀ k, k < R1 → fr2 k = ra2 k ∧ to2 k = rb2 k ∧ ln2 k = rl2 k) (hm : lm_J ((nI 0, S1, T, P, R1, L, B, Kd, lt, C), (ra2, rb2, rl2, fa), (aa, su), (cp, cl, cf, ck, cm, ct), (le, tr, re), (bh, so, br, rs, ce), (wh, wy))) (hc : lb_J ((P, R2, T, S2, L, B', Nw, U, C, Kd), (fr2, to2, ln2, aw2), (su', ca, we, fa', sb, tb), (wk, nw, wo), (k0, k1, k2, k3, k4, k5), RE, BF, BK)) : lj E bk ((nI 0, S1, T, P, R1, L, B, Kd, lt, C), (ra2, rb2, rl2, fa), (aa, su), (cp, cl, cf, ck, cm, ct), (le, tr, re), (bh, so, br, rs, ce), (wh, wy)) ((P, R2, T, S2, L, B', Nw, U, C, Kd), (fr2, to2, ln2, aw2), (su', ca, we, fa', sb, tb), (wk, nw, wo), (k0, k1, k2, k3, k4, k5), RE, BF, BK) := by
  obtain ⟨⟨h1, h2, h3, h4, h5, h6, h7, h8⟩, hro, hca, hbm, hbc, hjm, hjc⟩ := h
  exact ⟨⟨rfl, eR, rfl, e, rfl, h6, rfl, rfl⟩, hr, hca, hbm, hbc, hm, hc⟩
theorem lj_cls {S1 S2 lt' : Int32} {T1 T2 : Int64} {C1 C2 Nw2 U2 : Nat} {aa2 su2 cp2 cl2 cf2 ck2 cm2 le2 su3 ca3 we3 fa3 sb3 tb3 wk3 nw3 wo3 : Nat → Nat} {ct2 : Nat → Int32} (h : lj E bk ((th, S, T, P, R, L, B, Kd, lt, C), (ra, rb, rl, fa), (aa, su), (cp, cl, cf, ck, cm, ct), (le, tr, re), (bh, so, br, rs, ce), (wh, wy)) ((P, R, T, S, L, B', Nw, U, C, Kd), (fr, to, ln, aw), (su', ca, we, fa', sb, tb), (wk, nw, wo), (k0, k1, k2, k3, k4, k5), RE, BF, BK)) (e : S2 = S1) (eT : T2 = T1) (eC : C2 = C1) (hr : ∀ i, i < C1 → ca3 i = cp2 i ∧ we3 i = cl2 i ∧ sb3 i = ck2 i) (hm : lm_J ((nI 0, S1, T1, P, R, L, B, Kd, lt', C1), (ra, rb, rl, fa), (aa2, su2), (cp2, cl2, cf2, ck2, cm2, ct2), (le2, tr, re), (bh, so, br, rs, ce), (wh, wy))) (hc : lb_J ((P, R, T2, S2, L, B', Nw2, U2, C2, Kd), (fr, to, ln, aw), (su3, ca3, we3, fa3, sb3, tb3), (wk3, nw3, wo3), (k0, k1, k2, k3, k4, k5), RE, BF, BK)) : lj E bk ((nI 0, S1, T1, P, R, L, B, Kd, lt', C1), (ra, rb, rl, fa), (aa2, su2), (cp2, cl2, cf2, ck2, cm2, ct2), (le2, tr, re), (bh, so, br, rs, ce), (wh, wy)) ((P, R, T2, S2, L, B', Nw2, U2, C2, Kd), (fr, to, ln, aw), (su3, ca3, we3, fa3, sb3, tb3), (wk3, nw3, wo3), (k0, k1, k2, k3, k4, k5), RE, BF, BK) := by
  obtain ⟨⟨h1, h2, h3, h4, h5, h6, h7, h8⟩, hro, hca, hbm, hbc, hjm, hjc⟩ := h
  exact ⟨⟨rfl, rfl, eT, e, rfl, h6, eC, rfl⟩, hro, hr, hbm, hbc, hm, hc⟩
theorem lj_clsA (h : lj E bk ((th, S, T, P, R, L, B, Kd, lt, C), (ra, rb, rl, fa), (aa, su), (cp, cl, cf, ck, cm, ct), (le, tr, re), (bh, so, br, rs, ce), (wh, wy)) ((P, R, T, S, L, B', Nw, U, C, Kd), (fr, to, ln, aw), (su', ca, we, fa', sb, tb), (wk, nw, wo), (k0, k1, k2, k3, k4, k5), RE, BF, BK)) (c : Nat → Int64) (j : Nat) : (lp_cls P L aw B' Kd c j 0 C ca we sb T).1 = (lp_cls P L fa B Kd c j 0 C cp cl ck T).1 ∧ (lp_cls P L aw B' Kd c j 0 C ca we sb T).2.1 = (lp_cls P L fa B Kd c j 0 C cp cl ck T).2.1 ∧ (lp_cls P L aw B' Kd c j 0 C ca we sb T).2.2.1 = (lp_cls P L fa B Kd c j 0 C cp cl ck T).2.2.1 ∧ (lp_cls P L aw B' Kd c j 0 C ca we sb T).2.2.2.2.2.2 = (lp_cls P L fa B Kd c j 0 C cp cl ck T).2.2.2.2.2.2 ∧ ∀ q, q < (lp_cls P L aw B' Kd c j 0 C ca we sb T).2.2.1 → (lp_cls P L aw B' Kd c j 0 C ca we sb T).2.2.2.1 q = (lp_cls P L fa B Kd c j 0 C cp cl ck T).2.2.2.1 q ∧ (lp_cls P L aw B' Kd c j 0 C ca we sb T).2.2.2.2.1 q = (lp_cls P L fa B Kd c j 0 C cp cl ck T).2.2.2.2.1 q ∧ (lp_cls P L aw B' Kd c j 0 C ca we sb T).2.2.2.2.2.1 q = (lp_cls P L fa B Kd c j 0 C cp cl ck T).2.2.2.2.2.1 q := by
  have hb : lb_Jx P R L B' Nw U C Kd fr to ln aw su' ca we fa' sb tb := h.2.2.2.2.2.2
  have hca : ∀ i, i < C → ca i = cp i ∧ we i = cl i ∧ sb i = ck i := h.2.2.1
  rcases Nat.eq_zero_or_pos L with z | hL
  · cases j with
    | zero =>
      rw [lp_cls, lp_cls]
      exact ⟨rfl, rfl, rfl, rfl, hca⟩
    | succ j =>
      by_cases g1 : 0 ≤ (c 0).toInt ∧ (c 0).toInt < (P : Int)
      · rw [lp_cls_no g1 z, lp_cls_no g1 z]
        exact ⟨rfl, rfl, rfl, rfl, hca⟩
      · rw [lp_cls_bad g1, lp_cls_bad g1]
        exact ⟨rfl, rfl, rfl, rfl, hca⟩
  · have hD := hb.2.2.2.2.2.2.2.2 hL
    obtain ⟨e1, e2⟩ := lj_d h hL
    rw [← e1]
    exact lp_cls_congr hb.1 hb.2.2.2.1 hD.1 (fun a b ha hb => (e2 a b ha hb).symm) j 0 C ca we sb cp cl ck T (fun q hq => (hca q hq).1) (fun q hq => (hca q hq).2.1) (fun q hq => (hca q hq).2.2) hD.2.1 hD.2.2.1
end LJC
theorem lp_Acc_uniq {bk : lp_Bk} {k q r i : Int32} {kk s n kr m ki kk2 s2 n2 kr2 m2 ki2 : Nat} {rows rows2 : Nat → lp_Row} {c c2 : Nat → Int64} (h : lp_Acc bk k q r i kk s n kr m ki rows c) (h2 : lp_Acc bk k q r i kk2 s2 n2 kr2 m2 ki2 rows2 c2) : kk2 = kk ∧ s2 = s ∧ n2 = n ∧ kr2 = kr ∧ m2 = m ∧ ki2 = ki ∧ rows2 = rows ∧ c2 = c := by
  obtain ⟨a1, a2, a3, a4, a5, a6, a7, a8, a9, a10, a11, a12⟩ := h
  obtain ⟨b1, b2, b3, b4, b5, b6, b7, b8, b9, b10, b11, b12⟩ := h2
  have e1 : kk2 = kk := (nI_eq (by omega) (by omega)).mp (b1.symm.trans a1)
  subst e1
  have e2 := Option.some.inj (b5.symm.trans a5)
  obtain ⟨e3, e4, e5⟩ : s2 = s ∧ n2 = n ∧ rows2 = rows := by
    cases e2
    exact ⟨rfl, rfl, rfl⟩
  subst e3 e4 e5
  have e6 : kr2 = kr := (nI_eq (by omega) (by omega)).mp (b7.symm.trans a7)
  subst e6
  have e7 := Option.some.inj (b9.symm.trans a9)
  obtain ⟨e8, e9⟩ : m2 = m ∧ c2 = c := by
    cases e7
    exact ⟨rfl, rfl⟩
  subst e8 e9
  have e10 : ki2 = ki := (nI_eq (by omega) (by omega)).mp (b11.symm.trans a11)
  exact ⟨rfl, rfl, rfl, rfl, rfl, e10, rfl, rfl⟩
