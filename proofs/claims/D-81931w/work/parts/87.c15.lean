/-! THE COMPONENT's METHODS, part 15: the rest rows, findRest, plan. Printed by c15.py. -/
section LRE
variable {ω : la_O} {κ : la_K} {cc : ByteArray} {nL : Nat} {own : String} {R0 : Room} {n : Nat × Nat} {pc : Nat} {lv : List (Option Value)} {st : List Value} {ad : Nat → Nat} {q : lb_q} {g0 : lb_t0} {g1 : lb_t1} {g2 : lb_t2} {g3 : lb_t3} {RE : Nat → Nat → Nat} {BF : Nat → Option Nat} {BK : va_W}
theorem lb_ld_rest (K : la_Cx ω κ cc nL own R0) {i : Nat} {σ : lb_S} (hi : i < 13) (hd : decode cc pc = .ok (.aaload, 1)) (kk : la_At ω κ n (pc + 1) lv (.ref (ad (26 + i)) :: st) (lb_W ω.2.2 ad σ)) : la_At ω κ n pc lv (.int (nI i) :: .ref (ad 25) :: st) (lb_W ω.2.2 ad σ) := la_aaldA K 25 7 rfl rfl (by decide) hi rfl hd kk
theorem lb_ld_re (K : la_Cx ω κ cc nL own R0) {i j : Nat} (hj : j < 13) (hi : i < 512) (hd : decode cc pc = .ok (.iaload, 1)) (kk : la_At ω κ n (pc + 1) lv (.int (nI (RE j i)) :: st) (lb_W ω.2.2 ad (q, g0, g1, g2, g3, RE, BF, BK))) : la_At ω κ n pc lv (.int (nI i) :: .ref (ad (26 + j)) :: st) (lb_W ω.2.2 ad (q, g0, g1, g2, g3, RE, BF, BK)) := by
  have h13 : j = 0 ∨ j = 1 ∨ j = 2 ∨ j = 3 ∨ j = 4 ∨ j = 5 ∨ j = 6 ∨ j = 7 ∨ j = 8 ∨ j = 9 ∨ j = 10 ∨ j = 11 ∨ j = 12 := by omega
  rcases h13 with rfl | rfl | rfl | rfl | rfl | rfl | rfl | rfl | rfl | rfl | rfl | rfl | rfl
  · exact la_iald K 26 rfl (by decide) hi hd kk
  · exact la_iald K 27 rfl (by decide) hi hd kk
  · exact la_iald K 28 rfl (by decide) hi hd kk
  · exact la_iald K 29 rfl (by decide) hi hd kk
  · exact la_iald K 30 rfl (by decide) hi hd kk
  · exact la_iald K 31 rfl (by decide) hi hd kk
  · exact la_iald K 32 rfl (by decide) hi hd kk
  · exact la_iald K 33 rfl (by decide) hi hd kk
  · exact la_iald K 34 rfl (by decide) hi hd kk
  · exact la_iald K 35 rfl (by decide) hi hd kk
  · exact la_iald K 36 rfl (by decide) hi hd kk
  · exact la_iald K 37 rfl (by decide) hi hd kk
  · exact la_iald K 38 rfl (by decide) hi hd kk
theorem lb_st_re (K : la_Cx ω κ cc nL own R0) {i j v : Nat} (hj : j < 13) (hi : i < 512) (hd : decode cc pc = .ok (.iastore, 1)) (kk : la_At ω κ n (pc + 1) lv st (lb_W ω.2.2 ad (q, g0, g1, g2, g3, va_up RE j (va_up (RE j) i v), BF, BK))) : la_At ω κ n pc lv (.int (nI v) :: .int (nI i) :: .ref (ad (26 + j)) :: st) (lb_W ω.2.2 ad (q, g0, g1, g2, g3, RE, BF, BK)) := by
  have h13 : j = 0 ∨ j = 1 ∨ j = 2 ∨ j = 3 ∨ j = 4 ∨ j = 5 ∨ j = 6 ∨ j = 7 ∨ j = 8 ∨ j = 9 ∨ j = 10 ∨ j = 11 ∨ j = 12 := by omega
  rcases h13 with rfl | rfl | rfl | rfl | rfl | rfl | rfl | rfl | rfl | rfl | rfl | rfl | rfl
  · exact la_iast K 26 rfl (by decide) hi hd kk
  · exact la_iast K 27 rfl (by decide) hi hd kk
  · exact la_iast K 28 rfl (by decide) hi hd kk
  · exact la_iast K 29 rfl (by decide) hi hd kk
  · exact la_iast K 30 rfl (by decide) hi hd kk
  · exact la_iast K 31 rfl (by decide) hi hd kk
  · exact la_iast K 32 rfl (by decide) hi hd kk
  · exact la_iast K 33 rfl (by decide) hi hd kk
  · exact la_iast K 34 rfl (by decide) hi hd kk
  · exact la_iast K 35 rfl (by decide) hi hd kk
  · exact la_iast K 36 rfl (by decide) hi hd kk
  · exact la_iast K 37 rfl (by decide) hi hd kk
  · exact la_iast K 38 rfl (by decide) hi hd kk
end LRE
section LC15
variable {ω : la_O} {ad : Nat → Nat} {S : Int32} {T : Int64} {P R L B Nw U C Kd : Nat} {fr to ln aw su ca we fa sb tb wk nw wo k0 k1 k2 k3 k4 k5 : Nat → Nat} {RE : Nat → Nat → Nat} {BF : Nat → Option Nat} {BK : va_W}
set_option maxHeartbeats 4000000 in
theorem lb_findRest {n : Nat} (hP : P ≤ 6) (hL1 : 1 ≤ L) (hL3 : L ≤ 3) (hd64 : ∀ a b, a < P → b < P → aw (6 * a + b) ≤ 6400) (hn : n ≤ 12) (hca : ∀ i, i < n → ca i < P) : la_CV ω yX0_findRest cX0_findRest 7 none (la_rm 3) [.ref (ad 0), .int (nI n)] (lb_W ω.2.2 ad ((P, R, T, S, L, B, Nw, U, C, Kd), (fr, to, ln, aw), (su, ca, we, fa, sb, tb), (wk, nw, wo), (k0, k1, k2, k3, k4, k5), RE, BF, BK)) (lb_W ω.2.2 ad) (fun u : lb_S => ∃ f, u = ((P, R, T, S, L, B, Nw, U, C, Kd), (fr, to, ln, aw), (su, ca, we, fa, sb, tb), (wk, nw, wo), (k0, k1, k2, k3, k4, k5), f, BF, BK) ∧ ∀ i, i ≤ n → ∀ x, x < 2 ^ (3 * L) → f i x = lp_ro 1000000 P L aw ca (n - i) i x) := by
  refine la_CV_of (by decide) [some (.ref (ad 0)), some (.int (nI (n))), none, none, none, none, none] rfl rfl (Nat.le_of_ble_eq_true rfl) ?_
  intro κ K hret
  have lb_ : ∀ (k : Nat) (f : Nat → Nat → Nat) (x3 x4 x5 x6 : Option Value), k ≤ n → (∀ k', k ≤ k' → k' ≤ n → ∀ q, q < 2 ^ (3 * L) → f k' q = lp_ro 1000000 P L aw ca (n - k') k' q) → la_At ω κ (0, 0) 29 [some (.ref (ad 0)), some (.int (nI (n))), some (.int (nI k - nI 1)), x3, x4, x5, x6] [] (lb_W ω.2.2 ad ((P, R, T, S, L, B, Nw, U, C, Kd), (fr, to, ln, aw), (su, ca, we, fa, sb, tb), (wk, nw, wo), (k0, k1, k2, k3, k4, k5), f, BF, BK)) := by
    intro k
    induction k with
    | zero =>
      intro f x3 x4 x5 x6 hkn hB0
      rw [show nI 0 - nI 1 = -1 by decide +kernel]
      refine la_iload_n K dX0_findRest_29 rfl ?_
      refine la_if_lt K 143 dX0_findRest_30 rfl (fun h30 => ?_) (fun h30 => absurd (by decide) h30)
      exact hret _ _ _ dX0_findRest_143 ⟨f, rfl, fun i hi x hx => hB0 i (Nat.zero_le _) hi x hx⟩
    | succ k ihb =>
      intro f x3 x4 x5 x6 hkn hB0
      have hcpk := hca k (by omega)
      rw [pk_sub (by omega), show k + 1 - 1 = k by omega]
      refine la_iload_n K dX0_findRest_29 rfl ?_
      refine la_if_ltN K 143 dX0_findRest_30 rfl (by omega) ?_
      refine la_aload_n K dX0_findRest_33 rfl ?_
      refine lb_g_ca K q153 dX0_findRest_34 ?_
      refine la_iload_n K dX0_findRest_37 rfl ?_
      refine lb_ld_ca K (by omega) dX0_findRest_38 ?_
      refine la_istore3 K dX0_findRest_39 rfl ?_
      refine la_iconst K dX0_findRest_40 la_ki_0 ?_
      refine la_istore4 K dX0_findRest_41 rfl ?_
      have lc_ : ∀ (j s : Nat) (f : Nat → Nat → Nat) (x5 x6 : Option Value), s ≤ (2 ^ (3 * L)) → (2 ^ (3 * L)) < s + j → (∀ k', k + 1 ≤ k' → k' ≤ n → ∀ q, q < 2 ^ (3 * L) → f k' q = lp_ro 1000000 P L aw ca (n - k') k' q) → (∀ q, q < s → f k q = lp_ro 1000000 P L aw ca (n - k) k q) → la_At ω κ (0, 0) 43 [some (.ref (ad 0)), some (.int (nI (n))), some (.int (nI (k))), some (.int (nI (ca k))), some (.int (nI (s))), x5, x6] [] (lb_W ω.2.2 ad ((P, R, T, S, L, B, Nw, U, C, Kd), (fr, to, ln, aw), (su, ca, we, fa, sb, tb), (wk, nw, wo), (k0, k1, k2, k3, k4, k5), f, BF, BK)) := by
        intro j
        induction j with
        | zero => intro s f x5 x6 h1 h2; omega
        | succ j ihc =>
          intro s f x5 x6 h1 h2 hab hqs
          refine la_iload K dX0_findRest_43 rfl ?_
          refine la_aload_n K dX0_findRest_45 rfl ?_
          refine la_callVp K ok_X0_standMany q376 (lb_standMany hL3) 0 rfl rfl rfl rfl rfl (Nat.le_of_ble_eq_true rfl) ⟨Nat.le_of_ble_eq_true rfl, Nat.le_of_ble_eq_true rfl⟩ ⟨Nat.zero_le _, Nat.zero_le _⟩ dX0_findRest_46 ?_
          have hpw := lp_pw hL3
          refine la_icmp_geN K 137 dX0_findRest_49 rfl (by omega) (by omega) (fun h49 => ?_) (fun h49 => ?_)
          · refine la_iinc2 K dX0_findRest_137 (la_dec_R _) rfl ?_
            refine la_goto K 29 dX0_findRest_140 rfl ?_
            have hnew : (∀ k', k ≤ k' → k' ≤ n → ∀ q, q < 2 ^ (3 * L) → f k' q = lp_ro 1000000 P L aw ca (n - k') k' q) := by
              intro k' h5 h6 q hq
              by_cases e : k' = k
              · subst e; exact hqs q (by omega)
              · exact hab k' (by omega) h6 q hq
            exact ihb _ _ _ _ _ (by omega) hnew
          · have fin : ∀ (v : Nat) {x6 : Option Value}, v = lp_ro 1000000 P L aw ca (n - k) k s → la_At ω κ (0, 0) 120 [some (.ref (ad 0)), some (.int (nI (n))), some (.int (nI (k))), some (.int (nI (ca k))), some (.int (nI (s))), some (.int (nI (v))), x6] [] (lb_W ω.2.2 ad ((P, R, T, S, L, B, Nw, U, C, Kd), (fr, to, ln, aw), (su, ca, we, fa, sb, tb), (wk, nw, wo), (k0, k1, k2, k3, k4, k5), f, BF, BK)) := by
              intro v x6 hv
              refine la_aload_n K dX0_findRest_120 rfl ?_
              refine lb_g_c25 K q163 dX0_findRest_121 ?_
              refine la_iload_n K dX0_findRest_124 rfl ?_
              refine lb_ld_rest K (by omega) dX0_findRest_125 ?_
              refine la_iload K dX0_findRest_126 rfl ?_
              refine la_iload K dX0_findRest_128 rfl ?_
              refine lb_st_re K (by omega) (by omega) dX0_findRest_130 ?_
              refine la_iinc4 K dX0_findRest_131 (la_inc_N _) rfl ?_
              refine la_goto K 43 dX0_findRest_134 rfl ?_
              exact ihc (s + 1) _ _ _ (by omega) (by omega) (fun k' h5 h6 q hq => by rw [va_up_ne _ _ (by omega)]; exact hab k' h5 h6 q hq) (fun q hq => by
                rw [va_up_self]
                by_cases e : q = s
                · subst e; rw [va_up_self]; exact hv
                · rw [va_up_ne _ _ e]; exact hqs q (by omega))
            have ld : ∀ (j l : Nat) (v : Nat), l ≤ L → L < l + j → lp_mn 1000000 (lp_roQ 1000000 P L aw ca (n - (k + 1)) k s l) v → (l = 0 ∨ lp_sd P L s) → la_At ω κ (0, 0) 59 [some (.ref (ad 0)), some (.int (nI (n))), some (.int (nI (k))), some (.int (nI (ca k))), some (.int (nI (s))), some (.int (nI (v))), some (.int (nI (l)))] [] (lb_W ω.2.2 ad ((P, R, T, S, L, B, Nw, U, C, Kd), (fr, to, ln, aw), (su, ca, we, fa, sb, tb), (wk, nw, wo), (k0, k1, k2, k3, k4, k5), f, BF, BK)) := by
              intro j
              induction j with
              | zero => intro l v h1 h2; omega
              | succ j ihd =>
                intro l v h1 h2 hv hz
                refine la_iload K dX0_findRest_59 rfl ?_
                refine la_aload_n K dX0_findRest_61 rfl ?_
                refine lb_g_L K q140 dX0_findRest_62 ?_
                refine la_icmp_geN K 120 dX0_findRest_65 rfl (by omega) (by omega) (fun h65 => ?_) (fun h65 => ?_)
                · exact fin v (by rw [show n - k = n - (k + 1) + 1 by omega]; exact lp_ro_in (hz.resolve_left (by omega)) (by rw [show l = L by omega] at hv; exact hv))
                · refine la_aload_n K dX0_findRest_68 rfl ?_
                  refine la_iload K dX0_findRest_69 rfl ?_
                  refine la_callVp K ok_X0_isStand q277 (lb_isStand _ hL3 hP) 0 rfl rfl rfl rfl rfl (Nat.le_of_ble_eq_true rfl) ⟨Nat.le_of_ble_eq_true rfl, Nat.le_of_ble_eq_true rfl⟩ ⟨Nat.zero_le _, Nat.zero_le _⟩ dX0_findRest_71 ?_
                  refine la_if_eqB K 120 dX0_findRest_74 rfl (fun h74 => ?_) (fun h74 => ?_)
                  · exact fin v (by rw [show n - k = n - (k + 1) + 1 by omega, lp_ro_out (fun z => h74 ((lp_st_N (by omega)).mpr z))]; rw [show l = 0 from hz.resolve_right (fun z => h74 ((lp_st_N (by omega)).mpr z))] at hv; exact lp_mn_uniq hv lp_roQ_0)
                  · have hsd : lp_sd P L s := (lp_st_N (by omega)).mp h74
                    have hdl : lp_dg s l < P := hsd.2 l (by omega)
                    have hmv := lp_mv_lt (s := s) (l := l) (p := ca k) (by omega) (by omega) (by omega)
                    have hmv2 := lp_mv_small (p := ca k) hL3 h49 h65 (by omega)
                    have hrv : (aw (6 * lp_dg s l + ca k) + f (k + 1) (lp_mv s l (ca k))) = lp_rv 1000000 P L aw ca (n - (k + 1)) k s l := by
                      rw [hab (k + 1) (by omega) (by omega) _ hmv2]
                      rfl
                    have hbnd : (aw (6 * lp_dg s l + ca k) + f (k + 1) (lp_mv s l (ca k))) ≤ 2000000 := by
                      rw [hrv]
                      have := hd64 _ _ hdl hcpk
                      have := lp_ro_le (I := 1000000) (P := P) (L := L) (d := aw) (cp := ca) (n - (k + 1)) (k + 1) (lp_mv s l (ca k))
                      unfold lp_rv
                      omega
                    refine la_iload K dX0_findRest_77 rfl ?_
                    refine la_aload_n K dX0_findRest_79 rfl ?_
                    refine la_iload K dX0_findRest_80 rfl ?_
                    refine la_iload K dX0_findRest_82 rfl ?_
                    refine la_callSp K ok_X0_at q281 (lb_at (by omega) (by omega) _) rfl rfl rfl (Nat.le_of_ble_eq_true rfl) ⟨Nat.le_of_ble_eq_true rfl, Nat.le_of_ble_eq_true rfl⟩ ⟨Nat.zero_le _, Nat.zero_le _⟩ dX0_findRest_84 ?_
                    refine la_iload_n K dX0_findRest_87 rfl ?_
                    refine la_callVp K ok_X0_distance q265 (lb_distance (by omega)) 0 rfl rfl rfl rfl rfl (Nat.le_of_ble_eq_true rfl) ⟨Nat.le_of_ble_eq_true rfl, Nat.le_of_ble_eq_true rfl⟩ ⟨Nat.zero_le _, Nat.zero_le _⟩ dX0_findRest_88 ?_
                    refine la_aload_n K dX0_findRest_91 rfl ?_
                    refine lb_g_c25 K q163 dX0_findRest_92 ?_
                    refine la_iload_n K dX0_findRest_95 rfl ?_
                    refine la_iconst K dX0_findRest_96 la_ki_1 ?_
                    refine la_iaddN K dX0_findRest_97 ?_
                    refine lb_ld_rest K (by omega) dX0_findRest_98 ?_
                    refine la_iload K dX0_findRest_99 rfl ?_
                    refine la_iload K dX0_findRest_101 rfl ?_
                    refine la_iload_n K dX0_findRest_103 rfl ?_
                    refine la_callSp K ok_X0_moved q384 (lb_moved (by omega) (by omega) (by omega) _) rfl rfl rfl (Nat.le_of_ble_eq_true rfl) ⟨Nat.le_of_ble_eq_true rfl, Nat.le_of_ble_eq_true rfl⟩ ⟨Nat.zero_le _, Nat.zero_le _⟩ dX0_findRest_104 ?_
                    refine lb_ld_re K (by omega) (by omega) dX0_findRest_107 ?_
                    refine la_iaddN K dX0_findRest_108 ?_
                    refine la_minN K (by have := hv.1; omega) (by omega) q243 rfl (by decide) (Nat.le_of_ble_eq_true rfl) ⟨Nat.zero_le _, Nat.zero_le _⟩ dX0_findRest_109 ?_
                    refine la_istore5 K dX0_findRest_112 rfl ?_
                    refine la_iinc6 K dX0_findRest_114 (la_inc_N _) rfl ?_
                    refine la_goto K 59 dX0_findRest_117 rfl ?_
                    exact ihd (l + 1) _ (by omega) (by omega) (lp_roQ_step hv (by rw [← hrv])) (Or.inr hsd)
            refine la_ldc K q242 la_kl_1000000 dX0_findRest_52 ?_
            refine la_istore5 K dX0_findRest_54 rfl ?_
            refine la_iconst K dX0_findRest_56 la_ki_0 ?_
            refine la_istore6 K dX0_findRest_57 rfl ?_
            exact ld (L + 1) 0 _ (by omega) (by omega) lp_roQ_0 (Or.inl rfl)
      exact lc_ (2 ^ (3 * L) + 1) 0 _ _ _ (Nat.zero_le _) (by omega) hB0 (fun q hq => by omega)
  have la_ : ∀ (j s : Nat) (f : Nat → Nat → Nat), s ≤ (2 ^ (3 * L)) → (2 ^ (3 * L)) < s + j → (∀ q, q < s → f n q = 0) → la_At ω κ (0, 0) 2 [some (.ref (ad 0)), some (.int (nI (n))), some (.int (nI (s))), none, none, none, none] [] (lb_W ω.2.2 ad ((P, R, T, S, L, B, Nw, U, C, Kd), (fr, to, ln, aw), (su, ca, we, fa, sb, tb), (wk, nw, wo), (k0, k1, k2, k3, k4, k5), f, BF, BK)) := by
    intro j
    induction j with
    | zero => intro s f h1 h2; omega
    | succ j iha =>
      intro s f h1 h2 hA
      refine la_iload_n K dX0_findRest_2 rfl ?_
      refine la_aload_n K dX0_findRest_3 rfl ?_
      refine la_callVp K ok_X0_standMany q376 (lb_standMany hL3) 0 rfl rfl rfl rfl rfl (Nat.le_of_ble_eq_true rfl) ⟨Nat.le_of_ble_eq_true rfl, Nat.le_of_ble_eq_true rfl⟩ ⟨Nat.zero_le _, Nat.zero_le _⟩ dX0_findRest_4 ?_
      have hpw := lp_pw hL3
      refine la_icmp_geN K 25 dX0_findRest_7 rfl (by omega) (by omega) (fun h7 => ?_) (fun h7 => ?_)
      · refine la_iload_n K dX0_findRest_25 rfl ?_
        refine la_iconst K dX0_findRest_26 la_ki_1 ?_
        refine la_isub K dX0_findRest_27 ?_
        refine la_istore2 K dX0_findRest_28 rfl ?_
        have hB0 : (∀ k', n ≤ k' → k' ≤ n → ∀ q, q < 2 ^ (3 * L) → f k' q = lp_ro 1000000 P L aw ca (n - k') k' q) := by
          intro k' h5 h6 q hq
          rw [show k' = n by omega, Nat.sub_self]
          exact hA q (by omega)
        exact lb_ n _ _ _ _ _ (Nat.le_refl n) hB0
      · refine la_aload_n K dX0_findRest_10 rfl ?_
        refine lb_g_c25 K q163 dX0_findRest_11 ?_
        refine la_iload_n K dX0_findRest_14 rfl ?_
        refine lb_ld_rest K (by omega) dX0_findRest_15 ?_
        refine la_iload_n K dX0_findRest_16 rfl ?_
        refine la_iconst K dX0_findRest_17 la_ki_0 ?_
        refine lb_st_re K (by omega) (by omega) dX0_findRest_18 ?_
        refine la_iinc2 K dX0_findRest_19 (la_inc_N _) rfl ?_
        refine la_goto K 2 dX0_findRest_22 rfl ?_
        exact iha (s + 1) _ (by omega) (by omega) (fun q hq => by
          rw [va_up_self]
          by_cases e : q = s
          · subst e; exact va_up_self _ _ _
          · rw [va_up_ne _ _ e]; exact hA q (by omega))
  refine la_iconst K dX0_findRest_0 la_ki_0 ?_
  refine la_istore2 K dX0_findRest_1 rfl ?_
  exact la_ (2 ^ (3 * L) + 1) 0 RE (Nat.zero_le _) (by omega) (fun q hq => by omega)
set_option maxHeartbeats 4000000 in
theorem lb_plan (n i : Int32) (hJ : lb_J ((P, R, T, S, L, B, Nw, U, C, Kd), (fr, to, ln, aw), (su, ca, we, fa, sb, tb), (wk, nw, wo), (k0, k1, k2, k3, k4, k5), RE, BF, BK)) : la_CI ω yX0_plan cX0_plan 7 (some .int) (la_rm 4) [.ref (ad 0), .int n, .int i] (lb_W ω.2.2 ad ((P, R, T, S, L, B, Nw, U, C, Kd), (fr, to, ln, aw), (su, ca, we, fa, sb, tb), (wk, nw, wo), (k0, k1, k2, k3, k4, k5), RE, BF, BK)) (lb_W ω.2.2 ad) (fun (r : Int32) (u : lb_S) => r = lp_plnA 1000000 P L C B aw ca n i ∧ ∃ f, u = ((P, R, T, S, L, B, Nw, U, C, Kd), (fr, to, ln, aw), (su, ca, we, fa, sb, tb), (wk, nw, wo), (k0, k1, k2, k3, k4, k5), f, BF, BK)) := by
  refine la_CI_of (by decide) [some (.ref (ad 0)), some (.int (n)), some (.int (i)), none, none, none, none] rfl rfl (Nat.le_of_ble_eq_true rfl) ?_
  intro κ K hret
  have hJx : lb_Jx P R L B Nw U C Kd fr to ln aw su ca we fa sb tb := hJ
  have hJ2 := hJx
  obtain ⟨hP, hR, hro, hL3, hC12, hKd, hLC, haw, hDay⟩ := hJ2
  refine la_aload_n K dX0_plan_0 rfl ?_
  refine lb_g_L K q140 dX0_plan_1 ?_
  refine la_if_neN K 10 dX0_plan_4 rfl (by omega) (fun h4 => ?_) (fun h4 => ?_)
  · refine la_iload_n K dX0_plan_10 rfl ?_
    refine la_iconst K dX0_plan_11 la_ki_0 ?_
    refine la_aload_n K dX0_plan_12 rfl ?_
    refine lb_g_C K q152 dX0_plan_13 ?_
    refine la_callSp K ok_X0_in q258 (lb_in _ _ _ _) rfl rfl rfl (Nat.le_of_ble_eq_true rfl) ⟨Nat.le_of_ble_eq_true rfl, Nat.le_of_ble_eq_true rfl⟩ ⟨Nat.zero_le _, Nat.zero_le _⟩ dX0_plan_16 ?_
    refine la_if_eqC K 33 dX0_plan_19 rfl (fun h19 => ?_) (fun h19 => ?_)
    · refine la_iconst K dX0_plan_33 la_ki_m1 ?_
      exact hret _ _ _ _ dX0_plan_34 ⟨by unfold lp_plnA; rw [if_neg h4, if_neg (fun z => h19 ((lp_intsC0 n (by omega)).mpr ⟨by have := z.1.1; omega, z.1.2⟩))], RE, rfl⟩
    · have hn0 := (lp_intsC0 n (by omega)).mp h19
      obtain ⟨n, -, hnC, rfl⟩ := lp_inI_N hn0 (by omega)
      refine la_iload_n K dX0_plan_22 rfl ?_
      refine la_iconst K dX0_plan_23 la_ki_0 ?_
      refine la_iload_n K dX0_plan_24 rfl ?_
      refine la_iconst K dX0_plan_25 la_ki_1 ?_
      refine la_isub K dX0_plan_26 ?_
      refine la_callSp K ok_X0_in q258 (lb_in _ _ _ _) rfl rfl rfl (Nat.le_of_ble_eq_true rfl) ⟨Nat.le_of_ble_eq_true rfl, Nat.le_of_ble_eq_true rfl⟩ ⟨Nat.zero_le _, Nat.zero_le _⟩ dX0_plan_27 ?_
      refine la_if_neC K 35 dX0_plan_30 rfl (fun h30 => ?_) (fun h30 => ?_)
      · have hL1 : 1 ≤ L := by omega
        have hD := hDay hL1
        have hN := lb_D_now hP hL3 hD
        have hNw := lp_sd_lt hN hL3
        have hdg : ∀ k, k < L → lp_dg Nw k < P := hN.2
        have hd64 := hD.2.2.2.2.1
        have hd6 : ∀ a b, a < P → b < P → aw (6 * a + b) ≤ 1000000 := fun a b ha hb => Nat.le_trans (hd64 a b ha hb) (by decide)
        have hca := hD.2.1
        have hB := hD.1
        have hsu : ∀ k, k < L → su k ≤ 1000000 := fun k hk => Nat.le_trans (lb_D_su hP hL3 (by omega) hD k hk) (by decide)
        have hi0 := (lp_isPlaceC i (show n < 2 ^ 30 by omega)).mp h30
        obtain ⟨i, hin, rfl⟩ := lp_in_N hi0 (by omega)
        have hn0 : lp_inI (nI n) 1 C := (lp_inI_nI (by omega)).mpr ⟨by omega, hnC⟩
        refine la_aload_n K dX0_plan_35 rfl ?_
        refine la_iload_n K dX0_plan_36 rfl ?_
        refine la_callVv0 K ok_X0_findRest q481 (lb_findRest (n := n) hP hL1 hL3 hd64 (by omega) (fun i hi => hca i (by omega))) 0 rfl rfl rfl rfl rfl (Nat.le_of_ble_eq_true rfl) ⟨Nat.le_of_ble_eq_true rfl, Nat.le_of_ble_eq_true rfl⟩ ⟨Nat.zero_le _, Nat.zero_le _⟩ dX0_plan_37 (fun u37 p37 => ?_)
        obtain ⟨f, rfl, hall⟩ := p37
        have le_ : ∀ (j k : Nat) (s ch : Nat) (x6 : Option Value), k ≤ (i + 1) → (i + 1) < k + j → s = lp_pp 1000000 P L aw ca B n k → (k = 0 ∨ (0 < k ∧ ch = lp_fl 1000000 P L aw ca n (k - 1) (lp_pp 1000000 P L aw ca B n (k - 1)))) → la_At ω κ (0, 0) 51 [some (.ref (ad 0)), some (.int (nI (n))), some (.int (nI (i))), some (.int (nI (s))), some (.int (nI (ch))), some (.int (nI (k))), x6] [] (lb_W ω.2.2 ad ((P, R, T, S, L, B, Nw, U, C, Kd), (fr, to, ln, aw), (su, ca, we, fa, sb, tb), (wk, nw, wo), (k0, k1, k2, k3, k4, k5), f, BF, BK)) := by
          intro j
          induction j with
          | zero => intro k s ch x6 h1 h2; omega
          | succ j ihe =>
            intro k s ch x6 h1 h2 hs hch
            refine la_iload K dX0_plan_51 rfl ?_
            refine la_iload_n K dX0_plan_53 rfl ?_
            refine la_icmp_gtN K 133 dX0_plan_54 rfl (by omega) (by omega) (fun h54 => ?_) (fun h54 => ?_)
            · refine la_iload K dX0_plan_133 rfl ?_
              have ech : ch = lp_fl 1000000 P L aw ca n i (lp_pp 1000000 P L aw ca B n i) := by
                rcases hch with z | z
                · omega
                · rw [z.2, show k - 1 = i by omega]
              exact hret _ _ _ _ dX0_plan_135 ⟨by unfold lp_plnA; rw [if_neg (by omega), if_pos ⟨hn0, by rw [nI_clamp (by omega)]; exact hi0⟩, nI_clamp (by omega), nI_clamp (by omega), ech], f, rfl⟩
            · subst hs
              have hki : k ≤ i := by omega
              have hcpk := hca k (by omega)
              have hx := lp_pp_sd hP hL1 hL3 hd64 hca hnC (by omega) (by decide) hB (I := 1000000) (B := B) k (by omega)
              have hx5 := lp_sd_lt hx hL3
              have hfl := lp_fl_is hP hL1 hL3 hd64 hca (I := 1000000) (n := n) (k := k) (by omega) hnC (by omega) (by decide) hx
              have hrow : ∀ l, l < L → aw (6 * lp_dg (lp_pp 1000000 P L aw ca B n k) l + ca k) + f (k + 1) (lp_mv (lp_pp 1000000 P L aw ca B n k) l (ca k)) = lp_rv 1000000 P L aw ca (n - (k + 1)) k (lp_pp 1000000 P L aw ca B n k) l := fun l hl => by
                rw [hall (k + 1) (by omega) _ (lp_mv_small hL3 hx.1 hl (by omega))]
                rfl
              have hnow : f k (lp_pp 1000000 P L aw ca B n k) = lp_ro 1000000 P L aw ca (n - k) k (lp_pp 1000000 P L aw ca B n k) := hall k (by omega) _ hx.1
              have hbnd : ∀ l, l < L → lp_rv 1000000 P L aw ca (n - (k + 1)) k (lp_pp 1000000 P L aw ca B n k) l ≤ 2000000 := fun l hl => by
                have := hd64 _ _ (hx.2 l hl) hcpk
                have := lp_ro_le (I := 1000000) (P := P) (L := L) (d := aw) (cp := ca) (n - (k + 1)) (k + 1) (lp_mv (lp_pp 1000000 P L aw ca B n k) l (ca k))
                unfold lp_rv
                omega
              have lf : ∀ (j l : Nat), l ≤ (lp_fl 1000000 P L aw ca n k (lp_pp 1000000 P L aw ca B n k)) → (lp_fl 1000000 P L aw ca n k (lp_pp 1000000 P L aw ca B n k)) < l + j → la_At ω κ (0, 0) 69 [some (.ref (ad 0)), some (.int (nI (n))), some (.int (nI (i))), some (.int (nI (lp_pp 1000000 P L aw ca B n k))), some (.int (nI (l))), some (.int (nI (k))), some (.int (nI (ca k)))] [] (lb_W ω.2.2 ad ((P, R, T, S, L, B, Nw, U, C, Kd), (fr, to, ln, aw), (su, ca, we, fa, sb, tb), (wk, nw, wo), (k0, k1, k2, k3, k4, k5), f, BF, BK)) := by
                intro j
                induction j with
                | zero => intro l  h1 h2; omega
                | succ j ihf =>
                  intro l  h1 h2 
                  have hll : l < 3 := by omega
                  have hdl : lp_dg (lp_pp 1000000 P L aw ca B n k) l < P := hx.2 l (by omega)
                  refine la_aload_n K dX0_plan_69 rfl ?_
                  refine la_iload_n K dX0_plan_70 rfl ?_
                  refine la_iload K dX0_plan_71 rfl ?_
                  refine la_callSp K ok_X0_at q281 (lb_at (by omega) (by omega) _) rfl rfl rfl (Nat.le_of_ble_eq_true rfl) ⟨Nat.le_of_ble_eq_true rfl, Nat.le_of_ble_eq_true rfl⟩ ⟨Nat.zero_le _, Nat.zero_le _⟩ dX0_plan_73 ?_
                  refine la_iload K dX0_plan_76 rfl ?_
                  refine la_callVp K ok_X0_distance q265 (lb_distance (by omega)) 0 rfl rfl rfl rfl rfl (Nat.le_of_ble_eq_true rfl) ⟨Nat.le_of_ble_eq_true rfl, Nat.le_of_ble_eq_true rfl⟩ ⟨Nat.zero_le _, Nat.zero_le _⟩ dX0_plan_78 ?_
                  refine la_aload_n K dX0_plan_81 rfl ?_
                  refine lb_g_c25 K q163 dX0_plan_82 ?_
                  refine la_iload K dX0_plan_85 rfl ?_
                  refine la_iconst K dX0_plan_87 la_ki_1 ?_
                  refine la_iaddN K dX0_plan_88 ?_
                  refine lb_ld_rest K (by omega) dX0_plan_89 ?_
                  refine la_iload_n K dX0_plan_90 rfl ?_
                  refine la_iload K dX0_plan_91 rfl ?_
                  refine la_iload K dX0_plan_93 rfl ?_
                  refine la_callSp K ok_X0_moved q384 (lb_moved (by omega) (by omega) (by omega) _) rfl rfl rfl (Nat.le_of_ble_eq_true rfl) ⟨Nat.le_of_ble_eq_true rfl, Nat.le_of_ble_eq_true rfl⟩ ⟨Nat.zero_le _, Nat.zero_le _⟩ dX0_plan_95 ?_
                  refine lb_ld_re K (by omega) (by have := lp_mv_lt (s := lp_pp 1000000 P L aw ca B n k) (l := l) (p := ca k) (by omega) (by omega) (by omega); omega) dX0_plan_98 ?_
                  refine la_iaddN K dX0_plan_99 ?_
                  refine la_aload_n K dX0_plan_100 rfl ?_
                  refine lb_g_c25 K q163 dX0_plan_101 ?_
                  refine la_iload K dX0_plan_104 rfl ?_
                  refine lb_ld_rest K (by omega) dX0_plan_106 ?_
                  refine la_iload_n K dX0_plan_107 rfl ?_
                  refine lb_ld_re K (by omega) (by omega) dX0_plan_108 ?_
                  refine la_icmp_eqN K 118 dX0_plan_109 rfl (by rw [hrow l (by omega)]; have := hbnd l (by omega); omega) (by rw [hnow]; have := lp_ro_le (I := 1000000) (P := P) (L := L) (d := aw) (cp := ca) (n - k) k (lp_pp 1000000 P L aw ca B n k); omega) (fun h109 => ?_) (fun h109 => ?_)
                  · refine la_iload_n K dX0_plan_118 rfl ?_
                    refine la_iload K dX0_plan_119 rfl ?_
                    refine la_iload K dX0_plan_121 rfl ?_
                    refine la_callSp K ok_X0_moved q384 (lb_moved (by omega) (by omega) (by omega) _) rfl rfl rfl (Nat.le_of_ble_eq_true rfl) ⟨Nat.le_of_ble_eq_true rfl, Nat.le_of_ble_eq_true rfl⟩ ⟨Nat.zero_le _, Nat.zero_le _⟩ dX0_plan_123 ?_
                    refine la_istore3 K dX0_plan_126 rfl ?_
                    refine la_iinc5 K dX0_plan_127 (la_inc_N _) rfl ?_
                    refine la_goto K 51 dX0_plan_130 rfl ?_
                    have el : l = lp_fl 1000000 P L aw ca n k (lp_pp 1000000 P L aw ca B n k) := by
                      rcases Nat.lt_or_ge l (lp_fl 1000000 P L aw ca n k (lp_pp 1000000 P L aw ca B n k)) with z | z
                      · exact absurd (by rw [← hnow, ← hrow l (by omega)]; exact h109) (hfl.2.2 l z)
                      · omega
                    exact ihe (k + 1) _ _ _ (by omega) (by omega) (by rw [el]; rfl) (Or.inr ⟨by omega, by rw [el]; rfl⟩)
                  · refine la_iinc4 K dX0_plan_112 (la_inc_N _) rfl ?_
                    refine la_goto K 69 dX0_plan_115 rfl ?_
                    have hlt : l + 1 ≤ lp_fl 1000000 P L aw ca n k (lp_pp 1000000 P L aw ca B n k) := by
                      rcases Nat.lt_or_ge l (lp_fl 1000000 P L aw ca n k (lp_pp 1000000 P L aw ca B n k)) with z | z
                      · omega
                      · exact absurd (by rw [hrow l (by omega), hnow, show l = lp_fl 1000000 P L aw ca n k (lp_pp 1000000 P L aw ca B n k) by omega]; exact hfl.2.1) h109
                    exact ihf (l + 1) hlt (by omega)
              refine la_aload_n K dX0_plan_57 rfl ?_
              refine lb_g_ca K q153 dX0_plan_58 ?_
              refine la_iload K dX0_plan_61 rfl ?_
              refine lb_ld_ca K (by omega) dX0_plan_63 ?_
              refine la_istore6 K dX0_plan_64 rfl ?_
              refine la_iconst K dX0_plan_66 la_ki_0 ?_
              refine la_istore4 K dX0_plan_67 rfl ?_
              exact lf (lp_fl 1000000 P L aw ca n k (lp_pp 1000000 P L aw ca B n k) + 1) 0 (by omega) (by omega)
        refine la_aload_n K dX0_plan_40 rfl ?_
        refine lb_g_B K q141 dX0_plan_41 ?_
        refine la_istore3 K dX0_plan_44 rfl ?_
        refine la_iconst K dX0_plan_45 la_ki_0 ?_
        refine la_istore4 K dX0_plan_46 rfl ?_
        refine la_iconst K dX0_plan_48 la_ki_0 ?_
        refine la_istore5 K dX0_plan_49 rfl ?_
        exact le_ (i + 2) 0 B 0 _ (by omega) (by omega) rfl (Or.inl rfl)
      · refine la_iconst K dX0_plan_33 la_ki_m1 ?_
        exact hret _ _ _ _ dX0_plan_34 ⟨by unfold lp_plnA; rw [if_neg h4, if_neg (fun z => h30 ((lp_isPlaceC i (show n < 2 ^ 30 by omega)).mpr (by have := z.2; rw [nI_clamp (by omega)] at this; exact this)))], RE, rfl⟩
  · refine la_bipush K dX0_plan_7 la_kb_m2 ?_
    exact hret _ _ _ _ dX0_plan_9 ⟨by unfold lp_plnA; rw [if_pos h4], RE, rfl⟩
end LC15
