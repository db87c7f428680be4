/-! THE COMPONENT's METHODS, part 3: work. Printed by c3.py. -/
section LC3
variable {ω : la_O} {ad : Nat → Nat} {S : Int32} {T : Int64} {P R L B Nw U C Kd : Nat} {fr to ln aw su ca we fa sb tb wk nw wo k0 k1 k2 k3 k4 k5 : Nat → Nat} {RE : Nat → Nat → Nat} {BF : Nat → Option Nat} {BK : va_W}
set_option maxHeartbeats 4000000 in
theorem lb_workOf {n : Nat} (hP : P ≤ 6) (hL1 : 1 ≤ L) (hL3 : L ≤ 3) (hd6 : ∀ a b, a < P → b < P → aw (6 * a + b) ≤ 6400) (hB : lp_sd P L B) (hn : n ≤ 12) (hca : ∀ i, i < n → ca i < P) : la_CR ω yX0_workOf cX0_workOf 6 (some (.array .int)) (la_rm 5) [.ref (ad 0), .int (nI n)] (lb_W ω.2.2 ad ((P, R, T, S, L, B, Nw, U, C, Kd), (fr, to, ln, aw), (su, ca, we, fa, sb, tb), (wk, nw, wo), (k0, k1, k2, k3, k4, k5), RE, BF, BK)) (lb_W ω.2.2 ad) (fun _ => ad 11) (fun u : lb_S => ∃ wk' nw', u = ((P, R, T, S, L, B, Nw, U, C, Kd), (fr, to, ln, aw), (su, ca, we, fa, sb, tb), (wk', nw', wo), (k0, k1, k2, k3, k4, k5), RE, BF, BK) ∧ ∀ x, x < 2 ^ (3 * L) → wk' x = lp_wc P L aw B ca n x) := by
  refine la_CR_of (rf := fun _ => ad 11) (Or.inr ⟨_, rfl⟩) (by decide) [some (.ref (ad 0)), some (.int (nI (n))), none, none, none, none] rfl rfl (Nat.le_of_ble_eq_true rfl) ?_
  intro κ K hret
  have hpw := lp_pw hL3
  have hpos := Nat.two_pow_pos (3 * L)
  have lb_ : ∀ (j i : Nat) (f g : Nat → Nat) (x3 x4 x5 : Option Value), i ≤ n → n < i + j → (∀ q, q < 2 ^ (3 * L) → f q = lp_wc P L aw B ca i q) → la_At ω κ (0, 0) 48 [some (.ref (ad 0)), some (.int (nI (n))), some (.int (nI (i))), x3, x4, x5] [] (lb_W ω.2.2 ad ((P, R, T, S, L, B, Nw, U, C, Kd), (fr, to, ln, aw), (su, ca, we, fa, sb, tb), (f, g, wo), (k0, k1, k2, k3, k4, k5), RE, BF, BK)) := by
    intro j
    induction j with
    | zero => intro i f g x3 x4 x5 h1 h2; omega
    | succ j ihb =>
      intro i f g x3 x4 x5 h1 h2 hwk
      refine la_iload_n K dX0_workOf_48 rfl ?_
      refine la_iload_n K dX0_workOf_49 rfl ?_
      refine la_icmp_geN K 180 dX0_workOf_50 rfl (by omega) (by omega) (fun h50 => ?_) (fun h50 => ?_)
      · refine la_aload_n K dX0_workOf_180 rfl ?_
        refine lb_g_wk K q161 dX0_workOf_181 ?_
        exact hret _ _ _ dX0_workOf_184 ⟨f, g, rfl, fun x hx => by rw [show i = n by omega] at hwk; exact hwk x hx⟩
      · refine la_aload_n K dX0_workOf_53 rfl ?_
        refine lb_g_ca K q153 dX0_workOf_54 ?_
        refine la_iload_n K dX0_workOf_57 rfl ?_
        refine lb_ld_ca K (by omega) dX0_workOf_58 ?_
        refine la_istore3 K dX0_workOf_59 rfl ?_
        have hcai := hca i (by omega)
        have lc_ : ∀ (j x : Nat) (g : Nat → Nat) (x5 : Option Value), x ≤ (2 ^ (3 * L)) → (2 ^ (3 * L)) < x + j → (∀ q, q < x → g q = lp_wc P L aw B ca (i + 1) q) → la_At ω κ (0, 0) 63 [some (.ref (ad 0)), some (.int (nI (n))), some (.int (nI (i))), some (.int (nI (ca i))), some (.int (nI (x))), x5] [] (lb_W ω.2.2 ad ((P, R, T, S, L, B, Nw, U, C, Kd), (fr, to, ln, aw), (su, ca, we, fa, sb, tb), (f, g, wo), (k0, k1, k2, k3, k4, k5), RE, BF, BK)) := by
          intro j
          induction j with
          | zero => intro x g x5 h1 h2; omega
          | succ j ihc =>
            intro x g x5 h1 h2 hqs
            refine la_iload K dX0_workOf_63 rfl ?_
            refine la_aload_n K dX0_workOf_65 rfl ?_
            refine la_callVp K ok_X0_standMany q376 (lb_standMany hL3) 0 rfl rfl rfl rfl rfl (Nat.le_of_ble_eq_true rfl) ⟨Nat.le_of_ble_eq_true rfl, Nat.le_of_ble_eq_true rfl⟩ ⟨Nat.zero_le _, Nat.zero_le _⟩ dX0_workOf_66 ?_
            refine la_icmp_geN K 157 dX0_workOf_69 rfl (by omega) (by omega) (fun h69 => ?_) (fun h69 => ?_)
            · refine la_aload_n K dX0_workOf_157 rfl ?_
              refine lb_g_nw K q162 dX0_workOf_158 ?_
              refine la_iconst K dX0_workOf_161 la_ki_0 ?_
              refine la_aload_n K dX0_workOf_162 rfl ?_
              refine lb_g_wk K q161 dX0_workOf_163 ?_
              refine la_iconst K dX0_workOf_166 la_ki_0 ?_
              refine la_aload_n K dX0_workOf_167 rfl ?_
              refine la_callVp K ok_X0_standMany q376 (lb_standMany hL3) 0 rfl rfl rfl rfl rfl (Nat.le_of_ble_eq_true rfl) ⟨Nat.le_of_ble_eq_true rfl, Nat.le_of_ble_eq_true rfl⟩ ⟨Nat.zero_le _, Nat.zero_le _⟩ dX0_workOf_168 ?_
              refine lb_cp_nw_wk K q387 (by omega) rfl (by decide) (Nat.le_of_ble_eq_true rfl) dX0_workOf_171 ?_
              refine la_iinc2 K dX0_workOf_174 (la_inc_N _) rfl ?_
              refine la_goto K 48 dX0_workOf_177 rfl ?_
              exact ihb (i + 1) _ _ _ _ _ (by omega) (by omega) (fun q hq => by rw [lp_cpy0 hq]; exact hqs q (by omega))
            · have ld : x < 2 ^ (3 * L) → ∀ (j l : Nat) (g : Nat → Nat) (v : Nat), l ≤ L → L < l + j → (∀ q, q < x → g q = lp_wc P L aw B ca (i + 1) q) → g x = v → lp_mn 1000000 (lp_wcQ P L aw B ca i x l) v → (l = 0 ∨ lp_sd P L x) → la_At ω κ (0, 0) 84 [some (.ref (ad 0)), some (.int (nI (n))), some (.int (nI (i))), some (.int (nI (ca i))), some (.int (nI (x))), some (.int (nI (l)))] [] (lb_W ω.2.2 ad ((P, R, T, S, L, B, Nw, U, C, Kd), (fr, to, ln, aw), (su, ca, we, fa, sb, tb), (f, g, wo), (k0, k1, k2, k3, k4, k5), RE, BF, BK)) := by
                intro hxE j
                induction j with
                | zero => intro l g v h1 h2; omega
                | succ j ihd =>
                  intro l g v h1 h2 hqs hfv hv hz
                  refine la_iload K dX0_workOf_84 rfl ?_
                  refine la_aload_n K dX0_workOf_86 rfl ?_
                  refine lb_g_L K q140 dX0_workOf_87 ?_
                  refine la_icmp_geN K 151 dX0_workOf_90 rfl (by omega) (by omega) (fun h90 => ?_) (fun h90 => ?_)
                  · refine la_iinc4 K dX0_workOf_151 (la_inc_N _) rfl ?_
                    refine la_goto K 63 dX0_workOf_154 rfl ?_
                    exact ihc (x + 1) _ _ (by omega) (by omega) (lt_s hqs (by rw [hfv]; exact lp_wc_in (hz.resolve_left (by omega)) (by rw [show l = L by omega] at hv; exact hv)))
                  · refine la_aload_n K dX0_workOf_93 rfl ?_
                    refine la_iload K dX0_workOf_94 rfl ?_
                    refine la_callVp K ok_X0_isStand q277 (lb_isStand _ hL3 hP) 0 rfl rfl rfl rfl rfl (Nat.le_of_ble_eq_true rfl) ⟨Nat.le_of_ble_eq_true rfl, Nat.le_of_ble_eq_true rfl⟩ ⟨Nat.zero_le _, Nat.zero_le _⟩ dX0_workOf_96 ?_
                    refine la_if_eqB K 151 dX0_workOf_99 rfl (fun h99 => ?_) (fun h99 => ?_)
                    · refine la_iinc4 K dX0_workOf_151 (la_inc_N _) rfl ?_
                      refine la_goto K 63 dX0_workOf_154 rfl ?_
                      exact ihc (x + 1) _ _ (by omega) (by omega) (lt_s hqs (by rw [hfv]; rw [lp_wc_out (fun z => h99 ((lp_st_N (by omega)).mpr z))]; rw [show l = 0 from hz.resolve_right (fun z => h99 ((lp_st_N (by omega)).mpr z))] at hv; exact lp_mn_uniq hv lp_wcQ_0))
                    · have hsd : lp_sd P L x := (lp_st_N (by omega)).mp h99
                      have hdg : lp_dg x l < P := hsd.2 l (by omega)
                      have hmv := lp_mv_small (s := x) (l := l) (p := ca i) hL3 (by omega) (by omega) (by omega)
                      have hmvv := hwk _ hmv
                      refine la_aload_n K dX0_workOf_102 rfl ?_
                      refine lb_g_nw K q162 dX0_workOf_103 ?_
                      refine la_iload K dX0_workOf_106 rfl ?_
                      refine la_aload_n K dX0_workOf_108 rfl ?_
                      refine lb_g_nw K q162 dX0_workOf_109 ?_
                      refine la_iload K dX0_workOf_112 rfl ?_
                      refine lb_ld_nw K (by omega) dX0_workOf_114 ?_
                      refine la_aload_n K dX0_workOf_115 rfl ?_
                      refine lb_g_wk K q161 dX0_workOf_116 ?_
                      refine la_iload K dX0_workOf_119 rfl ?_
                      refine la_iload K dX0_workOf_121 rfl ?_
                      refine la_iload_n K dX0_workOf_123 rfl ?_
                      refine la_callSp K ok_X0_moved q384 (lb_moved (by omega) (by omega) (by omega) _) rfl rfl rfl (Nat.le_of_ble_eq_true rfl) ⟨Nat.le_of_ble_eq_true rfl, Nat.le_of_ble_eq_true rfl⟩ ⟨Nat.zero_le _, Nat.zero_le _⟩ dX0_workOf_124 ?_
                      refine lb_ld_wk K (by omega) dX0_workOf_127 ?_
                      refine la_aload_n K dX0_workOf_128 rfl ?_
                      refine la_iload_n K dX0_workOf_129 rfl ?_
                      refine la_iload K dX0_workOf_130 rfl ?_
                      refine la_iload K dX0_workOf_132 rfl ?_
                      refine la_callSp K ok_X0_at q281 (lb_at (by omega) (by omega) _) rfl rfl rfl (Nat.le_of_ble_eq_true rfl) ⟨Nat.le_of_ble_eq_true rfl, Nat.le_of_ble_eq_true rfl⟩ ⟨Nat.zero_le _, Nat.zero_le _⟩ dX0_workOf_134 ?_
                      refine la_callVp K ok_X0_distance q265 (lb_distance (by omega)) 0 rfl rfl rfl rfl rfl (Nat.le_of_ble_eq_true rfl) ⟨Nat.le_of_ble_eq_true rfl, Nat.le_of_ble_eq_true rfl⟩ ⟨Nat.zero_le _, Nat.zero_le _⟩ dX0_workOf_137 ?_
                      refine la_iaddN K dX0_workOf_140 ?_
                      refine la_minN K (by rw [hfv]; have := hv.1; omega) (by rw [hmvv]; have := lp_wc_le (P := P) (L := L) (d := aw) (B := B) (cp := ca) (i := i) (x := lp_mv x l (ca i)); have := hd6 _ _ hcai hdg; omega) q243 rfl (by decide) (Nat.le_of_ble_eq_true rfl) ⟨Nat.zero_le _, Nat.zero_le _⟩ dX0_workOf_141 ?_
                      refine lb_st_nw K (by omega) dX0_workOf_144 ?_
                      refine la_iinc5 K dX0_workOf_145 (la_inc_N _) rfl ?_
                      refine la_goto K 84 dX0_workOf_148 rfl ?_
                      exact ihd (l + 1) _ _ (by omega) (by omega) (fun q hq => by rw [va_up_ne _ _ (by omega)]; exact hqs q hq) (va_up_self _ _ _) (lp_wcQ_step hv (by rw [hfv, hmvv])) (Or.inr hsd)
              refine la_aload_n K dX0_workOf_72 rfl ?_
              refine lb_g_nw K q162 dX0_workOf_73 ?_
              refine la_iload K dX0_workOf_76 rfl ?_
              refine la_ldc K q242 la_kl_1000000 dX0_workOf_78 ?_
              refine lb_st_nw K (by omega) dX0_workOf_80 ?_
              refine la_iconst K dX0_workOf_81 la_ki_0 ?_
              refine la_istore5 K dX0_workOf_82 rfl ?_
              exact ld (by omega) (L + 1) 0 _ _ (by omega) (by omega) (fun q hq => by rw [va_up_ne _ _ (by omega)]; exact hqs q hq) (va_up_self _ _ _) lp_wcQ_0 (Or.inl rfl)
        refine la_iconst K dX0_workOf_60 la_ki_0 ?_
        refine la_istore4 K dX0_workOf_61 rfl ?_
        exact lc_ (2 ^ (3 * L) + 1) 0 _ _ (by omega) (by omega) (fun q hq => by omega)
  have la_ : ∀ (j x : Nat) (f : Nat → Nat), x ≤ (2 ^ (3 * L)) → (2 ^ (3 * L)) < x + j → (∀ q, q < x → f q = lp_wc P L aw B ca 0 q) → la_At ω κ (0, 0) 2 [some (.ref (ad 0)), some (.int (nI (n))), some (.int (nI (x))), none, none, none] [] (lb_W ω.2.2 ad ((P, R, T, S, L, B, Nw, U, C, Kd), (fr, to, ln, aw), (su, ca, we, fa, sb, tb), (f, nw, wo), (k0, k1, k2, k3, k4, k5), RE, BF, BK)) := by
    intro j
    induction j with
    | zero => intro x f h1 h2; omega
    | succ j iha =>
      intro x f h1 h2 hqs
      refine la_iload_n K dX0_workOf_2 rfl ?_
      refine la_aload_n K dX0_workOf_3 rfl ?_
      refine la_callVp K ok_X0_standMany q376 (lb_standMany hL3) 0 rfl rfl rfl rfl rfl (Nat.le_of_ble_eq_true rfl) ⟨Nat.le_of_ble_eq_true rfl, Nat.le_of_ble_eq_true rfl⟩ ⟨Nat.zero_le _, Nat.zero_le _⟩ dX0_workOf_4 ?_
      refine la_icmp_geN K 46 dX0_workOf_7 rfl (by omega) (by omega) (fun h7 => ?_) (fun h7 => ?_)
      · refine la_iconst K dX0_workOf_46 la_ki_0 ?_
        refine la_istore2 K dX0_workOf_47 rfl ?_
        exact lb_ (n + 1) 0 _ _ _ _ _ (by omega) (by omega) (fun q hq => hqs q (by omega))
      · refine la_aload_n K dX0_workOf_10 rfl ?_
        refine lb_g_wk K q161 dX0_workOf_11 ?_
        refine la_iload_n K dX0_workOf_14 rfl ?_
        refine la_aload_n K dX0_workOf_15 rfl ?_
        refine la_iload_n K dX0_workOf_16 rfl ?_
        refine la_callVp K ok_X0_isStand q277 (lb_isStand _ hL3 hP) 0 rfl rfl rfl rfl rfl (Nat.le_of_ble_eq_true rfl) ⟨Nat.le_of_ble_eq_true rfl, Nat.le_of_ble_eq_true rfl⟩ ⟨Nat.zero_le _, Nat.zero_le _⟩ dX0_workOf_17 ?_
        refine la_if_eqB K 37 dX0_workOf_20 rfl (fun h20 => ?_) (fun h20 => ?_)
        · refine la_ldc K q242 la_kl_1000000 dX0_workOf_37 ?_
          refine lb_st_wk K (by omega) dX0_workOf_39 ?_
          refine la_iinc2 K dX0_workOf_40 (la_inc_N _) rfl ?_
          refine la_goto K 2 dX0_workOf_43 rfl ?_
          exact iha (x + 1) _ (by omega) (by omega) (lt_s (fun q hq => by rw [va_up_ne _ _ (by omega)]; exact hqs q hq) (by rw [va_up_self, lp_wc_out (fun z => h20 ((lp_st_N (by omega)).mpr z))]))
        · refine la_aload_n K dX0_workOf_23 rfl ?_
          refine la_aload_n K dX0_workOf_24 rfl ?_
          refine lb_g_B K q141 dX0_workOf_25 ?_
          refine la_iload_n K dX0_workOf_28 rfl ?_
          refine la_iconst K dX0_workOf_29 la_ki_0 ?_
          refine la_iconst K dX0_workOf_30 la_ki_0 ?_
          refine la_callVp K ok_X0_movesOf q380 (lb_movesOf hP hL1 hL3 hd6 hB ((lp_st_N (by omega)).mp h20)) 0 rfl rfl rfl rfl rfl (Nat.le_of_ble_eq_true rfl) ⟨Nat.le_of_ble_eq_true rfl, Nat.le_of_ble_eq_true rfl⟩ ⟨Nat.zero_le _, Nat.zero_le _⟩ dX0_workOf_31 ?_
          refine la_goto K 39 dX0_workOf_34 rfl ?_
          refine lb_st_wk K (by omega) dX0_workOf_39 ?_
          refine la_iinc2 K dX0_workOf_40 (la_inc_N _) rfl ?_
          refine la_goto K 2 dX0_workOf_43 rfl ?_
          exact iha (x + 1) _ (by omega) (by omega) (lt_s (fun q hq => by rw [va_up_ne _ _ (by omega)]; exact hqs q hq) (by rw [va_up_self, lp_wc_0 ((lp_st_N (by omega)).mp h20)]))
  refine la_iconst K dX0_workOf_0 la_ki_0 ?_
  refine la_istore2 K dX0_workOf_1 rfl ?_
  exact la_ (2 ^ (3 * L) + 1) 0 _ (by omega) (by omega) (fun q hq => by omega)
theorem lp_LQ6_0 {g : Nat → Nat} : lp_mn 1000000 (lp_LQ g 0) 1000000 := lp_mn_0 (by rintro u ⟨s', h, _⟩; omega)
theorem lp_LQ6_step {g : Nat → Nat} {s v x : Nat} (h : lp_mn 1000000 (lp_LQ g s) v) (hx : x = min v (g s)) : lp_mn 1000000 (lp_LQ g (s + 1)) x := by
  subst hx
  refine lp_mn_add h (fun u => ⟨?_, ?_⟩)
  · rintro ⟨s', q1, q2⟩
    by_cases e : s' = s
    · exact Or.inr (by rw [q2, e])
    · exact Or.inl ⟨s', by omega, q2⟩
  · rintro (⟨s', q1, q2⟩ | e)
    · exact ⟨s', by omega, q2⟩
    · exact ⟨s, by omega, e⟩
set_option maxHeartbeats 4000000 in
theorem lb_leastOf {n : Nat} (hP : P ≤ 6) (hL1 : 1 ≤ L) (hL3 : L ≤ 3) (hd6 : ∀ a b, a < P → b < P → aw (6 * a + b) ≤ 6400) (hB : lp_sd P L B) (hn : n ≤ 12) (hca : ∀ i, i < n → ca i < P) : la_CI ω yX0_leastOf cX0_leastOf 5 (some .int) (la_rm 6) [.ref (ad 0), .int (nI n)] (lb_W ω.2.2 ad ((P, R, T, S, L, B, Nw, U, C, Kd), (fr, to, ln, aw), (su, ca, we, fa, sb, tb), (wk, nw, wo), (k0, k1, k2, k3, k4, k5), RE, BF, BK)) (lb_W ω.2.2 ad) (fun (r : Int32) (u : lb_S) => r = nI (lp_min 1000000 (lp_LQ (lp_wc P L aw B ca n) (2 ^ (3 * L)))) ∧ ∃ wk' nw', u = ((P, R, T, S, L, B, Nw, U, C, Kd), (fr, to, ln, aw), (su, ca, we, fa, sb, tb), (wk', nw', wo), (k0, k1, k2, k3, k4, k5), RE, BF, BK)) := by
  refine la_CI_of (by decide) [some (.ref (ad 0)), some (.int (nI (n))), none, none, none] rfl rfl (Nat.le_of_ble_eq_true rfl) ?_
  intro κ K hret
  have hpw := lp_pw hL3
  have hpos := Nat.two_pow_pos (3 * L)
  refine la_aload_n K dX0_leastOf_0 rfl ?_
  refine la_iload_n K dX0_leastOf_1 rfl ?_
  refine la_callVr0 K ok_X0_workOf q443 (lb_workOf (n := n) hP hL1 hL3 hd6 hB (by omega) hca) 0 rfl rfl rfl rfl rfl (Nat.le_of_ble_eq_true rfl) ⟨Nat.le_of_ble_eq_true rfl, Nat.le_of_ble_eq_true rfl⟩ ⟨Nat.zero_le _, Nat.zero_le _⟩ dX0_leastOf_2 (fun u2 p2 => ?_)
  obtain ⟨wk1, nw1, rfl, hwk⟩ := p2
  refine la_astore2 K dX0_leastOf_5 rfl ?_
  refine la_ldc K q242 la_kl_1000000 dX0_leastOf_6 ?_
  refine la_istore3 K dX0_leastOf_8 rfl ?_
  refine la_iconst K dX0_leastOf_9 la_ki_0 ?_
  refine la_istore4 K dX0_leastOf_10 rfl ?_
  have lp : ∀ (j x : Nat) (v : Nat), x ≤ (2 ^ (3 * L)) → (2 ^ (3 * L)) < x + j → lp_mn 1000000 (lp_LQ (lp_wc P L aw B ca n) x) v → la_At ω κ (0, 0) 12 [some (.ref (ad 0)), some (.int (nI (n))), some (.ref (ad 11)), some (.int (nI (v))), some (.int (nI (x)))] [] (lb_W ω.2.2 ad ((P, R, T, S, L, B, Nw, U, C, Kd), (fr, to, ln, aw), (su, ca, we, fa, sb, tb), (wk1, nw1, wo), (k0, k1, k2, k3, k4, k5), RE, BF, BK)) := by
    intro j
    induction j with
    | zero => intro x v h1 h2; omega
    | succ j ih =>
      intro x v h1 h2 hv
      refine la_iload K dX0_leastOf_12 rfl ?_
      refine la_aload_n K dX0_leastOf_14 rfl ?_
      refine la_callVp K ok_X0_standMany q376 (lb_standMany hL3) 0 rfl rfl rfl rfl rfl (Nat.le_of_ble_eq_true rfl) ⟨Nat.le_of_ble_eq_true rfl, Nat.le_of_ble_eq_true rfl⟩ ⟨Nat.zero_le _, Nat.zero_le _⟩ dX0_leastOf_15 ?_
      refine la_icmp_geN K 36 dX0_leastOf_18 rfl (by omega) (by omega) (fun h18 => ?_) (fun h18 => ?_)
      · refine la_iload_n K dX0_leastOf_36 rfl ?_
        exact hret _ _ _ _ dX0_leastOf_37 ⟨by rw [show x = 2 ^ (3 * L) by omega] at hv; rw [lp_mn_min hv], _, _, rfl⟩
      · refine la_iload_n K dX0_leastOf_21 rfl ?_
        refine la_aload_n K dX0_leastOf_22 rfl ?_
        refine la_iload K dX0_leastOf_23 rfl ?_
        refine lb_ld_wk K (by omega) dX0_leastOf_25 ?_
        refine la_minN K (by have := hv.1; omega) (by rw [hwk x (by omega)]; have := lp_wc_le (P := P) (L := L) (d := aw) (B := B) (cp := ca) (i := n) (x := x); omega) q243 rfl (by decide) (Nat.le_of_ble_eq_true rfl) ⟨Nat.zero_le _, Nat.zero_le _⟩ dX0_leastOf_26 ?_
        refine la_istore3 K dX0_leastOf_29 rfl ?_
        refine la_iinc4 K dX0_leastOf_30 (la_inc_N _) rfl ?_
        refine la_goto K 12 dX0_leastOf_33 rfl ?_
        exact ih (x + 1) _ (by omega) (by omega) (lp_LQ6_step hv (by rw [hwk x (by omega)]))
  exact lp (2 ^ (3 * L) + 1) 0 _ (Nat.zero_le _) (by omega) lp_LQ6_0
theorem lb_costNow (hL3 : L ≤ 3) : la_CP ω yX0_costNow cX0_costNow 3 (some .int) (la_rm 0) [.ref (ad 0)] (lb_W ω.2.2 ad ((P, R, T, S, L, B, Nw, U, C, Kd), (fr, to, ln, aw), (su, ca, we, fa, sb, tb), (wk, nw, wo), (k0, k1, k2, k3, k4, k5), RE, BF, BK)) (nI (lp_tot su L)) := by
  refine la_CI_of (by decide) [some (.ref (ad 0)), none, none] rfl rfl (Nat.le_of_ble_eq_true rfl) ?_
  intro κ K hret
  have lp : ∀ (j k : Nat) (s : Nat), k ≤ L → L < k + j → s = lp_tot su k → la_At ω κ (0, 0) 4 [some (.ref (ad 0)), some (.int (nI (s))), some (.int (nI (k)))] [] (lb_W ω.2.2 ad ((P, R, T, S, L, B, Nw, U, C, Kd), (fr, to, ln, aw), (su, ca, we, fa, sb, tb), (wk, nw, wo), (k0, k1, k2, k3, k4, k5), RE, BF, BK)) := by
    intro j
    induction j with
    | zero => intro k s h1 h2; omega
    | succ j ih =>
      intro k s h1 h2 hs
      refine la_iload_n K dX0_costNow_4 rfl ?_
      refine la_aload_n K dX0_costNow_5 rfl ?_
      refine lb_g_L K q140 dX0_costNow_6 ?_
      refine la_icmp_geN K 27 dX0_costNow_9 rfl (by omega) (by omega) (fun h9 => ?_) (fun h9 => ?_)
      · refine la_iload_n K dX0_costNow_27 rfl ?_
        exact hret _ _ _ () dX0_costNow_28 (by rw [hs, show k = L by omega])
      · refine la_iload_n K dX0_costNow_12 rfl ?_
        refine la_aload_n K dX0_costNow_13 rfl ?_
        refine lb_g_su K q147 dX0_costNow_14 ?_
        refine la_iload_n K dX0_costNow_17 rfl ?_
        refine lb_ld_su K (by omega) dX0_costNow_18 ?_
        refine la_iaddN K dX0_costNow_19 ?_
        refine la_istore1 K dX0_costNow_20 rfl ?_
        refine la_iinc2 K dX0_costNow_21 (la_inc_N _) rfl ?_
        refine la_goto K 4 dX0_costNow_24 rfl ?_
        exact ih (k + 1) _ (by omega) (by omega) (by rw [lp_tot, hs])
  refine la_iconst K dX0_costNow_0 la_ki_0 ?_
  refine la_istore1 K dX0_costNow_1 rfl ?_
  refine la_iconst K dX0_costNow_2 la_ki_0 ?_
  refine la_istore2 K dX0_costNow_3 rfl ?_
  exact lp (L + 1) 0 0 (by omega) (by omega) rfl
theorem lb_forget {x : Nat} : la_CV ω yX0_forget cX0_forget 3 none (la_rm 0) [.ref (ad 0), .int (nI x)] (lb_W ω.2.2 ad ((P, R, T, S, L, B, Nw, U, C, Kd), (fr, to, ln, aw), (su, ca, we, fa, sb, tb), (wk, nw, wo), (k0, k1, k2, k3, k4, k5), RE, BF, BK)) (lb_W ω.2.2 ad) (fun u : lb_S => ∃ su', u = ((P, R, T, S, L, x, x, 0, 0, Kd), (fr, to, ln, aw), (su', ca, we, fa, sb, tb), (wk, nw, wo), (k0, k1, k2, k3, k4, k5), RE, BF, BK) ∧ ∀ i, i < 3 → su' i = 0) := by
  refine la_CV_of (by decide) [some (.ref (ad 0)), some (.int (nI (x))), none] rfl rfl (Nat.le_of_ble_eq_true rfl) ?_
  intro κ K hret
  have lp : ∀ (j k : Nat) (f : Nat → Nat), k ≤ 3 → 3 < k + j → (∀ i, i < k → f i = 0) → la_At ω κ (0, 0) 22 [some (.ref (ad 0)), some (.int (nI (x))), some (.int (nI (k)))] [] (lb_W ω.2.2 ad ((P, R, T, S, L, x, x, 0, 0, Kd), (fr, to, ln, aw), (f, ca, we, fa, sb, tb), (wk, nw, wo), (k0, k1, k2, k3, k4, k5), RE, BF, BK)) := by
    intro j
    induction j with
    | zero => intro k f h1 h2; omega
    | succ j ih =>
      intro k f h1 h2 hs
      refine la_iload_n K dX0_forget_22 rfl ?_
      refine la_iconst K dX0_forget_23 la_ki_3 ?_
      refine la_icmp_geN K 40 dX0_forget_24 rfl (by omega) (by omega) (fun h24 => ?_) (fun h24 => ?_)
      · exact hret _ _ _ dX0_forget_40 ⟨f, rfl, fun i hi => hs i (by omega)⟩
      · refine la_aload_n K dX0_forget_27 rfl ?_
        refine lb_g_su K q147 dX0_forget_28 ?_
        refine la_iload_n K dX0_forget_31 rfl ?_
        refine la_iconst K dX0_forget_32 la_ki_0 ?_
        refine lb_st_su K (by omega) dX0_forget_33 ?_
        refine la_iinc2 K dX0_forget_34 (la_inc_N _) rfl ?_
        refine la_goto K 22 dX0_forget_37 rfl ?_
        exact ih (k + 1) _ (by omega) (by omega) (lt_s (fun i hi => by rw [va_up_ne _ _ (by omega)]; exact hs i hi) (va_up_self _ _ _))
  refine la_aload_n K dX0_forget_0 rfl ?_
  refine la_iload_n K dX0_forget_1 rfl ?_
  refine lb_p_B K q141 dX0_forget_2 ?_
  refine la_aload_n K dX0_forget_5 rfl ?_
  refine la_iload_n K dX0_forget_6 rfl ?_
  refine lb_p_Nw K q146 dX0_forget_7 ?_
  refine la_aload_n K dX0_forget_10 rfl ?_
  refine la_iconst K dX0_forget_11 la_ki_0 ?_
  refine lb_p_U K q150 dX0_forget_12 ?_
  refine la_aload_n K dX0_forget_15 rfl ?_
  refine la_iconst K dX0_forget_16 la_ki_0 ?_
  refine lb_p_C K q152 dX0_forget_17 ?_
  refine la_iconst K dX0_forget_20 la_ki_0 ?_
  refine la_istore2 K dX0_forget_21 rfl ?_
  exact lp 4 0 _ (by omega) (by omega) (fun i hi => by omega)
theorem lb_end (hL : L ≤ 3) : la_CI ω yX0_end cX0_end 2 (some .int) (la_rm 0) [.ref (ad 0)] (lb_W ω.2.2 ad ((P, R, T, S, L, B, Nw, U, C, Kd), (fr, to, ln, aw), (su, ca, we, fa, sb, tb), (wk, nw, wo), (k0, k1, k2, k3, k4, k5), RE, BF, BK)) (lb_W ω.2.2 ad) (fun (r : Int32) (u : lb_S) => (L = 0 ∧ r = -2 ∧ u = ((P, R, T, S, L, B, Nw, U, C, Kd), (fr, to, ln, aw), (su, ca, we, fa, sb, tb), (wk, nw, wo), (k0, k1, k2, k3, k4, k5), RE, BF, BK)) ∨ (1 ≤ L ∧ r = nI C ∧ u = ((P, R, T, S, 0, B, Nw, U, 0, Kd), (fr, to, ln, aw), (su, ca, we, fa, sb, tb), (wk, nw, wo), (k0, k1, k2, k3, k4, k5), RE, BF, BK))) := by
  refine la_CI_of (by decide) [some (.ref (ad 0)), none] rfl rfl (Nat.le_of_ble_eq_true rfl) ?_
  intro κ K hret
  refine la_aload_n K dX0_end_0 rfl ?_
  refine lb_g_L K q140 dX0_end_1 ?_
  refine la_if_neN K 10 dX0_end_4 rfl (by omega) (fun h4 => ?_) (fun h4 => ?_)
  · refine la_aload_n K dX0_end_10 rfl ?_
    refine lb_g_C K q152 dX0_end_11 ?_
    refine la_istore1 K dX0_end_14 rfl ?_
    refine la_aload_n K dX0_end_15 rfl ?_
    refine la_iconst K dX0_end_16 la_ki_0 ?_
    refine lb_p_L K q140 dX0_end_17 ?_
    refine la_aload_n K dX0_end_20 rfl ?_
    refine la_iconst K dX0_end_21 la_ki_0 ?_
    refine lb_p_C K q152 dX0_end_22 ?_
    refine la_iload_n K dX0_end_25 rfl ?_
    exact hret _ _ _ _ dX0_end_26 (Or.inr ⟨by omega, rfl, rfl⟩)
  · refine la_bipush K dX0_end_7 la_kb_m2 ?_
    exact hret _ _ _ _ dX0_end_9 (Or.inl ⟨h4, rfl, rfl⟩)
theorem lb_stand (hL : L ≤ 3) : la_CP ω yX0_stand cX0_stand 1 (some .int) (la_rm 0) [.ref (ad 0)] (lb_W ω.2.2 ad ((P, R, T, S, L, B, Nw, U, C, Kd), (fr, to, ln, aw), (su, ca, we, fa, sb, tb), (wk, nw, wo), (k0, k1, k2, k3, k4, k5), RE, BF, BK)) (if L = 0 then -2 else nI Nw) := by
  refine la_CI_of (by decide) [some (.ref (ad 0))] rfl rfl (Nat.le_of_ble_eq_true rfl) ?_
  intro κ K hret
  refine la_aload_n K dX0_stand_0 rfl ?_
  refine lb_g_L K q140 dX0_stand_1 ?_
  refine la_if_neN K 12 dX0_stand_4 rfl (by omega) (fun h4 => ?_) (fun h4 => ?_)
  · refine la_aload_n K dX0_stand_12 rfl ?_
    refine lb_g_Nw K q146 dX0_stand_13 ?_
    exact hret _ _ _ () dX0_stand_16 (by rw [if_neg h4])
  · refine la_bipush K dX0_stand_7 la_kb_m2 ?_
    refine la_goto K 16 dX0_stand_9 rfl ?_
    exact hret _ _ _ () dX0_stand_16 (by rw [if_pos h4])
theorem lb_againstCall (x : Int32) (hP : P ≤ 6) (hL : L ≤ 3) (hC : C ≤ 12) : la_CP ω yX0_againstCall cX0_againstCall 2 (some .int) (la_rm 2) [.ref (ad 0), .int x] (lb_W ω.2.2 ad ((P, R, T, S, L, B, Nw, U, C, Kd), (fr, to, ln, aw), (su, ca, we, fa, sb, tb), (wk, nw, wo), (k0, k1, k2, k3, k4, k5), RE, BF, BK)) (if lp_in x P then (if L = 0 then -2 else if C = 12 then -3 else nI 0) else -1) := by
  refine la_CI_of (by decide) [some (.ref (ad 0)), some (.int (x))] rfl rfl (Nat.le_of_ble_eq_true rfl) ?_
  intro κ K hret
  refine la_aload_n K dX0_againstCall_0 rfl ?_
  refine la_iload_n K dX0_againstCall_1 rfl ?_
  refine la_callVp K ok_X0_isPlace q254 (lb_isPlace _ hP) 0 rfl rfl rfl rfl rfl (Nat.le_of_ble_eq_true rfl) ⟨Nat.le_of_ble_eq_true rfl, Nat.le_of_ble_eq_true rfl⟩ ⟨Nat.zero_le _, Nat.zero_le _⟩ dX0_againstCall_2 ?_
  refine la_if_neC K 10 dX0_againstCall_5 rfl (fun h5 => ?_) (fun h5 => ?_)
  · refine la_aload_n K dX0_againstCall_10 rfl ?_
    refine lb_g_L K q140 dX0_againstCall_11 ?_
    refine la_if_neN K 22 dX0_againstCall_14 rfl (by omega) (fun h14 => ?_) (fun h14 => ?_)
    · refine la_aload_n K dX0_againstCall_22 rfl ?_
      refine lb_g_C K q152 dX0_againstCall_23 ?_
      refine la_bipush K dX0_againstCall_26 la_kb_12 ?_
      refine la_icmp_neN K 36 dX0_againstCall_28 rfl (by omega) (by omega) (fun h28 => ?_) (fun h28 => ?_)
      · refine la_iconst K dX0_againstCall_36 la_ki_0 ?_
        exact hret _ _ _ () dX0_againstCall_37 (by rw [if_pos h5, if_neg h14, if_neg h28])
      · refine la_bipush K dX0_againstCall_31 la_kb_m3 ?_
        refine la_goto K 37 dX0_againstCall_33 rfl ?_
        exact hret _ _ _ () dX0_againstCall_37 (by rw [if_pos h5, if_neg h14, if_pos h28])
    · refine la_bipush K dX0_againstCall_17 la_kb_m2 ?_
      refine la_goto K 37 dX0_againstCall_19 rfl ?_
      exact hret _ _ _ () dX0_againstCall_37 (by rw [if_pos h5, if_pos h14])
  · refine la_iconst K dX0_againstCall_8 la_ki_m1 ?_
    exact hret _ _ _ () dX0_againstCall_9 (by rw [if_neg h5])
set_option maxHeartbeats 4000000 in
theorem lb_begin (n s : Int32) (hP : P ≤ 6) (haw : ∀ b, b < P → aw b ≤ 1000000) : la_CI ω yX0_begin cX0_begin 5 (some .int) (la_rm 3) [.ref (ad 0), .int n, .int s] (lb_W ω.2.2 ad ((P, R, T, S, L, B, Nw, U, C, Kd), (fr, to, ln, aw), (su, ca, we, fa, sb, tb), (wk, nw, wo), (k0, k1, k2, k3, k4, k5), RE, BF, BK)) (lb_W ω.2.2 ad) (fun (r : Int32) (u : lb_S) => (¬ lp_bgOk P n s ∧ r = -1 ∧ u = ((P, R, T, S, L, B, Nw, U, C, Kd), (fr, to, ln, aw), (su, ca, we, fa, sb, tb), (wk, nw, wo), (k0, k1, k2, k3, k4, k5), RE, BF, BK)) ∨ (lp_bgOk P n s ∧ (lp_torn0 1000000 P aw) ∧ r = -2 ∧ u = ((P, R, T, S, L, B, Nw, U, C, Kd), (fr, to, ln, aw), (su, ca, we, fa, sb, tb), (wk, nw, wo), (k0, k1, k2, k3, k4, k5), RE, BF, BK)) ∨ (∃ k x, n = nI k ∧ 1 ≤ k ∧ k ≤ 3 ∧ s = nI x ∧ x < 2 ^ 31 ∧ lp_sd P k x ∧ ¬ (lp_torn0 1000000 P aw) ∧ r = nI 1 ∧ ∃ su', u = ((P, R, T, S, k, x, x, 0, 0, Kd), (fr, to, ln, aw), (su', ca, we, fa, sb, tb), (wk, nw, wo), (k0, k1, k2, k3, k4, k5), RE, BF, BK) ∧ ∀ i, i < 3 → su' i = 0)) := by
  refine la_CI_of (by decide) [some (.ref (ad 0)), some (.int (n)), some (.int (s)), none, none] rfl rfl (Nat.le_of_ble_eq_true rfl) ?_
  intro κ K hret
  refine la_iload_n K dX0_begin_0 rfl ?_
  refine la_iconst K dX0_begin_1 la_ki_1 ?_
  refine la_iconst K dX0_begin_2 la_ki_3 ?_
  refine la_callSp K ok_X0_in q258 (lb_in _ _ _ _) rfl rfl rfl (Nat.le_of_ble_eq_true rfl) ⟨Nat.le_of_ble_eq_true rfl, Nat.le_of_ble_eq_true rfl⟩ ⟨Nat.zero_le _, Nat.zero_le _⟩ dX0_begin_3 ?_
  refine la_if_neC K 11 dX0_begin_6 rfl (fun h6 => ?_) (fun h6 => ?_)
  · obtain ⟨k, hk1, hk3, rfl⟩ := lp_inI_N ((lp_intsC n (by decide) (by decide)).mp h6) (by decide)
    refine la_aload_n K dX0_begin_11 rfl ?_
    refine lb_g_L K q140 dX0_begin_12 ?_
    refine la_istore3 K dX0_begin_15 rfl ?_
    refine la_aload_n K dX0_begin_16 rfl ?_
    refine la_iload_n K dX0_begin_17 rfl ?_
    refine lb_p_L K q140 dX0_begin_18 ?_
    refine la_aload_n K dX0_begin_21 rfl ?_
    refine la_iload_n K dX0_begin_22 rfl ?_
    refine la_callVp K ok_X0_isStand q277 (lb_isStand _ hk3 hP) 0 rfl rfl rfl rfl rfl (Nat.le_of_ble_eq_true rfl) ⟨Nat.le_of_ble_eq_true rfl, Nat.le_of_ble_eq_true rfl⟩ ⟨Nat.zero_le _, Nat.zero_le _⟩ dX0_begin_23 ?_
    refine la_istore4 K dX0_begin_26 rfl ?_
    refine la_aload_n K dX0_begin_28 rfl ?_
    refine la_iload_n K dX0_begin_29 rfl ?_
    refine lb_p_L K q140 dX0_begin_30 ?_
    refine la_iload K dX0_begin_33 rfl ?_
    refine la_if_neB K 40 dX0_begin_35 rfl (fun h35 => ?_) (fun h35 => ?_)
    · obtain ⟨x, rfl, hx2, hx3⟩ := h35
      refine la_aload_n K dX0_begin_40 rfl ?_
      refine la_callVp K ok_X0_areTorn q284 (lb_areTorn hP haw) 0 rfl rfl rfl rfl rfl (Nat.le_of_ble_eq_true rfl) ⟨Nat.le_of_ble_eq_true rfl, Nat.le_of_ble_eq_true rfl⟩ ⟨Nat.zero_le _, Nat.zero_le _⟩ dX0_begin_41 ?_
      refine la_if_eqB K 50 dX0_begin_44 rfl (fun h44 => ?_) (fun h44 => ?_)
      · refine la_aload_n K dX0_begin_50 rfl ?_
        refine la_iload_n K dX0_begin_51 rfl ?_
        refine lb_p_L K q140 dX0_begin_52 ?_
        refine la_aload_n K dX0_begin_55 rfl ?_
        refine la_iload_n K dX0_begin_56 rfl ?_
        refine la_callVv0 K ok_X0_forget q288 lb_forget 0 rfl rfl rfl rfl rfl (Nat.le_of_ble_eq_true rfl) ⟨Nat.le_of_ble_eq_true rfl, Nat.le_of_ble_eq_true rfl⟩ ⟨Nat.zero_le _, Nat.zero_le _⟩ dX0_begin_57 (fun u57 p57 => ?_)
        obtain ⟨su1, rfl, hsu1⟩ := p57
        refine la_iconst K dX0_begin_60 la_ki_1 ?_
        exact hret _ _ _ _ dX0_begin_61 (Or.inr (Or.inr ⟨k, x, rfl, hk1, hk3, rfl, hx2, hx3, h44, rfl, _, rfl, hsu1⟩))
      · refine la_bipush K dX0_begin_47 la_kb_m2 ?_
        exact hret _ _ _ _ dX0_begin_49 (Or.inr (Or.inl ⟨⟨k, x, rfl, hk1, hk3, rfl, hx2, hx3⟩, h44, rfl, rfl⟩))
    · refine la_iconst K dX0_begin_38 la_ki_m1 ?_
      exact hret _ _ _ _ dX0_begin_39 (Or.inl ⟨fun ⟨k', x, e1, e2, e3, e4, e5, e6⟩ => h35 ⟨x, e4, e5, by rw [(nI_eq (by omega) (by omega)).mp e1]; exact e6⟩, rfl, rfl⟩)
  · refine la_iconst K dX0_begin_9 la_ki_m1 ?_
    exact hret _ _ _ _ dX0_begin_10 (Or.inl ⟨fun ⟨k, x, e1, e2, e3, _⟩ => h6 ((lp_intsC n (by decide) (by decide)).mpr (by rw [e1]; exact (lp_inI_nI (by omega)).mpr ⟨e2, e3⟩)), rfl, rfl⟩)
set_option maxHeartbeats 4000000 in
theorem lb_moves (s t : Int32) (hP : P ≤ 6) (hL3 : L ≤ 3) (hd6 : 1 ≤ L → ∀ a b, a < P → b < P → aw (6 * a + b) ≤ 6400) : la_CP ω yX0_moves cX0_moves 3 (some .int) (la_rm 5) [.ref (ad 0), .int s, .int t] (lb_W ω.2.2 ad ((P, R, T, S, L, B, Nw, U, C, Kd), (fr, to, ln, aw), (su, ca, we, fa, sb, tb), (wk, nw, wo), (k0, k1, k2, k3, k4, k5), RE, BF, BK)) (if L = 0 then -2 else @ite _ (lp_st P L s ∧ lp_st P L t) (Classical.propDecidable _) (nI (lp_mo 1000000 L aw s.toNatClampNeg t.toNatClampNeg L 0 0)) (-1)) := by
  refine la_CI_of (by decide) [some (.ref (ad 0)), some (.int (s)), some (.int (t))] rfl rfl (Nat.le_of_ble_eq_true rfl) ?_
  intro κ K hret
  refine la_aload_n K dX0_moves_0 rfl ?_
  refine lb_g_L K q140 dX0_moves_1 ?_
  refine la_if_neN K 10 dX0_moves_4 rfl (by omega) (fun h4 => ?_) (fun h4 => ?_)
  · refine la_aload_n K dX0_moves_10 rfl ?_
    refine la_iload_n K dX0_moves_11 rfl ?_
    refine la_callVp K ok_X0_isStand q277 (lb_isStand _ hL3 hP) 0 rfl rfl rfl rfl rfl (Nat.le_of_ble_eq_true rfl) ⟨Nat.le_of_ble_eq_true rfl, Nat.le_of_ble_eq_true rfl⟩ ⟨Nat.zero_le _, Nat.zero_le _⟩ dX0_moves_12 ?_
    refine la_if_eqB K 37 dX0_moves_15 rfl (fun h15 => ?_) (fun h15 => ?_)
    · refine la_iconst K dX0_moves_37 la_ki_m1 ?_
      exact hret _ _ _ () dX0_moves_38 (by rw [if_neg h4, if_neg (fun z => h15 z.1)])
    · refine la_aload_n K dX0_moves_18 rfl ?_
      refine la_iload_n K dX0_moves_19 rfl ?_
      refine la_callVp K ok_X0_isStand q277 (lb_isStand _ hL3 hP) 0 rfl rfl rfl rfl rfl (Nat.le_of_ble_eq_true rfl) ⟨Nat.le_of_ble_eq_true rfl, Nat.le_of_ble_eq_true rfl⟩ ⟨Nat.zero_le _, Nat.zero_le _⟩ dX0_moves_20 ?_
      refine la_if_eqB K 37 dX0_moves_23 rfl (fun h23 => ?_) (fun h23 => ?_)
      · refine la_iconst K dX0_moves_37 la_ki_m1 ?_
        exact hret _ _ _ () dX0_moves_38 (by rw [if_neg h4, if_neg (fun z => h23 z.2)])
      · have hL1 : 1 ≤ L := by omega
        obtain ⟨a, rfl, ha, g1⟩ := id h15
        obtain ⟨b, rfl, hb, g2⟩ := id h23
        have hd6 := hd6 hL1
        refine la_aload_n K dX0_moves_26 rfl ?_
        refine la_iload_n K dX0_moves_27 rfl ?_
        refine la_iload_n K dX0_moves_28 rfl ?_
        refine la_iconst K dX0_moves_29 la_ki_0 ?_
        refine la_iconst K dX0_moves_30 la_ki_0 ?_
        refine la_callVp K ok_X0_movesOf q380 (lb_movesOf hP hL1 hL3 hd6 g1 g2) 0 rfl rfl rfl rfl rfl (Nat.le_of_ble_eq_true rfl) ⟨Nat.le_of_ble_eq_true rfl, Nat.le_of_ble_eq_true rfl⟩ ⟨Nat.zero_le _, Nat.zero_le _⟩ dX0_moves_31 ?_
        refine la_goto K 38 dX0_moves_34 rfl ?_
        exact hret _ _ _ () dX0_moves_38 (by rw [if_neg h4, if_pos ⟨h15, h23⟩, nI_clamp ha, nI_clamp hb])
  · refine la_bipush K dX0_moves_7 la_kb_m2 ?_
    exact hret _ _ _ () dX0_moves_9 (by rw [if_pos h4])
end LC3
