/-! PURE PART 15: moving and work, the component's way and the model's way. -/
section LPX
variable {L P B : Nat} {d cp : Nat → Nat}
/-- the costs of moving, as sets -/
def lp_mz (L : Nat) (d : Nat → Nat) (s t : Nat) : Nat → Nat → Nat → Nat → Prop
  | 0, _, _, u => u = 0
  | f + 1, tk, q, u => ∃ l, l < L ∧ tk / 2 ^ l % 2 = 0 ∧ ∃ v, lp_mz L d s t f (tk + 2 ^ l) (q + 1) v ∧ u = lp_D d s q t l + v
theorem lp_mo_mz (I : Nat) (s t : Nat) : ∀ f tk q, lp_mn I (lp_mz L d s t f tk q) (lp_mo I L d s t f tk q) := by
  intro f
  induction f with
  | zero => intro tk q; exact ⟨Nat.zero_le _, fun u _ => Nat.zero_le _, Or.inr rfl⟩
  | succ f ih =>
    intro tk q
    have h := lp_min_mn I (fun u => ∃ l, l < L ∧ tk / 2 ^ l % 2 = 0 ∧ u = lp_D d s q t l + lp_mo I L d s t f (tk + 2 ^ l) (q + 1))
    rw [show lp_min I (fun u => ∃ l, l < L ∧ tk / 2 ^ l % 2 = 0 ∧ u = lp_D d s q t l + lp_mo I L d s t f (tk + 2 ^ l) (q + 1)) = lp_mo I L d s t (f + 1) tk q from rfl] at h
    refine ⟨h.1, ?_, ?_⟩
    · rintro u ⟨l, h1, h2, v, h3, rfl⟩
      exact Nat.le_trans (h.2.1 _ ⟨l, h1, h2, rfl⟩) (Nat.add_le_add_left ((ih _ _).2.1 v h3) _)
    · rcases h.2.2 with e | ⟨l, h1, h2, e⟩
      · exact Or.inl e
      · rcases (ih (tk + 2 ^ l) (q + 1)).2.2 with e2 | e2
        · left
          have := h.1
          omega
        · exact Or.inr ⟨l, h1, h2, _, e2, e⟩
theorem lp_mz_MQ (hL1 : 1 ≤ L) (hL : L ≤ 3) (s t u : Nat) : lp_mz L d s t L 0 0 u ↔ lp_MQ L d s t u := by
  have h3 : L = 1 ∨ L = 2 ∨ L = 3 := by omega
  rcases h3 with rfl | rfl | rfl
  · unfold lp_MQ
    rw [if_pos rfl]
    constructor
    · rintro ⟨l, h1, -, v, h2, rfl⟩
      have : l = 0 := by omega
      subst this
      have : v = 0 := h2
      omega
    · intro h
      exact ⟨0, by decide, by decide, 0, rfl, by omega⟩
  · unfold lp_MQ
    rw [if_neg (by decide)]
    constructor
    · rintro ⟨a, h1, -, v, ⟨b, h2, h3, w, h4, rfl⟩, rfl⟩
      have h4 : w = 0 := h4
      refine ⟨a, b, h1, h2, fun e => ?_, by unfold lp_mq; rw [if_neg (by decide), h4]; rfl⟩
      subst e
      have : a = 0 ∨ a = 1 := by omega
      rcases this with rfl | rfl
      · exact absurd h3 (by decide)
      · exact absurd h3 (by decide)
    · rintro ⟨a, b, h1, h2, h3, rfl⟩
      refine ⟨a, h1, by simp, _, ⟨b, h2, ?_, 0, rfl, rfl⟩, by unfold lp_mq; rw [if_neg (by decide)]; rfl⟩
      have : (a = 0 ∧ b = 1) ∨ (a = 1 ∧ b = 0) := by omega
      rcases this with ⟨rfl, rfl⟩ | ⟨rfl, rfl⟩ <;> decide
  · unfold lp_MQ
    rw [if_neg (by decide)]
    constructor
    · rintro ⟨a, h1, -, v, ⟨b, h2, h3, w, ⟨c, h4, h5, z, h6, rfl⟩, rfl⟩, rfl⟩
      have h6 : z = 0 := h6
      have key : ∀ a b c : Fin 3, (0 + 2 ^ a.val) / 2 ^ b.val % 2 = 0 → (0 + 2 ^ a.val + 2 ^ b.val) / 2 ^ c.val % 2 = 0 → ¬ a.val = b.val ∧ c.val = 3 - a.val - b.val := by decide +kernel
      obtain ⟨k1, k2⟩ := key ⟨a, h1⟩ ⟨b, h2⟩ ⟨c, h4⟩ h3 h5
      refine ⟨a, b, h1, h2, k1, ?_⟩
      have k2 : c = 3 - a - b := k2
      subst k2
      unfold lp_mq
      rw [if_pos rfl, h6]
      exact (Nat.add_assoc _ _ _).symm
    · rintro ⟨a, b, h1, h2, h3, rfl⟩
      have key : ∀ a b : Fin 3, ¬ a.val = b.val → (0 + 2 ^ a.val) / 2 ^ b.val % 2 = 0 ∧ (0 + 2 ^ a.val + 2 ^ b.val) / 2 ^ (3 - a.val - b.val) % 2 = 0 ∧ 3 - a.val - b.val < 3 := by decide +kernel
      obtain ⟨k1, k2, k3⟩ := key ⟨a, h1⟩ ⟨b, h2⟩ h3
      refine ⟨a, h1, by simp, _, ⟨b, h2, k1, _, ⟨3 - a - b, k3, k2, 0, rfl, rfl⟩, rfl⟩, ?_⟩
      unfold lp_mq
      rw [if_pos rfl, Nat.add_assoc]
      rfl
theorem lp_mo_mn (I : Nat) (hL1 : 1 ≤ L) (hL : L ≤ 3) (s t : Nat) : lp_mn I (lp_MQ L d s t) (lp_mo I L d s t L 0 0) := lp_mn_congr (lp_mo_mz I s t L 0 0) (lp_mz_MQ hL1 hL s t)
theorem lp_mo_eq (hL1 : 1 ≤ L) (hL : L ≤ 3) {s t : Nat} (hs : lp_sd P L s) (ht : lp_sd P L t) (hd : ∀ a b, a < P → b < P → d (6 * a + b) ≤ 6400) : lp_mo 1000000 L d s t L 0 0 = lp_min 100000000 (lp_MQ L d s t) := by
  obtain ⟨u, h1, h2⟩ := lp_MQ_some hL1 hL hs ht hd
  exact lp_mn_I (lp_mo_mn 1000000 hL1 hL s t) (lp_min_mn 100000000 _) u h1 (by omega) (by omega)
/-- ladder q goes to place sg of the other stand -/
def lp_sg (a b q : Nat) : Nat := if q = 0 then a else if q = 1 then b else 3 - a - b
theorem lp_ex {s x r l a b : Nat} (hL1 : ¬ L = 1) (hL : L ≤ 3) (hs : s < 512) (hx : x < 512) (hr : r < 8) (ha : a < L) (hb : b < L) (hab : ¬ a = b) (hl : l < L) :
    lp_mq L d s (lp_mv x (lp_sg a b l) r) a b + d (6 * r + lp_dg x (lp_sg a b l)) = d (6 * lp_dg s l + r) + lp_mq L d (lp_mv s l r) x a b := by
  have x00 : lp_dg (lp_mv x 0 r) 0 = r := lp_dg_mv hx (by decide) hr
  have x11 : lp_dg (lp_mv x 1 r) 1 = r := lp_dg_mv hx (by decide) hr
  have x22 : lp_dg (lp_mv x 2 r) 2 = r := lp_dg_mv hx (by decide) hr
  have x01 : lp_dg (lp_mv x 0 r) 1 = lp_dg x 1 := lp_dg_mv_ne hx (by decide) (by decide) hr (by decide)
  have x02 : lp_dg (lp_mv x 0 r) 2 = lp_dg x 2 := lp_dg_mv_ne hx (by decide) (by decide) hr (by decide)
  have x10 : lp_dg (lp_mv x 1 r) 0 = lp_dg x 0 := lp_dg_mv_ne hx (by decide) (by decide) hr (by decide)
  have x12 : lp_dg (lp_mv x 1 r) 2 = lp_dg x 2 := lp_dg_mv_ne hx (by decide) (by decide) hr (by decide)
  have x20 : lp_dg (lp_mv x 2 r) 0 = lp_dg x 0 := lp_dg_mv_ne hx (by decide) (by decide) hr (by decide)
  have x21 : lp_dg (lp_mv x 2 r) 1 = lp_dg x 1 := lp_dg_mv_ne hx (by decide) (by decide) hr (by decide)
  have s00 : lp_dg (lp_mv s 0 r) 0 = r := lp_dg_mv hs (by decide) hr
  have s11 : lp_dg (lp_mv s 1 r) 1 = r := lp_dg_mv hs (by decide) hr
  have s22 : lp_dg (lp_mv s 2 r) 2 = r := lp_dg_mv hs (by decide) hr
  have s01 : lp_dg (lp_mv s 0 r) 1 = lp_dg s 1 := lp_dg_mv_ne hs (by decide) (by decide) hr (by decide)
  have s02 : lp_dg (lp_mv s 0 r) 2 = lp_dg s 2 := lp_dg_mv_ne hs (by decide) (by decide) hr (by decide)
  have s10 : lp_dg (lp_mv s 1 r) 0 = lp_dg s 0 := lp_dg_mv_ne hs (by decide) (by decide) hr (by decide)
  have s12 : lp_dg (lp_mv s 1 r) 2 = lp_dg s 2 := lp_dg_mv_ne hs (by decide) (by decide) hr (by decide)
  have s20 : lp_dg (lp_mv s 2 r) 0 = lp_dg s 0 := lp_dg_mv_ne hs (by decide) (by decide) hr (by decide)
  have s21 : lp_dg (lp_mv s 2 r) 1 = lp_dg s 1 := lp_dg_mv_ne hs (by decide) (by decide) hr (by decide)
  have hLc : L = 2 ∨ L = 3 := by omega
  have g0 : lp_sg a b 0 = a := rfl
  have g1 : lp_sg a b 1 = b := rfl
  have g2 : lp_sg a b 2 = 3 - a - b := rfl
  rcases hLc with rfl | rfl
  · have hc : (a = 0 ∧ b = 1) ∨ (a = 1 ∧ b = 0) := by omega
    have hl2 : l = 0 ∨ l = 1 := by omega
    rcases hc with ⟨rfl, rfl⟩ | ⟨rfl, rfl⟩ <;> rcases hl2 with rfl | rfl <;>
      simp only [g0, g1, lp_mq, lp_D, x00, x11, x01, x10, s00, s11, s01, s10, if_neg (show ¬ (2 : Nat) = 3 by decide)] <;> omega
  · have hc : (a = 0 ∧ b = 1) ∨ (a = 0 ∧ b = 2) ∨ (a = 1 ∧ b = 0) ∨ (a = 1 ∧ b = 2) ∨ (a = 2 ∧ b = 0) ∨ (a = 2 ∧ b = 1) := by omega
    have hl2 : l = 0 ∨ l = 1 ∨ l = 2 := by omega
    have t1 : 3 - 0 - 1 = 2 := rfl
    have t2 : 3 - 0 - 2 = 1 := rfl
    have t3 : 3 - 1 - 0 = 2 := rfl
    have t4 : 3 - 1 - 2 = 0 := rfl
    have t5 : 3 - 2 - 0 = 1 := rfl
    have t6 : 3 - 2 - 1 = 0 := rfl
    rcases hc with ⟨rfl, rfl⟩ | ⟨rfl, rfl⟩ | ⟨rfl, rfl⟩ | ⟨rfl, rfl⟩ | ⟨rfl, rfl⟩ | ⟨rfl, rfl⟩ <;> rcases hl2 with rfl | rfl | rfl <;>
      simp only [g0, g1, g2, lp_mq, lp_D, t1, t2, t3, t4, t5, t6, x00, x11, x22, x01, x02, x10, x12, x20, x21, s00, s11, s22, s01, s02, s10, s12, s20, s21, ↓reduceIte] <;> omega
theorem lp_sg_lt {a b l : Nat} (hL : L ≤ 3) (ha : a < L) (hb : b < L) (hab : ¬ a = b) (hl : l < L) : lp_sg a b l < L := by
  unfold lp_sg
  split
  · exact ha
  · split
    · exact hb
    · omega
theorem lp_sg_on {a b l : Nat} (hL : L ≤ 3) (hL1 : ¬ L = 1) (ha : a < L) (hb : b < L) (hab : ¬ a = b) (hl : l < L) : ∃ q, q < L ∧ lp_sg a b q = l := by
  by_cases h0 : l = a
  · exact ⟨0, by omega, by rw [h0]; rfl⟩
  by_cases h1 : l = b
  · exact ⟨1, by omega, by rw [h1]; rfl⟩
  · refine ⟨2, by omega, ?_⟩
    show 3 - a - b = l
    omega
/-- one more call, at either end: the same costs -/
theorem lp_ex_set {s x r u : Nat} (hL1 : 1 ≤ L) (hL : L ≤ 3) (hs : s < 512) (hx : x < 512) (hr : r < 8) : (∃ l, l < L ∧ ∃ v, lp_MQ L d s (lp_mv x l r) v ∧ u = v + d (6 * r + lp_dg x l)) ↔ (∃ l, l < L ∧ ∃ v, lp_MQ L d (lp_mv s l r) x v ∧ u = d (6 * lp_dg s l + r) + v) := by
  by_cases h1 : L = 1
  · subst h1
    unfold lp_MQ
    simp only [if_pos rfl]
    constructor
    · rintro ⟨l, h, v, rfl, rfl⟩
      have : l = 0 := by omega
      subst this
      refine ⟨0, by decide, _, rfl, ?_⟩
      simp only [lp_D, lp_dg_mv hx (show 0 < 3 by decide) hr, lp_dg_mv hs (show 0 < 3 by decide) hr]
    · rintro ⟨l, h, v, rfl, rfl⟩
      have : l = 0 := by omega
      subst this
      refine ⟨0, by decide, _, rfl, ?_⟩
      simp only [lp_D, lp_dg_mv hx (show 0 < 3 by decide) hr, lp_dg_mv hs (show 0 < 3 by decide) hr]
  · unfold lp_MQ
    simp only [if_neg h1]
    constructor
    · rintro ⟨l, h, v, ⟨a, b, ha, hb, hab, rfl⟩, rfl⟩
      obtain ⟨q, hq, e⟩ := lp_sg_on hL h1 ha hb hab h
      subst e
      exact ⟨q, hq, _, ⟨a, b, ha, hb, hab, rfl⟩, lp_ex h1 hL hs hx hr ha hb hab hq⟩
    · rintro ⟨q, hq, v, ⟨a, b, ha, hb, hab, rfl⟩, rfl⟩
      exact ⟨lp_sg a b q, lp_sg_lt hL ha hb hab hq, _, ⟨a, b, ha, hb, hab, rfl⟩, (lp_ex h1 hL hs hx hr ha hb hab hq).symm⟩
/-- the costs of a row of calls and a move behind them, from the end, and from the start -/
def lp_Z (L : Nat) (d : Nat → Nat) (B : Nat) (cp : Nat → Nat) : Nat → Nat → Nat → Prop
  | 0, x, u => lp_MQ L d B x u
  | i + 1, x, u => ∃ l, l < L ∧ ∃ v, lp_Z L d B cp i (lp_mv x l (cp i)) v ∧ u = v + d (6 * cp i + lp_dg x l)
def lp_Rw (L : Nat) (d : Nat → Nat) (B : Nat) (cp : Nat → Nat) : Nat → Nat → Nat → Prop
  | 0, s, w => s = B ∧ w = 0
  | i + 1, t, w => ∃ s l v, l < L ∧ lp_Rw L d B cp i s v ∧ lp_mv s l (cp i) = t ∧ w = v + d (6 * lp_dg s l + cp i)
theorem lp_Rw_lt (hL : L ≤ 3) (hB : B < 512) : ∀ i, (∀ j, j < i → cp j < 8) → ∀ s w, lp_Rw L d B cp i s w → s < 512 := by
  intro i
  induction i with
  | zero => rintro _ s w ⟨rfl, _⟩; exact hB
  | succ i ih =>
    rintro hc s w ⟨s', l, v, h1, h2, rfl, _⟩
    exact lp_mv_lt (ih (fun j hj => hc j (by omega)) s' v h2) (by omega) (hc i (by omega))
theorem lp_Z_Rw (hL1 : 1 ≤ L) (hL : L ≤ 3) (hB : B < 512) : ∀ i, (∀ j, j < i → cp j < 8) → ∀ x u, x < 512 → (lp_Z L d B cp i x u ↔ ∃ s w v, lp_Rw L d B cp i s w ∧ lp_MQ L d s x v ∧ u = w + v) := by
  intro i
  induction i with
  | zero =>
    intro _ x u _
    constructor
    · intro h; exact ⟨B, 0, u, ⟨rfl, rfl⟩, h, by omega⟩
    · rintro ⟨s, w, v, ⟨rfl, rfl⟩, h, rfl⟩
      show lp_MQ L d s x (0 + v)
      rw [Nat.zero_add]; exact h
  | succ i ih =>
    intro hc x u hx
    have hr : cp i < 8 := hc i (by omega)
    have hc' : ∀ j, j < i → cp j < 8 := fun j hj => hc j (by omega)
    constructor
    · rintro ⟨l, h1, v, h2, rfl⟩
      obtain ⟨s, w, m, h3, h4, rfl⟩ := (ih hc' _ _ (lp_mv_lt hx (by omega) hr)).mp h2
      have hs := lp_Rw_lt hL hB i hc' s w h3
      obtain ⟨q, hq, v', h5, h6⟩ := (lp_ex_set (u := m + d (6 * cp i + lp_dg x l)) hL1 hL hs hx hr).mp ⟨l, h1, m, h4, rfl⟩
      exact ⟨_, w + d (6 * lp_dg s q + cp i), v', ⟨s, q, w, hq, h3, rfl, rfl⟩, h5, by omega⟩
    · rintro ⟨t, w, v, ⟨s, q, w', hq, h3, rfl, rfl⟩, h5, rfl⟩
      have hs := lp_Rw_lt hL hB i hc' s w' h3
      obtain ⟨l, h1, m, h4, h6⟩ := (lp_ex_set (u := d (6 * lp_dg s q + cp i) + v) hL1 hL hs hx hr).mpr ⟨q, hq, v, h5, rfl⟩
      exact ⟨l, h1, w' + m, (ih hc' _ _ (lp_mv_lt hx (by omega) hr)).mpr ⟨s, w', m, h3, h4, rfl⟩, by omega⟩
theorem lp_rw_Rw (hL : L ≤ 3) (hB : B < 512) : ∀ i, (∀ j, j < i → cp j < 8) → ∀ s, lp_mn 100000000 (lp_Rw L d B cp i s) (lp_rw L d B cp i s) := by
  intro i
  induction i with
  | zero =>
    intro _ s
    show lp_mn 100000000 _ (if s = B then 0 else 100000000)
    by_cases e : s = B
    · rw [if_pos e]; exact ⟨Nat.zero_le _, fun u _ => Nat.zero_le _, Or.inr ⟨e, rfl⟩⟩
    · rw [if_neg e]; exact lp_mn_0 (fun u h => e h.1)
  | succ i ih =>
    intro hc t
    have hc' : ∀ j, j < i → cp j < 8 := fun j hj => hc j (by omega)
    have h := lp_min_mn 100000000 (lp_SQ L d (cp i) (lp_rw L d B cp i) t)
    rw [show lp_min 100000000 (lp_SQ L d (cp i) (lp_rw L d B cp i) t) = lp_rw L d B cp (i + 1) t from rfl] at h
    refine ⟨h.1, ?_, ?_⟩
    · rintro u ⟨s, l, v, h1, h2, rfl, rfl⟩
      have hs := lp_Rw_lt hL hB i hc' s v h2
      have hv := (ih hc' s).2.1 v h2
      by_cases e : lp_rw L d B cp i s < 100000000
      · have := h.2.1 _ ⟨s, l, hs, h1, e, rfl, rfl⟩
        omega
      · have := h.1
        omega
    · rcases h.2.2 with e | ⟨s, l, h1, h2, h3, h4, e⟩
      · exact Or.inl e
      · rcases (ih hc' s).2.2 with e2 | e2
        · omega
        · exact Or.inr ⟨s, l, _, h2, e2, h4, e⟩
theorem lp_wm_mn (hL : L ≤ 3) (hB : B < 512) {i x : Nat} (hc : ∀ j, j < i → cp j < 8) : lp_mn 100000000 (fun u => ∃ s w v, lp_Rw L d B cp i s w ∧ lp_MQ L d s x v ∧ u = w + v) (lp_wm L d (lp_rw L d B cp i) x) := by
  have h := lp_min_mn 100000000 (lp_WQ L d (lp_rw L d B cp i) x 512)
  rw [show lp_min 100000000 (lp_WQ L d (lp_rw L d B cp i) x 512) = lp_wm L d (lp_rw L d B cp i) x from rfl] at h
  refine ⟨h.1, ?_, ?_⟩
  · rintro u ⟨s, w, v, h1, h2, rfl⟩
    have hs := lp_Rw_lt hL hB i hc s w h1
    have hw := (lp_rw_Rw (d := d) hL hB i hc s).2.1 w h1
    have hv := (lp_min_mn 100000000 (lp_MQ L d s x)).2.1 v h2
    by_cases e : lp_rw L d B cp i s < 100000000
    · have := h.2.1 _ ⟨s, hs, e, rfl⟩
      omega
    · have := h.1
      omega
  · rcases h.2.2 with e | ⟨s, h1, h2, e⟩
    · exact Or.inl e
    · rcases (lp_rw_Rw (d := d) hL hB i hc s).2.2 with e2 | e2
      · omega
      · rcases (lp_min_mn 100000000 (lp_MQ L d s x)).2.2 with e3 | e3
        · left
          have := h.1
          omega
        · exact Or.inr ⟨s, _, _, e2, e3, e⟩
theorem lp_wc_mn (hP : P ≤ 6) (hL1 : 1 ≤ L) (hL : L ≤ 3) : ∀ i, (∀ j, j < i → cp j < P) → ∀ x, lp_sd P L x → lp_mn 1000000 (lp_Z L d B cp i x) (lp_wc P L d B cp i x) := by
  intro i
  induction i with
  | zero =>
    intro _ x hx
    rw [lp_wc_0 hx]
    exact lp_mo_mn 1000000 hL1 hL B x
  | succ i ih =>
    intro hc x hx
    have hc' : ∀ j, j < i → cp j < P := fun j hj => hc j (by omega)
    have e0 : lp_wc P L d B cp (i + 1) x = lp_min 1000000 (fun u => ∃ l, l < L ∧ u = lp_wc P L d B cp i (lp_mv x l (cp i)) + d (6 * cp i + lp_dg x l)) := by
      rw [lp_wc, if_pos hx]
    have h := lp_min_mn 1000000 (fun u => ∃ l, l < L ∧ u = lp_wc P L d B cp i (lp_mv x l (cp i)) + d (6 * cp i + lp_dg x l))
    rw [← e0] at h
    refine ⟨h.1, ?_, ?_⟩
    · rintro u ⟨l, h1, v, h2, rfl⟩
      exact Nat.le_trans (h.2.1 _ ⟨l, h1, rfl⟩) (Nat.add_le_add_right ((ih hc' _ (lp_sd_mv hx hL h1 (hc i (by omega)) hP)).2.1 v h2) _)
    · rcases h.2.2 with e | ⟨l, h1, e⟩
      · exact Or.inl e
      · rcases (ih hc' _ (lp_sd_mv hx hL h1 (hc i (by omega)) hP)).2.2 with e2 | e2
        · left
          have := h.1
          omega
        · exact Or.inr ⟨l, h1, _, e2, e⟩
/-- THE WORK: both ways give the same -/
theorem lp_work (hP : P ≤ 6) (hL1 : 1 ≤ L) (hL : L ≤ 3) (hB : lp_sd P L B) (hd : ∀ a b, a < P → b < P → d (6 * a + b) ≤ 6400) {i : Nat} (hi : i ≤ 100) (hc : ∀ j, j < i → cp j < P) {x : Nat} (hx : lp_sd P L x) : lp_wc P L d B cp i x = lp_wm L d (lp_rw L d B cp i) x := by
  have hc8 : ∀ j, j < i → cp j < 8 := fun j hj => Nat.lt_of_lt_of_le (hc j hj) (by omega)
  have hB5 := lp_sd_lt hB hL
  have hx5 := lp_sd_lt hx hL
  have h1 := lp_mn_congr (lp_wc_mn (d := d) (B := B) hP hL1 hL i hc x hx) (fun u => lp_Z_Rw hL1 hL hB5 i hc8 x u hx5)
  have h2 := lp_wm_mn (d := d) (x := x) hL hB5 hc8
  have h3 := lp_wm_small (x := x) hP hL1 hL hB hc hd (Nat.le_refl i) hi hx
  rcases h2.2.2 with e | e
  · omega
  · exact lp_mn_I h1 h2 _ e (by omega) (by omega)
theorem lp_MQ_self (hL1 : 1 ≤ L) (hL : L ≤ 3) (hg : ∀ a, a < P → d (6 * a + a) = 0) {s : Nat} (hs : lp_sd P L s) : lp_MQ L d s s 0 := by
  have e : ∀ q, q < L → lp_D d s q s q = 0 := fun q hq => hg _ (hs.2 q hq)
  unfold lp_MQ
  split
  · exact (e 0 (by omega)).symm
  · refine ⟨0, 1, by omega, by omega, by decide, ?_⟩
    unfold lp_mq
    split
    · rw [e 0 (by omega), e 1 (by omega), show 3 - 0 - 1 = 2 from rfl, e 2 (by omega)]
    · rw [e 0 (by omega), e 1 (by omega)]
/-- THE LEAST: both ways give the same -/
theorem lp_least (hP : P ≤ 6) (hL1 : 1 ≤ L) (hL : L ≤ 3) (hB : lp_sd P L B) (hd : ∀ a b, a < P → b < P → d (6 * a + b) ≤ 6400) (hg : ∀ a, a < P → d (6 * a + a) = 0) {i : Nat} (hi : i ≤ 100) (hc : ∀ j, j < i → cp j < P) : lp_min 1000000 (lp_LQ (lp_wc P L d B cp i) (2 ^ (3 * L))) = lp_lo L d B cp i := by
  have hc8 : ∀ j, j < i → cp j < 8 := fun j hj => Nat.lt_of_lt_of_le (hc j hj) (by omega)
  have hB5 := lp_sd_lt hB hL
  have h1 := lp_min_mn 1000000 (lp_LQ (lp_wc P L d B cp i) (2 ^ (3 * L)))
  have h2 := lp_min_mn 100000000 (lp_LQ (lp_rw L d B cp i) 512)
  obtain ⟨s0, hs0, hr0⟩ := lp_rw_reach hP hL1 hL hB hc hd i (Nat.le_refl i) hi
  have hv := h2.2.1 _ ⟨s0, lp_sd_lt hs0 hL, rfl⟩
  show _ = lp_min 100000000 (lp_LQ (lp_rw L d B cp i) 512)
  apply Nat.le_antisymm
  · rcases h2.2.2 with e | ⟨s, hs, e⟩
    · omega
    · have hsd := lp_rw_stand (d := d) hP hL hB hc i (Nat.le_refl i) s (by omega)
      have hw := lp_work hP hL1 hL hB hd hi hc hsd
      have hm := lp_wm_mn (d := d) (x := s) hL hB5 hc8
      have hR : lp_Rw L d B cp i s (lp_rw L d B cp i s) := by
        rcases (lp_rw_Rw (d := d) hL hB5 i hc8 s).2.2 with e2 | e2
        · omega
        · exact e2
      have h3 := hm.2.1 _ ⟨s, _, 0, hR, lp_MQ_self hL1 hL hg hsd, rfl⟩
      have h4 := h1.2.1 _ ⟨s, hsd.1, rfl⟩
      omega
  · rcases h1.2.2 with e | ⟨x, hx, e⟩
    · omega
    · by_cases hsd : lp_sd P L x
      · have hw := lp_work hP hL1 hL hB hd hi hc hsd
        have h3 := lp_wm_small (x := x) hP hL1 hL hB hc hd (Nat.le_refl i) hi hsd
        rcases (lp_wm_mn (d := d) (x := x) hL hB5 hc8).2.2 with e2 | ⟨s, w, v, hR, -, e2⟩
        · omega
        · have h4 := (lp_rw_Rw (d := d) hL hB5 i hc8 s).2.1 w hR
          have h5 := h2.2.1 _ ⟨s, lp_Rw_lt hL hB5 i hc8 s w hR, rfl⟩
          omega
      · have := lp_wc_out (d := d) (B := B) (cp := cp) (i := i) hsd
        omega
/-- the work of the rule that looks ahead, in the component's words -/
theorem lp_ahead (hP : P ≤ 6) (hL1 : 1 ≤ L) (hL : L ≤ 3) (hB : lp_sd P L B) (hd : ∀ a b, a < P → b < P → d (6 * a + b) ≤ 6400) {C p x k : Nat} (hC : C ≤ 12) (hc : ∀ j, j < C → cp j < P) (hp : p < P) (hx : lp_sd P L x) (hk : k < L) : d (6 * lp_dg x k + p) + lp_wc P L d B (va_up cp C p) (C + 1) (lp_mv x k p) = lp_ahf L d p (lp_rw L d B cp C) x (lp_dg x) k := by
  have hc' : ∀ j, j < C + 1 → va_up cp C p j < P := fun j hj => by
    by_cases e : j = C
    · subst e; rw [va_up_self]; exact hp
    · rw [va_up_ne _ _ e]; exact hc j (by omega)
  rw [lp_work hP hL1 hL hB hd (by omega) hc' (lp_sd_mv hx hL hk hp hP)]
  unfold lp_ahf
  have e : lp_rw L d B (va_up cp C p) (C + 1) = lp_sv L d p (lp_rw L d B cp C) := by
    rw [lp_rw, va_up_self, ← lp_rw_congr (cp := cp) (C := C) (fun i hi => (va_up_ne _ _ (by omega)).symm) C (Nat.le_refl C)]
  rw [e]
  omega
end LPX
