/-! JOINT LEMMAS, part 6: congruence of roads and calls out of books. -/
section LJ6
variable {P L : Nat}
theorem lp_cls_congr {d d' : Nat → Nat} {B Kd : Nat} {c : Nat → Int64} (hP : P ≤ 6) (hL : L ≤ 3) (hB : lp_sd P L B) (hd : ∀ a b, a < P → b < P → d (6 * a + b) = d' (6 * a + b)) : ∀ j i C (cp cl ck cp' cl' ck' : Nat → Nat) (T : Int64), (∀ q, q < C → cp q = cp' q) → (∀ q, q < C → cl q = cl' q) → (∀ q, q < C → ck q = ck' q) → (∀ q, q < C → cp q < P) → (∀ q, q < C → cl q < L) →
    (lp_cls P L d B Kd c j i C cp cl ck T).1 = (lp_cls P L d' B Kd c j i C cp' cl' ck' T).1 ∧ (lp_cls P L d B Kd c j i C cp cl ck T).2.1 = (lp_cls P L d' B Kd c j i C cp' cl' ck' T).2.1 ∧ (lp_cls P L d B Kd c j i C cp cl ck T).2.2.1 = (lp_cls P L d' B Kd c j i C cp' cl' ck' T).2.2.1 ∧ (lp_cls P L d B Kd c j i C cp cl ck T).2.2.2.2.2.2 = (lp_cls P L d' B Kd c j i C cp' cl' ck' T).2.2.2.2.2.2 ∧
    ∀ q, q < (lp_cls P L d B Kd c j i C cp cl ck T).2.2.1 → (lp_cls P L d B Kd c j i C cp cl ck T).2.2.2.1 q = (lp_cls P L d' B Kd c j i C cp' cl' ck' T).2.2.2.1 q ∧ (lp_cls P L d B Kd c j i C cp cl ck T).2.2.2.2.1 q = (lp_cls P L d' B Kd c j i C cp' cl' ck' T).2.2.2.2.1 q ∧ (lp_cls P L d B Kd c j i C cp cl ck T).2.2.2.2.2.1 q = (lp_cls P L d' B Kd c j i C cp' cl' ck' T).2.2.2.2.2.1 q
  | 0, i, C, cp, cl, ck, cp', cl', ck', T, h1, h2, h3, _, _ => by
    rw [lp_cls, lp_cls]
    exact ⟨rfl, rfl, rfl, rfl, fun q hq => ⟨h1 q hq, h2 q hq, h3 q hq⟩⟩
  | j + 1, i, C, cp, cl, ck, cp', cl', ck', T, h1, h2, h3, h4, h5 => by
    by_cases g1 : 0 ≤ (c i).toInt ∧ (c i).toInt < (P : Int)
    · by_cases g2 : L = 0
      · rw [lp_cls_no g1 g2, lp_cls_no g1 g2]
        exact ⟨rfl, rfl, rfl, rfl, fun q hq => ⟨h1 q hq, h2 q hq, h3 q hq⟩⟩
      · by_cases g3 : C = 12
        · rw [lp_cls_full g1 g2 g3, lp_cls_full g1 g2 g3]
          exact ⟨rfl, rfl, rfl, rfl, fun q hq => ⟨h1 q hq, h2 q hq, h3 q hq⟩⟩
        · rw [lp_cls_go g1 g2 g3, lp_cls_go g1 g2 g3]
          have hp : (c i).toInt.toNat < P := by omega
          have e1 : lp_cho L d B cp cl ck C Kd (c i).toInt.toNat = lp_cho L d' B cp' cl' ck' C Kd (c i).toInt.toNat := (lp_cho_d hd hP (by omega) hL hB h4 h5 hp).trans (lp_cho_congr h1 h2 h3)
          have e2 : lp_sn B cp cl C = lp_sn B cp' cl' C := lp_sn_congr h1 h2 C (Nat.le_refl _)
          rw [e1, e2]
          have up : ∀ (f f' : Nat → Nat) (v : Nat), (∀ q, q < C → f q = f' q) → ∀ q, q < C + 1 → va_up f C v q = va_up f' C v q := by
            intro f f' v hf q hq
            by_cases e : q = C
            · subst e; rw [va_up_self, va_up_self]
            · rw [va_up_ne _ _ e, va_up_ne _ _ e]; exact hf q (by omega)
          have ub : ∀ (f : Nat → Nat) (v M : Nat), (∀ q, q < C → f q < M) → v < M → ∀ q, q < C + 1 → va_up f C v q < M := by
            intro f v M hf hv q hq
            by_cases e : q = C
            · subst e; rw [va_up_self]; exact hv
            · rw [va_up_ne _ _ e]; exact hf q (by omega)
          refine lp_cls_congr hP hL hB hd j (i + 1) (C + 1) _ _ _ _ _ _ _ (up _ _ _ h1) (up _ _ _ h2) (up _ _ _ h3) (ub _ _ _ h4 hp) (ub _ _ _ h5 ?_)
          rw [← e1]
          exact lp_cho_lt (by omega)
    · rw [lp_cls_bad g1, lp_cls_bad g1]
      exact ⟨rfl, rfl, rfl, rfl, fun q hq => ⟨h1 q hq, h2 q hq, h3 q hq⟩⟩
end LJ6
