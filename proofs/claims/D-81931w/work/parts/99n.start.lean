/-! THE STATES AT THE START. -/
theorem lb_J_σ0 : lb_J lb_σ0 := by
  show lb_Jx 0 0 0 0 0 0 0 0 (fun _ => 0) (fun _ => 0) (fun _ => 0) (fun _ => 0) (fun _ => 0) (fun _ => 0) (fun _ => 0) (fun _ => 0) (fun _ => 0) (fun _ => 0)
  exact ⟨by omega, by omega, fun k hk => by omega, by omega, by omega, by omega, fun _ => rfl, fun a b ha => by omega, fun h => by omega⟩
theorem lm_BR_none {so br : Nat → Nat} {rs : Nat → Int32} {ce : Nat → Int64} : lm_BR (fun _ => none) (fun _ => 0) so br rs ce := fun k _ => ⟨fun _ => rfl, fun s n rows h => by cases h⟩
