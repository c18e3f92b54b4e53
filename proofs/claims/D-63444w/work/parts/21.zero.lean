/-! new arrays -/
theorem z_int (N : Nat) (cA : ClassId) : vp_cell cA (N, .inl (nA (fun _ => 0))) = arrV cA N (fun _ => defaultValue .int) := by
  rw [vp_cell_i]; exact congrArg (arrV cA N) (funext fun _ => rfl)
theorem z_char (N : Nat) (cA : ClassId) : vp_cell cA (N, .inl (nA (fun _ => 0))) = arrV cA N (fun _ => defaultValue .char) := by
  rw [vp_cell_i]; exact congrArg (arrV cA N) (funext fun _ => rfl)
theorem z_boolean (N : Nat) (cA : ClassId) : vp_cell cA (N, .inl (bA (fun _ => false))) = arrV cA N (fun _ => defaultValue .boolean) := by
  rw [vp_cell_i]; exact congrArg (arrV cA N) (funext fun _ => rfl)
theorem z_long (N : Nat) (cA : ClassId) : vp_cell cA (N, .inr (.inl (fun _ => 0))) = arrV cA N (fun _ => defaultValue .long) := by
  rw [vp_cell_l]; exact congrArg (arrV cA N) (funext fun _ => rfl)
