/-! a new reference -/
theorem hgI_z : hgI (fun _ => 0) = fun _ _ => 0 := by
  funext c w; unfold hgI; split <;> rfl
