/-! The component's arrays, new. -/
set_option maxRecDepth 100000
theorem nar_new : aset (aset (aset (aset (aset aNo 0 (3, 8, .inr (.inr (.inr (.inr (fun _ => none)))))) 1 (1, 400, .inl (fun _ => 0))) 6 (4, 24, .inr (.inr (.inr (.inr (fun _ => none)))))) 8 (4, 2, .inr (.inr (.inr (.inr (fun _ => none)))))) 11 (0, 49, .inl (fun _ => 0)) = nar (fun _ _ => none) (fun _ _ => 0) := by
  funext k
  by_cases h11 : k = 11
  · subst h11; rfl
  by_cases h8 : k = 8
  · subst h8; rfl
  by_cases h6 : k = 6
  · subst h6; rfl
  by_cases h1 : k = 1
  · subst h1; rfl
  by_cases h0 : k = 0
  · subst h0; rfl
  rw [aset_n h11, aset_n h8, aset_n h6, aset_n h1, aset_n h0]
  unfold nar aNo
  split <;> first | rfl | contradiction
