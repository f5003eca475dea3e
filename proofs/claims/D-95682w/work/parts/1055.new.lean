/-! New units' own arrays. -/
theorem rar_new : aset (aset (aset (aset (aset aNo 5 (0, 6, .inl (fun _ => 0))) 6 (0, 6, .inl (fun _ => 0))) 7 (0, 6, .inl (fun _ => 0))) 10 (0, 48, .inl (fun _ => 0))) 12 (0, 6, .inl (fun _ => 0)) = rar (fun _ _ => 0) := by
  funext k
  by_cases h12 : k = 12
  · subst h12; rfl
  by_cases h10 : k = 10
  · subst h10; rfl
  by_cases h7 : k = 7
  · subst h7; rfl
  by_cases h6 : k = 6
  · subst h6; rfl
  by_cases h5 : k = 5
  · subst h5; rfl
  rw [aset_n h12, aset_n h10, aset_n h7, aset_n h6, aset_n h5]
  unfold rar aNo
  rw [if_pos]
  unfold rln
  split <;> first | rfl | (exfalso; simp_all)
