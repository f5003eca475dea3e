/-! Findings and faults as units. -/
abbrev fnU (x : Int32) : gU := .inr (4, [.null, .null, .null, .null, .null, .int 0, .int x], aNo)
abbrev ftU (k x : Int32) : gU := .inr (7, [.null, .null, .null, .null, .null, .int 0, .int k, .int x], aNo)
theorem va_Zq.val {C n d : String} {A : Nat → Prop} {U : State} {H : Heap} (h : va_Zq C n d A U H) : ∃ x : Value, (x = .null ∨ ∃ t, x = .ref t) ∧ va_Z C n d x A U H := by
  rcases h with h | ⟨t, h⟩
  · exact ⟨_, Or.inl rfl, h⟩
  · exact ⟨_, Or.inr ⟨t, rfl⟩, h⟩
