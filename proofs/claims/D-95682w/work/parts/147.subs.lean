/-! Differences of numbers against 0. -/
theorem sub_le0 {a b : Nat} (h : a ≤ b) (hb : b < 2 ^ 20) : nI a - nI b ≤ 0 := by
  rw [Int32.le_iff_toInt_le, Int32.toInt_sub, nI_toInt (by omega), nI_toInt (by omega), Jvm.Kit.bmod32 (by omega) (by omega)]
  show (a : Int) - (b : Int) ≤ 0
  omega
theorem sub_gt0 {a b : Nat} (h : b < a) (hb : a < 2 ^ 20) : ¬ nI a - nI b ≤ 0 := by
  rw [Int32.le_iff_toInt_le, Int32.toInt_sub, nI_toInt (by omega), nI_toInt (by omega), Jvm.Kit.bmod32 (by omega) (by omega)]
  show ¬ (a : Int) - (b : Int) ≤ 0
  omega
theorem oar_re (k0 n N N2 : Nat) (f g : Nat → Int32) : aset (oar k0 n N f) k0 (n, N2, .inl g) = oar k0 n N2 g := by
  funext i
  unfold aset oar
  by_cases h : i = k0
  · rw [if_pos h, if_pos h]
  · rw [if_neg h, if_neg h, if_neg h]
theorem sbV_up (x y : Int32) : upd (sbV x) 3 y = sbV y := by
  funext i
  unfold upd sbV
  by_cases h : i = 3
  · rw [if_pos h, if_pos h]
  · rw [if_neg h, if_neg h, if_neg h]
theorem nar_all : ∀ j : Fin 128, vp_nar .byte (nI j.val).toInt8.toInt32 = nI j.val := by decide +kernel
theorem nar_b {x : Int32} (hx : 0 ≤ x ∧ x ≤ 127) : vp_nar .byte x.toInt8.toInt32 = x := by
  obtain ⟨j, hj, rfl⟩ := in_nI (N := 127) (by decide) rfl hx
  exact nar_all ⟨j, by omega⟩
