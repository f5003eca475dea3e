/-! The list of movers grows. -/
set_option maxRecDepth 100000
theorem lar_set (f : Nat → Option Nat) (h : Nat → Option Nat) : aset (lar f) 1 (5, 10, .inr (.inr (.inr (.inr h)))) = lar h := by
  funext k
  by_cases e : k = 1
  · subst e; rfl
  · rw [aset_n e]; unfold lar; rw [if_neg e, if_neg e]
theorem lar_new : aset aNo 1 (5, 10, .inr (.inr (.inr (.inr (fun _ => none))))) = lar (fun _ => none) := by
  funext k
  by_cases e : k = 1
  · subst e; rfl
  · rw [aset_n e]; unfold lar aNo; rw [if_neg e]
theorem mv_asg {D : va_G} {ac : Nat → ClassId} {A : Nat → Prop} {κ : Nat → Nat} {s : State} (hK : KZ D ac A κ s) {kd : Nat} (h1 : 1 ≤ kd) (h5 : kd ≤ 5) {r : vw_C} (hr : vwCl[8 + kd]? = some r) : ∀ comp c0 : ClassId, s.vm.findClass "java/lang/Object" = some comp → s.vm.findClass r.1 = some c0 → s.vm.assignable c0 comp = true := by
  intro comp c0 hc hr0
  rcases (show kd = 1 ∨ kd = 2 ∨ kd = 3 ∨ kd = 4 ∨ kd = 5 by omega) with rfl | rfl | rfl | rfl | rfl
  · obtain rfl := Option.some.inj hr
    obtain ⟨c3, cT, a1, a2, a3⟩ := Cond.castable_spec (va_Nw.use (A := #[]) rfl (hK.1.2.1 _ q1687 rfl))
    cases hr0.symm.trans a1; cases hc.symm.trans a2; exact a3
  · obtain rfl := Option.some.inj hr
    obtain ⟨c3, cT, a1, a2, a3⟩ := Cond.castable_spec (va_Nw.use (A := #[]) rfl (hK.1.2.1 _ q1688 rfl))
    cases hr0.symm.trans a1; cases hc.symm.trans a2; exact a3
  · obtain rfl := Option.some.inj hr
    obtain ⟨c3, cT, a1, a2, a3⟩ := Cond.castable_spec (va_Nw.use (A := #[]) rfl (hK.1.2.1 _ q1689 rfl))
    cases hr0.symm.trans a1; cases hc.symm.trans a2; exact a3
  · obtain rfl := Option.some.inj hr
    obtain ⟨c3, cT, a1, a2, a3⟩ := Cond.castable_spec (va_Nw.use (A := #[]) rfl (hK.1.2.1 _ q1690 rfl))
    cases hr0.symm.trans a1; cases hc.symm.trans a2; exact a3
  · obtain rfl := Option.some.inj hr
    obtain ⟨c3, cT, a1, a2, a3⟩ := Cond.castable_spec (va_Nw.use (A := #[]) rfl (hK.1.2.1 _ q1691 rfl))
    cases hr0.symm.trans a1; cases hc.symm.trans a2; exact a3
theorem mv_row {kd : Nat} (h1 : 1 ≤ kd) (h5 : kd ≤ 5) : ∃ r : vw_C, vwCl[8 + kd]? = some r := by
  rcases (show kd = 1 ∨ kd = 2 ∨ kd = 3 ∨ kd = 4 ∨ kd = 5 by omega) with rfl | rfl | rfl | rfl | rfl <;> exact ⟨_, rfl⟩
