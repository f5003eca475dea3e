/-! super.mark lands in the default: out of what the start says. -/
set_option maxRecDepth 100000
theorem pigeon : ∀ (N : Nat) (f : Nat → Nat), (∀ i, i ≤ N → f i < N) → ∃ i j, i < j ∧ j ≤ N ∧ f i = f j := by
  intro N
  induction N with
  | zero => intro f h; exact absurd (h 0 (Nat.le_refl 0)) (by omega)
  | succ N ih =>
    intro f h
    by_cases hx : ∃ i, i ≤ N ∧ f i = f (N + 1)
    · obtain ⟨i, hi, e⟩ := hx
      exact ⟨i, N + 1, by omega, by omega, e⟩
    · have hn : ∀ i, i ≤ N → f i ≠ f (N + 1) := fun i hi e => hx ⟨i, hi, e⟩
      have hl := h (N + 1) (Nat.le_refl _)
      obtain ⟨i, j, hij, hj, e⟩ := ih (fun i => if f i = N then f (N + 1) else f i) (fun i hi => by
        show (if f i = N then f (N + 1) else f i) < N
        have h1 := h i (by omega)
        have h2 := hn i hi
        split <;> omega)
      refine ⟨i, j, hij, by omega, ?_⟩
      have e : (if f i = N then f (N + 1) else f i) = (if f j = N then f (N + 1) else f j) := e
      have h1 := hn i (by omega)
      have h2 := hn j hj
      split at e <;> split at e <;> omega
/-- n classes up -/
def upC (vm : Vm) : Nat → ClassId → Option ClassId
  | 0, c => some c
  | n + 1, c => (vm.classes[c]?.bind (·.super)).bind (upC vm n)
theorem upC_add (vm : Vm) (b : Nat) : ∀ (a : Nat) (c : ClassId), upC vm (a + b) c = (upC vm a c).bind (upC vm b) := by
  intro a
  induction a with
  | zero => intro c; rw [Nat.zero_add]; rfl
  | succ a ih =>
    intro c
    rw [show a + 1 + b = (a + b) + 1 by omega, upC, upC]
    cases vm.classes[c]?.bind (·.super) with
    | none => rfl
    | some q => exact ih q
theorem upC_lt {vm : Vm} {a : Nat} {c q : ClassId} (h : upC vm (a + 1) c = some q) : ∃ x, upC vm a c = some x ∧ x < vm.classes.size := by
  rw [upC_add vm 1 a c] at h
  cases hx : upC vm a c with
  | none => rw [hx] at h; cases h
  | some x =>
    rw [hx] at h
    refine ⟨x, rfl, ?_⟩
    rcases Nat.lt_or_ge x vm.classes.size with g | g
    · exact g
    · exfalso
      have : (vm.classes[x]?.bind (·.super)).bind (upC vm 0) = some q := h
      rw [Array.getElem?_eq_none g] at this
      cases this
theorem upC_all {vm : Vm} {c q : ClassId} : ∀ (n : Nat), upC vm n c = some q → ∀ i, i ≤ n → ∃ x, upC vm i c = some x := by
  intro n h i hi
  rw [show n = i + (n - i) by omega, upC_add] at h
  cases hx : upC vm i c with
  | none => rw [hx] at h; cases h
  | some x => exact ⟨x, rfl⟩
theorem upC_back {vm : Vm} {c q : ClassId} (h : upC vm (vm.classes.size + 1) c = some q) : ∃ i, i ≤ vm.classes.size ∧ upC vm i c = some q := by
  have hall : ∀ i, ∃ x, i ≤ vm.classes.size → upC vm i c = some x ∧ x < vm.classes.size := by
    intro i
    by_cases hi : i ≤ vm.classes.size
    · obtain ⟨y, hy⟩ := upC_all _ h (i + 1) (by omega)
      obtain ⟨x, h1, h2⟩ := upC_lt hy
      exact ⟨x, fun _ => ⟨h1, h2⟩⟩
    · exact ⟨0, fun h => absurd h hi⟩
  obtain ⟨f, hf⟩ := Classical.axiomOfChoice hall
  obtain ⟨i, j, hij, hj, e⟩ := pigeon vm.classes.size f (fun i hi => (hf i hi).2)
  refine ⟨i + (vm.classes.size + 1 - j), by omega, ?_⟩
  rw [show vm.classes.size + 1 = j + (vm.classes.size + 1 - j) by omega, upC_add, (hf j hj).1] at h
  rw [upC_add, (hf i (by omega)).1, e]
  exact h
theorem look_none {vm : Vm} {name desc : String} : ∀ (n : Nat) (c : ClassId), lookupInSuperclasses vm name desc n c = none → ∀ j, j < n → ∀ q, upC vm j c = some q → ownMethod vm name desc q = none := by
  intro n
  induction n with
  | zero => intro c _ j hj; omega
  | succ n ih =>
    intro c h j hj q hq
    unfold lookupInSuperclasses at h
    cases hk : vm.classes[c]? with
    | none =>
      cases j with
      | zero => cases hq; simp [ownMethod, hk]
      | succ j => rw [upC, hk] at hq; cases hq
    | some k =>
      simp only [hk, Option.bind_eq_bind, Option.bind_some] at h
      cases hf : k.findMethod name desc with
      | some i => simp [hf] at h
      | none =>
        simp only [hf] at h
        cases j with
        | zero => cases hq; simp [ownMethod, hk, hf]
        | succ j =>
          rw [upC, hk] at hq
          cases hs : k.super with
          | none => simp [hs] at hq
          | some p =>
            simp only [hs, Option.bind_some] at h hq
            exact ih p h j (by omega) q hq
theorem aux_up {vm : Vm} : ∀ (n : Nat) (c q : ClassId), q ∈ vm.superclassesAux n c → ∃ j, j ≤ n ∧ upC vm j c = some q := by
  intro n
  induction n with
  | zero => intro c q h; simp [Vm.superclassesAux] at h
  | succ n ih =>
    intro c q h
    unfold Vm.superclassesAux at h
    split at h
    · next p hp =>
      rcases List.mem_cons.mp h with e | e
      · exact ⟨1, by omega, by rw [upC, hp, e]; rfl⟩
      · obtain ⟨j, h1, h2⟩ := ih p q e
        exact ⟨j + 1, by omega, by rw [upC, hp]; exact h2⟩
    · cases h
theorem sup_none {vm : Vm} {name desc : String} {c : ClassId} (h : lookupInSuperclasses vm name desc (vm.classes.size + 1) c = none) : ownMethod vm name desc c = none ∧ superclassMethods vm c name desc = [] := by
  have key : ∀ j, j ≤ vm.classes.size + 1 → ∀ q, upC vm j c = some q → ownMethod vm name desc q = none := by
    intro j hj q hq
    by_cases e : j = vm.classes.size + 1
    · subst e
      obtain ⟨i, hi, h1⟩ := upC_back hq
      exact look_none _ c h i (by omega) q h1
    · exact look_none _ c h j (by omega) q hq
  refine ⟨key 0 (by omega) c rfl, ?_⟩
  unfold superclassMethods
  refine List.filterMap_eq_nil_iff.mpr (fun q hq => ?_)
  obtain ⟨j, h1, h2⟩ := aux_up _ _ _ hq
  exact key j h1 q h2
theorem selS_none {vm : Vm} {mR : MethodId} {name desc : String} : ∀ (n : Nat) (c : ClassId), lookupInSuperclasses vm name desc n c = none → selectInSuperclasses vm mR name desc n c = none := by
  intro n
  induction n with
  | zero => intro c _; rfl
  | succ n ih =>
    intro c h
    unfold lookupInSuperclasses at h
    unfold selectInSuperclasses
    cases hk : vm.classes[c]? with
    | none => rfl
    | some k =>
      simp only [hk, Option.bind_eq_bind, Option.bind_some] at h ⊢
      cases hf : k.findMethod name desc with
      | some i => simp [hf] at h
      | none =>
        simp only [hf] at h
        cases hs : k.super with
        | none => simp
        | some p =>
          simp only [hs, Option.bind_some] at h
          simp [ih p h]
/-- the lookup of invokespecial finds what is selected, where resolution finds it -/
theorem special_of {vm : Vm} {c : ClassId} {k : Class} {m : MethodId} {meth : Method} {name desc : String} (hk : vm.classes[c]? = some k) (hni : k.isInterface = false) (hup : vm.lookupUp c name desc = some m) (hm : vm.method? m = some meth) (hn : meth.name = name) (hd : meth.desc = desc) (hst : meth.isStatic = false) (hpr : meth.isPrivate = false) (hsel : selectMethod {} vm c m = .method m) : lookupSpecial vm c name desc = .method m := by
  cases hl : lookupInSuperclasses vm name desc (vm.classes.size + 1) c with
  | some x =>
    have : x = m := by simpa [Vm.lookupUp, hl] using hup
    subst this
    exact lookupSpecial_of_superclasses hk hni hl hm hst
  | none =>
    obtain ⟨h1, h2⟩ := sup_none hl
    have h1' : (vm.classes[c]?.bind (·.findMethod name desc)).map (fun i => (⟨c, i⟩ : MethodId)) = none := h1
    have hr : refusedOverriding {} vm c name desc = false := by
      unfold refusedOverriding
      simp only [h1', h2]
      rfl
    unfold selectMethod at hsel
    simp only [hm, hpr, hn, hd, hr, selS_none _ _ hl, Bool.false_eq_true, if_false, Bool.false_and] at hsel
    unfold lookupSpecial
    simp only [h1', h2, Option.toList_none, List.filter_nil, List.append_nil, List.find?_nil]
    exact hsel
