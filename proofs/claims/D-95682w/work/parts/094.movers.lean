/-! Movers, and the list of them. -/
set_option maxRecDepth 100000
/-- a mover of kind kd (1 .. 5) -/
abbrev mvU (kd : Nat) (mv : Nat → Int32) : gU := cU (8 + kd) mv (fun _ => 0) aNo
/-- an ArrayList -/
abbrev lsU (mc : Int32) (ea : Nat) (z : Int32) (ar : gA) : gU := .inr (8, [.int mc, .ref ea, .int z], ar)
def lar (f : Nat → Option Nat) : gA := fun k => if k = 1 then some (5, 10, .inr (.inr (.inr (.inr f)))) else none
/-- at la lies a list of n movers, of kinds kd, with numbers mv -/
def mvs (κ : Nat → Nat) (O : gO) (la n : Nat) (kd : Nat → Nat) (mv : Nat → Nat → Int32) : Prop :=
  ∃ (mc : Int32) (ea : Nat) (f : Nat → Option Nat) (ar : gA), O la = some (lsU mc ea (nI n) ar) ∧ n ≤ 5 ∧ (n = 0 → ea = κ 0 ∧ ar = aNo) ∧ (0 < n → ar = lar f) ∧ ∀ j, j < n → 1 ≤ kd j ∧ kd j ≤ 5 ∧ ∃ q, f j = some q ∧ O q = some (mvU (kd j) (mv j))
/-- O1 keeps lists and movers -/
def kpM (O O1 : gO) : Prop := ∀ (a ci : Nat) (fs : List Value) (ar : gA), 8 ≤ ci → O a = some (.inr (ci, fs, ar)) → O1 a = some (.inr (ci, fs, ar))
theorem kpM.rf {O : gO} : kpM O O := fun _ _ _ _ _ h => h
theorem kpM.tr {O O1 O2 : gO} (h : kpM O O1) (h2 : kpM O1 O2) : kpM O O2 := fun a ci fs ar h8 h0 => h2 a ci fs ar h8 (h a ci fs ar h8 h0)
theorem kpM.up {O : gO} {a ci : Nat} {fs : List Value} {ar : gA} {u : gU} (ha : O a = some (.inr (ci, fs, ar))) (hc : ci < 8) : kpM O (oup O a u) := by
  intro b cj fs' ar' h8 hb
  by_cases h : b = a
  · subst h
    rw [ha] at hb
    simp only [Option.some.injEq, Sum.inr.injEq, Prod.mk.injEq] at hb
    omega
  · rw [oup_n h]; exact hb
theorem kpM.new {O : gO} {a : Nat} {u : gU} (ha : O a = none) : kpM O (oup O a u) := by
  intro b cj fs' ar' h8 hb
  by_cases h : b = a
  · subst h; rw [ha] at hb; cases hb
  · rw [oup_n h]; exact hb
theorem mvs.kp {κ : Nat → Nat} {O O1 : gO} {la n : Nat} {kd : Nat → Nat} {mv : Nat → Nat → Int32} (h : mvs κ O la n kd mv) (hk : kpM O O1) : mvs κ O1 la n kd mv := by
  obtain ⟨mc, ea, f, ar, h1, h2, h3, h4, h5⟩ := h
  refine ⟨mc, ea, f, ar, hk la 8 _ _ (by omega) h1, h2, h3, h4, fun j hj => ?_⟩
  obtain ⟨g1, g2, q, g3, g4⟩ := h5 j hj
  exact ⟨g1, g2, q, g3, hk q _ _ _ (by omega) g4⟩
/-- a unit of one class lies elsewhere than one of another -/
theorem o_ne {O : gO} {a b ci cj : Nat} {fs fs' : List Value} {ar ar' : gA} (ha : O a = some (.inr (ci, fs, ar))) (hb : O b = some (.inr (cj, fs', ar'))) (h : ci ≠ cj) : a ≠ b := by
  intro e
  subst e
  rw [ha] at hb
  simp only [Option.some.injEq, Sum.inr.injEq, Prod.mk.injEq] at hb
  exact h hb.1
