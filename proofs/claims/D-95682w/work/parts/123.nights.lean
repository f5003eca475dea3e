/-! Nights told by all who are there. -/
set_option maxRecDepth 100000
theorem kpM3 {O : gO} {x y z c1 c2 c3 : Nat} {f1 f2 f3 : List Value} {a1 a2 a3 : gA} {u1 u2 u3 : gU} (h1 : O x = some (.inr (c1, f1, a1))) (h2 : O y = some (.inr (c2, f2, a2))) (h3 : O z = some (.inr (c3, f3, a3))) (l1 : c1 < 8) (l2 : c2 < 8) (l3 : c3 < 8) : kpM O (oup (oup (oup O z u3) y u2) x u1) := by
  intro q ci fs ar h8 hq
  rw [oup_n (o_ne hq h1 (by omega)), oup_n (o_ne hq h2 (by omega)), oup_n (o_ne hq h3 (by omega))]
  exact hq
theorem wpp (w : Nat → Nat → Int32) (a b c d : Nat → Int32) : wput (wput (wput (wput w 12 a) 6 b) 12 c) 6 d = wput (wput w 12 c) 6 d := by
  funext i
  unfold wput
  by_cases h6 : i = 6
  · simp [h6]
  · by_cases h12 : i = 12 <;> simp [h6, h12]
theorem allbit {mm m : Nat} (h : m < mm) (h5 : mm ≤ 5) : (((1 : Int32) <<< (nI mm &&& 31) - 1) >>> (nI m &&& 31)) &&& 1 = 1 := by
  have key : ∀ a : Fin 6, ∀ b : Fin 5, b.val < a.val → (((1 : Int32) <<< (nI a.val &&& 31) - 1) >>> (nI b.val &&& 31)) &&& 1 = 1 := by decide
  exact key ⟨mm, by omega⟩ ⟨m, by omega⟩ h
theorem bit31 {m : Nat} (h5 : m < 5) : ((31 : Int32) >>> (nI m &&& 31)) &&& 1 = 1 := by
  have key : ∀ b : Fin 5, ((31 : Int32) >>> (nI b.val &&& 31)) &&& 1 = 1 := by decide
  exact key ⟨m, h5⟩
theorem goF_all {ro : Nat → Int32} {n nt mm : Nat} {f : Nat → Int32} (h5 : mm ≤ 5) : ∀ m, m ≤ mm → goF ro n nt ((1 : Int32) <<< (nI mm &&& 31) - 1) f m = goF ro n nt 31 f m := by
  intro m
  induction m with
  | zero => intro _; rfl
  | succ m ih =>
    intro h
    rw [goF_t (allbit (by omega) h5), goF_t (bit31 (by omega)), ih (by omega)]
theorem or_zero_bit {k : Nat} (h : k < 6) (x : Int32) : ¬ x ||| (1 : Int32) <<< (nI k &&& 31) = 0 := by
  intro e
  have e2 : ((1 : Int32) <<< (nI k &&& 31)) &&& (x ||| (1 : Int32) <<< (nI k &&& 31)) = 0 := by rw [e]; exact Int32.and_zero
  have key : ∀ b : Fin 6, ¬ (1 : Int32) <<< (nI b.val &&& 31) = 0 := by decide
  have e3 : ∀ a b : Int32, a &&& (b ||| a) = a := fun a b => by
    rw [← Int32.toBitVec_inj]
    simp only [Int32.toBitVec_and, Int32.toBitVec_or]
    ext i hi
    simp
    intro h1
    exact Or.inr h1
  rw [e3] at e2
  exact key ⟨k, h⟩ e2
theorem difL_0 {f g : Nat → Int32} : ∀ n, n ≤ 6 → (difL f g n = 0 ↔ eqL f g n = true) := by
  intro n
  induction n with
  | zero => intro _; simp [difL, eqL]
  | succ n ih =>
    intro h
    have ih := ih (by omega)
    rw [difL, eqL]
    by_cases hq : f n = g n
    · rw [if_pos hq, Int32.or_zero, ih]
      simp [hq]
    · rw [if_neg hq]
      constructor
      · intro e
        exact absurd e (or_zero_bit (k := n) (by omega) _)
      · intro e
        simp [hq] at e
