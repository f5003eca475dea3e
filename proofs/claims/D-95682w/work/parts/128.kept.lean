/-! What stands after a keep. -/
set_option maxRecDepth 100000
theorem keepP.kp {O O1 : gO} {no : Nat} {cv : Nat → Int32} {ad : Nat → Nat} {g : Nat → Nat → Option Nat} {cw : Nat → Nat → Int32} {rx : Nat → Int32} {rd : Nat → Nat} {rw : Nat → Nat → Int32} {a : Nat} (h : keepP O no cv ad g cw rx rd rw a O1) {b ci : Nat} {fs : List Value} {ar : gA} (hb : O b = some (.inr (ci, fs, ar))) (hno : b ≠ no) (h1 : ci ≠ 1 ∨ b = ad 4) : O1 b = some (.inr (ci, fs, ar)) := by
  obtain ⟨a1, f1, pq, pd, pw, O', e1, e2, e3, e4, e5, e6, e7, e8⟩ := h
  have hbq : b ≠ pq := by
    intro e
    subst e
    rcases e8 with ⟨_, _, ⟨v, d, w, h3⟩, h4⟩ | h3
    · rcases h1 with h1 | h1
      · rw [h3] at hb
        simp only [rdU, cU, Option.some.injEq, Sum.inr.injEq, Prod.mk.injEq] at hb
        exact h1 hb.1.symm
      · exact h4 h1
    · rw [h3] at hb; cases hb
  rw [e3, oup_n hno]
  exact e7 b _ hb hbq
theorem keepP.no {O O1 : gO} {no : Nat} {cv : Nat → Int32} {ad : Nat → Nat} {g : Nat → Nat → Option Nat} {cw : Nat → Nat → Int32} {rx : Nat → Int32} {rd : Nat → Nat} {rw : Nat → Nat → Int32} {a : Nat} (h : keepP O no cv ad g cw rx rd rw a O1) : ∃ (cv1 : Nat → Int32) (g1 : Nat → Nat → Option Nat), O1 no = some (nsU cv1 ad g1 cw) := by
  obtain ⟨a1, f1, pq, pd, pw, O', e1, e2, e3, e4, e5, e6, e7, e8⟩ := h
  exact ⟨_, _, by rw [e3]; exact oup_s _ _ _⟩
theorem keepP.kpM {O O1 : gO} {no : Nat} {cv : Nat → Int32} {ad : Nat → Nat} {g : Nat → Nat → Option Nat} {cw : Nat → Nat → Int32} {rx : Nat → Int32} {rd : Nat → Nat} {rw : Nat → Nat → Int32} {a : Nat} (h : keepP O no cv ad g cw rx rd rw a O1) (hN : O no = some (nsU cv ad g cw)) : kpM O O1 := by
  intro b ci fs ar h8 hb
  exact h.kp hb (o_ne hb hN (by omega)) (Or.inl (by omega))
