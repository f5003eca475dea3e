/-! Kept ahead of an act, whichever way. -/
set_option maxRecDepth 100000
def keepP (O : gO) (no : Nat) (cv : Nat → Int32) (ad : Nat → Nat) (g : Nat → Nat → Option Nat) (cw : Nat → Nat → Int32) (rx : Nat → Int32) (rd : Nat → Nat) (rw : Nat → Nat → Int32) (a : Nat) (O1 : gO) : Prop :=
  ∃ (a1 : Nat) (f1 : Nat → Option Nat) (pq : Nat) (pd : Nat → Nat) (pw : Nat → Nat → Int32) (O' : gO), a1 = (if a = 24 then 23 else a) ∧ f1 = (if a = 24 then rotK (g 6) 23 else g 6) ∧
    O1 = oup O' no (nsU (upd cv 7 (nI (a1 + 1))) ad (gput g 6 (va_up f1 a1 (some pq))) cw) ∧ O' pq = some (rdU rx pd pw) ∧ pd 8 = rd 8 ∧ pw 6 = rw 6 ∧ (∀ b u, O b = some u → b ≠ pq → O' b = some u) ∧ (((a = 24 → g 6 0 = some pq) ∧ (a ≠ 24 → g 6 a = some pq) ∧ (∃ v d w, O pq = some (rdU v d w)) ∧ pq ≠ ad 4) ∨ O pq = none)
theorem va_up_same {f : Nat → Option Nat} {a : Nat} {x : Option Nat} (h : f a = x) : va_up f a x = f := by
  funext i
  unfold va_up
  by_cases e : i = a
  · rw [if_pos e, e, h]
  · rw [if_neg e]
theorem cn_keep (l : Launch) (κ : Nat → Nat) (O : gO) (no : Nat) (cv : Nat → Int32) (ad : Nat → Nat) (g : Nat → Nat → Option Nat) (cw : Nat → Nat → Int32) (rx : Nat → Int32) (rd : Nat → Nat) (rw : Nat → Nat → Int32) (hN : O no = some (nsU cv ad g cw)) (hR : O (ad 4) = some (rdU rx rd rw)) (a : Nat) (ea : cv 7 = nI a) (ha : a ≤ 24)
    (hpast : ∀ j, j < 24 → (g 6 j = none → a ≤ j) ∧ ∀ q, g 6 j = some q → (∃ v d w, O q = some (rdU v d w)) ∧ q ≠ ad 4) :
    oM l κ yX0_keep cX0_keep 3 none ({ frames := 5, cells := 7, slots := 88, locals := 92 }) [.ref no] O (fun rv O1 => keepP O no cv ad g cw rx rd rw a O1 ∧ rv = none) := by
  by_cases h24 : a = 24
  · subst h24
    have hall : ∀ j, j < 24 → ∃ (q : Nat) (v : Nat → Int32) (d : Nat → Nat) (w : Nat → Nat → Int32), g 6 j = some q ∧ O q = some (rdU v d w) ∧ q ≠ ad 4 := by
      intro j hj
      cases hq : g 6 j with
      | none => exact absurd ((hpast j hj).1 hq) (by omega)
      | some q =>
        obtain ⟨⟨v, d, w, h1⟩, h2⟩ := (hpast j hj).2 q hq
        exact ⟨q, v, d, w, rfl, h1, h2⟩
    obtain ⟨pq, pv, pd, pw, g1, g2, g3⟩ := hall 0 (by omega)
    refine (cn_keepC l κ O no cv ad g cw rx rd rw pq pv pd pw hN hR g2 (fun e => g3 e.symm) hall ea g1).weak (fun rv O1 hp => ⟨?_, hp.2⟩)
    refine ⟨23, rotK (g 6) 23, pq, updN pd 8 (rd 8), becW pw rw, _, rfl, rfl, hp.1, oup_s _ _ _, rfl, rfl, fun b u hb hne => by rw [oup_n hne]; exact hb, Or.inl ⟨fun _ => g1, fun h => absurd rfl h, ⟨pv, pd, pw, g2⟩, g3⟩⟩
  · cases hq : g 6 a with
    | none =>
      refine (cn_keepB l κ O no cv ad g cw rx rd rw a hN hR ea (by omega) hq).weak (fun rv O1 hp => ⟨?_, hp.2⟩)
      obtain ⟨pq, pd, q1, q2, q3, q4⟩ := hp.1
      refine ⟨a, g 6, pq, updN pd 8 (rd 8), _, _, (if_neg h24).symm, (if_neg h24).symm, q4, oup_s _ _ _, rfl, rfl, fun b u hb hne => ?_, Or.inr q1⟩
      rw [oup_n hne, oup_n (fun e => by rw [e, q2] at hb; cases hb)]
      exact hb
    | some pq =>
      obtain ⟨⟨pv, pd, pw, g2⟩, g3⟩ := (hpast a (by omega)).2 pq hq
      refine (cn_keepA l κ O no cv ad g cw rx rd rw pq pv pd pw a hN hR g2 (fun e => g3 e.symm) ea (by omega) hq).weak (fun rv O1 hp => ⟨?_, hp.2⟩)
      refine ⟨a, g 6, pq, updN pd 8 (rd 8), becW pw rw, _, (if_neg h24).symm, (if_neg h24).symm, ?_, oup_s _ _ _, rfl, rfl, fun b u hb hne => by rw [oup_n hne]; exact hb, Or.inl ⟨fun h => absurd h h24, fun _ => hq, ⟨pv, pd, pw, g2⟩, g3⟩⟩
      rw [va_up_same hq, gput_self]
      exact hp.1
