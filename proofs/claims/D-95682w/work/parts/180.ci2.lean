/-! What tells the reference's state is kept. -/
set_option maxRecDepth 100000
def CIx (κ : Nat → Nat) (O : gO) (no : Nat) (v : Nat → Int32) (w : Nat → Nat → Int32) (cv : Nat → Int32) (ad : Nat → Nat) (g : Nat → Nat → Option Nat) (cw : Nat → Nat → Int32) : Prop :=
  O no = some (nsU cv ad g cw) ∧
    (cv 2 = v 10 ∧ cv 3 = v 11 ∧ cv 7 = v 8 ∧ cv 10 = v 1) ∧
    (∀ T : Nat, v 10 = nI T → T ≤ 400 → ∀ j, j < T → cw 1 j &&& 255 = w 9 j) ∧
    ((∀ j, j < 8 → (g 0 j = none → w 2 j < 0) ∧ ∀ q, g 0 j = some q → rwI O q w j) ∧ ∀ i j q, i < 8 → j < 8 → g 0 i = some q → g 0 j = some q → i = j) ∧
    (∀ i j q, rol ad g i = some q → rol ad g j = some q → i = j) ∧
    RI κ O (ad 4) (w 5) ∧ anyR O (ad 5) ∧
    (∀ a : Nat, v 8 = nI a → a ≤ 24 → ∀ j, j < 24 → (g 6 j = none → a ≤ j) ∧ ∀ q, g 6 j = some q → ∃ (pv : Nat → Int32) (pd : Nat → Nat) (pw : Nat → Nat → Int32), O q = some (rdU pv pd pw) ∧ (j < a → pv 9 = w 7 (7 * j + 6) ∧ ∀ k, k < 6 → pw 6 k = w 7 (7 * j + k))) ∧
    (∀ j, j < 2 → (g 8 j = none ↔ w 22 j = 0) ∧ ∀ q, g 8 j = some q → RI κ O q (fun i => w 23 (94 * j + i))) ∧
    ∃ (tv : Nat → Int32) (td : Nat → Nat) (tf : Nat → Int32), O (ad 9) = some (cU 2 tv td (oar 0 0 16 tf)) ∧ tv 1 = v 25 ∧ ∀ t : Nat, v 25 = nI t → t ≤ 16 → ∀ i, i < t → tf i = w 24 i
theorem CI.x {κ : Nat → Nat} {O : gO} {no : Nat} {v : Nat → Int32} {w : Nat → Nat → Int32} : CI κ O no v w ↔ ∃ (cv : Nat → Int32) (ad : Nat → Nat) (g : Nat → Nat → Option Nat) (cw : Nat → Nat → Int32), CIx κ O no v w cv ad g cw := Iff.rfl
theorem RI.kp {κ : Nat → Nat} {O O1 : gO} {q : Nat} {ro : Nat → Int32} (h : RI κ O q ro) (hq : ∀ x, O q = some x → O1 q = some x) (hm : kpM O O1) : RI κ O1 q ro := by
  obtain ⟨v, ad, w, mm, kd, mv, h1, h2, h3⟩ := h
  exact ⟨v, ad, w, mm, kd, mv, hq _ h1, h2, h3.kp hm⟩
theorem rwI.kp {O O1 : gO} {q : Nat} {w : Nat → Nat → Int32} {j : Nat} (h : rwI O q w j) (hq : ∀ x, O q = some x → O1 q = some x) : rwI O1 q w j := by
  obtain ⟨x, b, n, f, h1, h2⟩ := h
  exact ⟨x, b, n, f, hq _ h1, h2⟩
section CIK
variable {κ : Nat → Nat} {O O1 : gO} {no : Nat} {v v' : Nat → Int32} {w w' : Nat → Nat → Int32} {cv cv' : Nat → Int32} {ad : Nat → Nat} {g : Nat → Nat → Option Nat} {cw cw' : Nat → Nat → Int32}
/-- the trial road may change, and new units come -/
theorem CIx.keep5 (h : CIx κ O no v w cv ad g cw) (hk : ∀ b x, b ≠ ad 5 → O b = some x → O1 b = some x) (h5 : anyR O1 (ad 5)) : CIx κ O1 no v w cv ad g cw := by
  obtain ⟨h1, h2, h3, ⟨h4, h4'⟩, hr, hR, ⟨v5, d5, w5, hA⟩, hP, hI, tv, td, tf, hT, hT2⟩ := h
  have hm : kpM O O1 := fun b ci fs ar h8 hb => hk b _ (o_ne hb hA (by omega)) hb
  have r5 : rol ad g 1 = some (ad 5) := rfl
  have ne : ∀ i q, i ≠ 1 → rol ad g i = some q → q ≠ ad 5 := fun i q hi hq e => hi (hr i 1 (ad 5) (by rw [hq, e]) r5)
  refine ⟨hk _ _ (o_ne h1 hA (by decide)) h1, h2, h3, ⟨fun j hj => ⟨(h4 j hj).1, fun q hq => ?_⟩, h4'⟩, hr, hR.kp (fun x hx => hk _ x (ne 0 _ (by decide) rfl) hx) hm, h5, fun a ha ha2 j hj => ⟨(hP a ha ha2 j hj).1, fun q hq => ?_⟩, fun j hj => ⟨(hI j hj).1, fun q hq => ?_⟩, tv, td, tf, hk _ _ (o_ne hT hA (by decide)) hT, hT2⟩
  · have z := (h4 j hj).2 q hq
    refine z.kp (fun x hx => hk q x ?_ hx)
    obtain ⟨x0, b0, n0, f0, z1, z2⟩ := z
    exact o_ne z1 hA (by decide)
  · obtain ⟨pv, pd, pw, z1, z2⟩ := (hP a ha ha2 j hj).2 q hq
    refine ⟨pv, pd, pw, hk q _ (ne (j + 2) q (by omega) ?_) z1, z2⟩
    unfold rol
    rw [if_neg (by omega), if_neg (by omega), if_pos (by omega)]
    exact hq
  · refine ((hI j hj).2 q hq).kp (fun x hx => hk q x (ne (j + 26) q (by omega) ?_) hx) hm
    unfold rol
    rw [if_neg (by omega), if_neg (by omega), if_neg (by omega), if_pos (by omega)]
    exact hq
/-- the component's own numbers change -/
theorem CIx.own (h : CIx κ O no v w cv ad g cw) (h1' : O1 no = some (nsU cv' ad g cw')) (hk : ∀ b x, b ≠ no → O b = some x → O1 b = some x) (h2' : cv' 2 = v' 10 ∧ cv' 3 = v' 11 ∧ cv' 7 = v' 8 ∧ cv' 10 = v' 1) (h3' : ∀ T : Nat, v' 10 = nI T → T ≤ 400 → ∀ j, j < T → cw' 1 j &&& 255 = w' 9 j) (e8 : ∀ a : Nat, v' 8 = nI a → a ≤ 24 → ∃ a0 : Nat, v 8 = nI a0 ∧ a0 ≤ 24 ∧ a ≤ a0 ∧ ∀ j, j < 24 → g 6 j = none → a ≤ j) (e25 : v' 25 = v 25) (ew : ∀ i, i = 2 ∨ i = 3 ∨ i = 4 ∨ i = 5 ∨ i = 7 ∨ i = 22 ∨ i = 23 ∨ i = 24 → w' i = w i) : CIx κ O1 no v' w' cv' ad g cw' := by
  obtain ⟨h1, h2, h3, ⟨h4, h4'⟩, hr, hR, ⟨v5, d5, w5, hA⟩, hP, hI, tv, td, tf, hT, hT1, hT2⟩ := h
  have hm : kpM O O1 := fun b ci fs ar h8 hb => hk b _ (o_ne hb h1 (by omega)) hb
  have e2 := ew 2 (by simp)
  have e3 := ew 3 (by simp)
  have e4 := ew 4 (by simp)
  have e5 := ew 5 (by simp)
  have e7 := ew 7 (by simp)
  have e22 := ew 22 (by simp)
  have e23 := ew 23 (by simp)
  have e24 := ew 24 (by simp)
  have rk : ∀ q x, O q = some x → (∃ (fs : List Value) (ar : gA), x = .inr (1, fs, ar)) → O1 q = some x := by
    intro q x hq hx
    obtain ⟨fs, ar, rfl⟩ := hx
    exact hk q _ (o_ne hq h1 (by decide)) hq
  refine ⟨h1', h2', h3', ⟨fun j hj => ⟨fun q => by rw [e2]; exact (h4 j hj).1 q, fun q hq => ?_⟩, h4'⟩, hr, ?_, ⟨v5, d5, w5, rk _ _ hA ⟨_, _, rfl⟩⟩, fun a ha ha2 j hj => ?_, fun j hj => ⟨by rw [e22]; exact (hI j hj).1, fun q hq => ?_⟩, tv, td, tf, hk _ _ (o_ne hT h1 (by decide)) hT, by rw [e25]; exact hT1, by rw [e25, e24]; exact hT2⟩
  · obtain ⟨x0, b0, n0, f0, z1, z2⟩ := (h4 j hj).2 q hq
    refine ⟨x0, b0, n0, f0, hk q _ (o_ne z1 h1 (by decide)) z1, ?_⟩
    rw [e2, e3, e4]
    exact z2
  · rw [e5]
    refine hR.kp (fun x hx => ?_) hm
    obtain ⟨v0, ad0, w0, mm, kd, mv, z1, -⟩ := hR
    rw [hx] at z1
    exact rk _ _ hx ⟨_, _, Option.some.inj z1⟩
  · obtain ⟨a0, q1, q2, q3, q4⟩ := e8 a ha ha2
    refine ⟨q4 j hj, fun q hq => ?_⟩
    obtain ⟨pv, pd, pw, z1, z2⟩ := (hP a0 q1 q2 j hj).2 q hq
    refine ⟨pv, pd, pw, rk _ _ z1 ⟨_, _, rfl⟩, fun hja => ?_⟩
    rw [e7]
    exact z2 (by omega)
  · rw [e23]
    have hz := (hI j hj).2 q hq
    refine hz.kp (fun x hx => ?_) hm
    obtain ⟨v0, ad0, w0, mm, kd, mv, z1, -⟩ := hz
    rw [hx] at z1
    exact rk _ _ hx ⟨_, _, Option.some.inj z1⟩
/-- the reference's 'thrown' tells nothing -/
theorem CIx.thr (h : CIx κ O no v w cv ad g cw) : CIx κ O no (upd v 0 0) w cv ad g cw := h
end CIK
