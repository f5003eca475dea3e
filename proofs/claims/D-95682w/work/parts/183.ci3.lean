/-! The parts of what tells the reference's state, each kept by itself. -/
set_option maxRecDepth 100000
def ciR (O : gO) (g : Nat → Nat → Option Nat) (w : Nat → Nat → Int32) : Prop := (∀ j, j < 8 → (g 0 j = none → w 2 j < 0) ∧ ∀ q, g 0 j = some q → rwI O q w j) ∧ ∀ i j q, i < 8 → j < 8 → g 0 i = some q → g 0 j = some q → i = j
def ciP (O : gO) (g : Nat → Nat → Option Nat) (v : Nat → Int32) (w : Nat → Nat → Int32) : Prop := ∀ a : Nat, v 8 = nI a → a ≤ 24 → ∀ j, j < 24 → (g 6 j = none → a ≤ j) ∧ ∀ q, g 6 j = some q → ∃ (pv : Nat → Int32) (pd : Nat → Nat) (pw : Nat → Nat → Int32), O q = some (rdU pv pd pw) ∧ (j < a → pv 9 = w 7 (7 * j + 6) ∧ ∀ k, k < 6 → pw 6 k = w 7 (7 * j + k))
def ciI (κ : Nat → Nat) (O : gO) (g : Nat → Nat → Option Nat) (w : Nat → Nat → Int32) : Prop := ∀ j, j < 2 → (g 8 j = none ↔ w 22 j = 0) ∧ ∀ q, g 8 j = some q → RI κ O q (fun i => w 23 (94 * j + i))
def ciT (O : gO) (ad : Nat → Nat) (v : Nat → Int32) (w : Nat → Nat → Int32) : Prop := ∃ (tv : Nat → Int32) (td : Nat → Nat) (tf : Nat → Int32), O (ad 9) = some (cU 2 tv td (oar 0 0 16 tf)) ∧ tv 1 = v 25 ∧ ∀ t : Nat, v 25 = nI t → t ≤ 16 → ∀ i, i < t → tf i = w 24 i
def ciV (cv : Nat → Int32) (v : Nat → Int32) : Prop := cv 2 = v 10 ∧ cv 3 = v 11 ∧ cv 7 = v 8 ∧ cv 10 = v 1
def ciA (cw : Nat → Nat → Int32) (v : Nat → Int32) (w : Nat → Nat → Int32) : Prop := ∀ T : Nat, v 10 = nI T → T ≤ 400 → ∀ j, j < T → cw 1 j &&& 255 = w 9 j
def ciD (ad : Nat → Nat) (g : Nat → Nat → Option Nat) : Prop := ∀ i j q, rol ad g i = some q → rol ad g j = some q → i = j
theorem CIx.iff {κ : Nat → Nat} {O : gO} {no : Nat} {v : Nat → Int32} {w : Nat → Nat → Int32} {cv : Nat → Int32} {ad : Nat → Nat} {g : Nat → Nat → Option Nat} {cw : Nat → Nat → Int32} : CIx κ O no v w cv ad g cw ↔ (O no = some (nsU cv ad g cw) ∧ ciV cv v ∧ ciA cw v w ∧ ciR O g w ∧ ciD ad g ∧ RI κ O (ad 4) (w 5) ∧ anyR O (ad 5) ∧ ciP O g v w ∧ ciI κ O g w ∧ ciT O ad v w) := Iff.rfl
def vA (v v' : Nat → Int32) : Prop := v' 1 = v 1 ∧ v' 8 = v 8 ∧ v' 10 = v 10 ∧ v' 11 = v 11 ∧ v' 25 = v 25
def wA (w w' : Nat → Nat → Int32) : Prop := w' 2 = w 2 ∧ w' 3 = w 3 ∧ w' 4 = w 4 ∧ w' 5 = w 5 ∧ w' 7 = w 7 ∧ w' 9 = w 9 ∧ w' 22 = w 22 ∧ w' 23 = w 23 ∧ w' 24 = w 24
theorem wA.rf {w : Nat → Nat → Int32} : wA w w := ⟨rfl, rfl, rfl, rfl, rfl, rfl, rfl, rfl, rfl⟩
theorem vA.z {v : Nat → Int32} {x : Int32} : vA v (upd v 0 x) := ⟨rfl, rfl, rfl, rfl, rfl⟩
theorem CI.agr {κ : Nat → Nat} {O : gO} {no : Nat} {v v' : Nat → Int32} {w w' : Nat → Nat → Int32} (h : CI κ O no v w) (hv : vA v v') (hw : wA w w') : CI κ O no v' w' := by
  obtain ⟨v1, v8, v10, v11, v25⟩ := hv
  obtain ⟨w2, w3, w4, w5, w7, w9, w22, w23, w24⟩ := hw
  unfold CI rwI at h ⊢
  rw [v1, v8, v10, v11, v25, w2, w3, w4, w5, w7, w9, w22, w23, w24]
  exact h
theorem INV.agr {v v' : Nat → Int32} {w w' : Nat → Nat → Int32} (h : INV v w) (hv : vA v v') (hw : wA w w') : INV v' w' := by
  obtain ⟨v1, v8, v10, v11, v25⟩ := hv
  obtain ⟨w2, w3, w4, w5, w7, w9, w22, w23, w24⟩ := hw
  unfold INV rowsOk at h ⊢
  rw [v8, v10, v25, w3, w5, w7, w9, w22, w23]
  exact h
section CK
variable {κ : Nat → Nat} {O O1 : gO} {no : Nat} {v v' : Nat → Int32} {w w' : Nat → Nat → Int32} {cv cv' : Nat → Int32} {ad : Nat → Nat} {g g' : Nat → Nat → Option Nat} {cw cw' : Nat → Nat → Int32}
theorem ciR.kp (h : ciR O g w) (hk : ∀ (q : Nat) (fs : List Value) (ar : gA), O q = some (.inr (5, fs, ar)) → O1 q = some (.inr (5, fs, ar))) (eg : g' 0 = g 0) (e2 : w' 2 = w 2) (e3 : w' 3 = w 3) (e4 : w' 4 = w 4) : ciR O1 g' w' := by
  unfold ciR
  rw [eg]
  refine ⟨fun j hj => ⟨fun q => by rw [e2]; exact (h.1 j hj).1 q, fun q hq => ?_⟩, h.2⟩
  obtain ⟨x0, b0, n0, f0, z1, z2⟩ := (h.1 j hj).2 q hq
  refine ⟨x0, b0, n0, f0, hk q _ _ z1, ?_⟩
  rw [e2, e3, e4]
  exact z2
theorem ciP.kp (h : ciP O g v w) (hk : ∀ j q x, j < 24 → g 6 j = some q → O q = some x → O1 q = some x) (eg : g' 6 = g 6) (e8 : ∀ a : Nat, v' 8 = nI a → a ≤ 24 → ∃ a0 : Nat, v 8 = nI a0 ∧ a0 ≤ 24 ∧ a ≤ a0) (e7 : w' 7 = w 7) : ciP O1 g' v' w' := by
  intro a ha ha2 j hj
  obtain ⟨a0, q1, q2, q3⟩ := e8 a ha ha2
  rw [eg]
  refine ⟨fun h6 => Nat.le_trans q3 ((h a0 q1 q2 j hj).1 h6), fun q hq => ?_⟩
  obtain ⟨pv, pd, pw, z1, z2⟩ := (h a0 q1 q2 j hj).2 q hq
  refine ⟨pv, pd, pw, hk j q _ hj hq z1, fun hja => ?_⟩
  rw [e7]
  exact z2 (by omega)
theorem ciI.kp (h : ciI κ O g w) (hk : ∀ j q x, j < 2 → g 8 j = some q → O q = some x → O1 q = some x) (hm : kpM O O1) (eg : g' 8 = g 8) (e22 : w' 22 = w 22) (e23 : w' 23 = w 23) : ciI κ O1 g' w' := by
  intro j hj
  rw [eg, e22, e23]
  exact ⟨(h j hj).1, fun q hq => ((h j hj).2 q hq).kp (fun x hx => hk j q x hj hq hx) hm⟩
theorem ciT.kp (h : ciT O ad v w) (hk : ∀ (q : Nat) (fs : List Value) (ar : gA), O q = some (.inr (2, fs, ar)) → O1 q = some (.inr (2, fs, ar))) (e25 : v' 25 = v 25) (e24 : w' 24 = w 24) : ciT O1 ad v' w' := by
  obtain ⟨tv, td, tf, h1, h2, h3⟩ := h
  exact ⟨tv, td, tf, hk _ _ _ h1, by rw [e25]; exact h2, by rw [e25, e24]; exact h3⟩
theorem ciD.ne (h : ciD ad g) {i j q q' : Nat} (hi : rol ad g i = some q) (hj : rol ad g j = some q') (hn : i ≠ j) : q ≠ q' := fun e => hn (h i j q hi (by rw [e]; exact hj))
theorem rol_p {j q : Nat} (hj : j < 24) (h : g 6 j = some q) : rol ad g (j + 2) = some q := by
  unfold rol
  rw [if_neg (by omega), if_neg (by omega), if_pos (by omega)]
  exact h
theorem rol_i {j q : Nat} (hj : j < 2) (h : g 8 j = some q) : rol ad g (j + 26) = some q := by
  unfold rol
  rw [if_neg (by omega), if_neg (by omega), if_neg (by omega), if_pos (by omega)]
  exact h
/-- the component, its road and its trial change -/
theorem CIx.upS (h : CIx κ O no v w cv ad g cw) (h8 : ∃ a : Nat, v 8 = nI a ∧ a ≤ 24) (hk : kpL O O1 [no, ad 4, ad 5]) (hN' : O1 no = some (nsU cv' ad g cw')) (h2' : ciV cv' v') (h3' : ciA cw' v' w') (hR' : RI κ O1 (ad 4) (w' 5)) (hA' : anyR O1 (ad 5)) (e8 : ∀ a : Nat, v' 8 = nI a → a ≤ 24 → ∃ a0 : Nat, v 8 = nI a0 ∧ a0 ≤ 24 ∧ a ≤ a0) (e25 : v' 25 = v 25) (e2 : w' 2 = w 2) (e3 : w' 3 = w 3) (e4 : w' 4 = w 4) (e7 : w' 7 = w 7) (e22 : w' 22 = w 22) (e23 : w' 23 = w 23) (e24 : w' 24 = w 24) : CIx κ O1 no v' w' cv' ad g cw' := by
  obtain ⟨h1, h2, h3, h4, hr, hR, hA, hP, hI, hT⟩ := CIx.iff.mp h
  have r4 : rol ad g 0 = some (ad 4) := rfl
  have r5 : rol ad g 1 = some (ad 5) := rfl
  have c4 : ∃ fs ar, O (ad 4) = some (.inr (1, fs, ar)) := by obtain ⟨_, _, _, _, _, _, z, -⟩ := hR; exact ⟨_, _, z⟩
  have c5 : ∃ fs ar, O (ad 5) = some (.inr (1, fs, ar)) := by obtain ⟨_, _, _, z⟩ := hA; exact ⟨_, _, z⟩
  obtain ⟨f4, a4, c4⟩ := c4
  obtain ⟨f5, a5, c5⟩ := c5
  have kc : ∀ (q ci : Nat) (fs : List Value) (ar : gA), ci ≠ 0 → ci ≠ 1 → O q = some (.inr (ci, fs, ar)) → O1 q = some (.inr (ci, fs, ar)) := by
    intro q ci fs ar n0 n1 hq
    refine hk q _ ?_ hq
    have z0 := o_ne hq h1 n0
    have z4 := o_ne hq c4 n1
    have z5 := o_ne hq c5 n1
    simp only [List.mem_cons, List.not_mem_nil, or_false, not_or]
    exact ⟨z0, z4, z5⟩
  have kr : ∀ i q x, i ≠ 0 → i ≠ 1 → rol ad g i = some q → (∃ fs ar, O q = some (.inr (1, fs, ar))) → O q = some x → O1 q = some x := by
    intro i q x n0 n1 hi ⟨fs, ar, hc⟩ hq
    refine hk q _ ?_ hq
    have z0 := o_ne hc h1 (by decide)
    have z4 := hr.ne hi r4 n0
    have z5 := hr.ne hi r5 n1
    simp only [List.mem_cons, List.not_mem_nil, or_false, not_or]
    exact ⟨z0, z4, z5⟩
  have hm : kpM O O1 := fun b ci fs ar h8 hb => kc b ci fs ar (by omega) (by omega) hb
  refine CIx.iff.mpr ⟨hN', h2', h3', h4.kp (fun q fs ar => kc q 5 fs ar (by decide) (by decide)) rfl e2 e3 e4, hr, hR', hA', hP.kp (fun j q x hj hq hx => kr (j + 2) q x (by omega) (by omega) (rol_p hj hq) ?_ hx) rfl e8 e7, hI.kp (fun j q x hj hq hx => kr (j + 26) q x (by omega) (by omega) (rol_i hj hq) ?_ hx) hm rfl e22 e23, hT.kp (fun q fs ar => kc q 2 fs ar (by decide) (by decide)) e25 e24⟩
  · obtain ⟨n, hn, hn2⟩ := h8
    obtain ⟨pv, pd, pw, z1, -⟩ := (hP n hn hn2 j hj).2 q hq
    exact ⟨_, _, z1⟩
  · obtain ⟨_, _, _, _, _, _, z1, -⟩ := (hI j hj).2 q hq
    exact ⟨_, _, z1⟩
end CK
