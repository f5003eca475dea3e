/-! The reader tells the reference's numbers u. -/
set_option maxRecDepth 100000
/-- a name is of letters -/
def LT (tp u : Nat → Int32) : Prop := u 14 = 2 → ∀ j, iN (u 15) ≤ j → j < iN (u 16) → 97 ≤ tp j ∧ tp j ≤ 122
theorem spn_in {P : Int32 → Bool} {tp : Nat → Int32} : ∀ (n k j : Nat), k ≤ j → j < spn P tp n k → P (tp j) = true := by
  intro n
  induction n with
  | zero => intro k j h1 h2; rw [spn] at h2; omega
  | succ n ih =>
    intro k j h1 h2
    rw [spn] at h2
    split at h2
    · by_cases e : j = k
      · rw [e]; assumption
      · exact ih (k + 1) j (by omega) h2
    · omega
theorem nx_LT (tp : Nat → Int32) (L c : Nat) (h : (nx tp L c).1 = 2) : ∀ j, (nx tp L c).2.1 ≤ j → j < (nx tp L c).2.2 → 97 ≤ tp j ∧ tp j ≤ 122 := by
  unfold nx at h ⊢
  split at h
  · cases h
  · rename_i h1
    rw [if_neg h1]
    split at h
    · rename_i h2
      rw [if_pos h2]
      intro j g1 g2
      exact of_decide_eq_true (spn_in (P := pLe) _ _ j g1 g2)
    · split at h
      · exfalso
        revert h
        show (if _ then 3 else 0) = 2 → False
        split <;> decide
      · exfalso
        revert h
        show (if _ then 4 else 0) = 2 → False
        split <;> decide
def RT (O : gO) (a t0 md : Nat) (tp : Nat → Int32) (L : Nat) (u v : Nat → Int32) (rd : Nat → Nat) : Prop :=
  O a = some (rrU v rd) ∧ rd 0 = t0 ∧ rd 7 = md ∧ v 1 = nI L ∧ PV L u ∧ tkS O v rd tp (iN (u 14), iN (u 15), iN (u 16)) ∧ LT tp u
theorem RT.first {O O1 : gO} {a t0 md : Nat} {tp : Nat → Int32} {L e : Nat} {u v : Nat → Int32} {rd : Nat → Nat} (h2 : rd 0 = t0) (h3 : rd 7 = md) (h4 : v 1 = nI L) (p1 : u 12 = nI L) (p2 : L ≤ 400) (p3 : u 13 = nI e) (p7 : e ≤ L) (hx : rdNx O O1 a v rd tp L e) : ∃ v1 rd1, RT O1 a t0 md tp L (nxV tp L u) v1 rd1 := by
  obtain ⟨v1, rd1, g1, g2, g3, g4, g5, g6⟩ := hx
  have ie : iN (u 13) = e := by rw [p3]; exact iN_nI (by omega)
  have hb := nx_ok tp L e p7
  have z : nxV tp L u = vNx u (nx tp L e) := by rw [nxV, ie]
  have e14 : iN (vNx u (nx tp L e) 14) = (nx tp L e).1 := iN_nI (by omega)
  have e15 : iN (vNx u (nx tp L e) 15) = (nx tp L e).2.1 := iN_nI (by omega)
  have e16 : iN (vNx u (nx tp L e) 16) = (nx tp L e).2.2 := iN_nI (by omega)
  refine ⟨v1, rd1, g1, g3.trans h2, g4.trans h3, g5.trans h4, PV.next tp p1 p2 p3 p7, ?_, ?_⟩
  · rw [z, e14, e15, e16]
    exact g6
  · intro q
    rw [z] at q ⊢
    rw [e15, e16]
    exact nx_LT tp L e (by rw [← e14, q]; rfl)
theorem RT.next {O O1 : gO} {a t0 md : Nat} {tp : Nat → Int32} {L : Nat} {u v : Nat → Int32} {rd : Nat → Nat} (h : RT O a t0 md tp L u v rd) (hx : rdNx O O1 a v rd tp L (iN (u 13))) : ∃ v1 rd1, RT O1 a t0 md tp L (nxV tp L u) v1 rd1 := by
  obtain ⟨h1, h2, h3, h4, hP, h6⟩ := h
  obtain ⟨s, e, t, p1, p2, p3, p4, p5, p6, p7, p8, p9⟩ := hP
  have ie : iN (u 13) = e := by rw [p3]; exact iN_nI (by omega)
  rw [ie] at hx
  exact RT.first h2 h3 h4 p1 p2 p3 p7 hx
/-- units of other classes may change -/
theorem RT.kp {O O1 : gO} {a t0 md : Nat} {tp : Nat → Int32} {L : Nat} {u v : Nat → Int32} {rd : Nat → Nat} (h : RT O a t0 md tp L u v rd) (hk : ∀ (b ci : Nat) (fs : List Value) (ar : gA), (ci = 6 ∨ ci = 15) → O b = some (.inr (ci, fs, ar)) → O1 b = some (.inr (ci, fs, ar))) : RT O1 a t0 md tp L u v rd := by
  obtain ⟨h1, h2, h3, h4, hP, ⟨h6, h7, h8, h9, h10⟩, hl⟩ := h
  refine ⟨hk a 6 _ _ (Or.inl rfl) h1, h2, h3, h4, hP, ⟨h6, h7, h8, h9, fun h => ?_⟩, hl⟩
  obtain ⟨r, g, q1, q2⟩ := h10 h
  exact ⟨r, g, hk _ 15 _ _ (Or.inr rfl) q1, q2⟩
theorem tkI_2 {t : Nat} (h : t ≤ 4) : tkI t = 2 ↔ t = 3 := by
  rcases (show t = 0 ∨ t = 1 ∨ t = 2 ∨ t = 3 ∨ t = 4 by omega) with rfl | rfl | rfl | rfl | rfl <;> decide
theorem tkI_1 {t : Nat} (h : t ≤ 4) : tkI t = 1 ↔ t = 2 := by
  rcases (show t = 0 ∨ t = 1 ∨ t = 2 ∨ t = 3 ∨ t = 4 by omega) with rfl | rfl | rfl | rfl | rfl <;> decide
theorem tkI_3 {t : Nat} (h : t ≤ 4) : tkI t = 3 ↔ t = 4 := by
  rcases (show t = 0 ∨ t = 1 ∨ t = 2 ∨ t = 3 ∨ t = 4 by omega) with rfl | rfl | rfl | rfl | rfl <;> decide
theorem tkI_0 {t : Nat} (h : t ≤ 4) : tkI t = 0 ↔ t = 1 := by
  rcases (show t = 0 ∨ t = 1 ∨ t = 2 ∨ t = 3 ∨ t = 4 by omega) with rfl | rfl | rfl | rfl | rfl <;> decide
theorem PV.tk {L : Nat} {u : Nat → Int32} (h : PV L u) : ∃ t, u 14 = nI t ∧ t ≤ 4 ∧ iN (u 14) = t := by
  obtain ⟨s, e, t, p1, p2, p3, p4, p5, p6, p7, p8, p9⟩ := h
  exact ⟨t, p8, p9, by rw [p8]; exact iN_nI (by omega)⟩
theorem RT.at {O : gO} {a t0 md : Nat} {tp : Nat → Int32} {L : Nat} {u v : Nat → Int32} {rd : Nat → Nat} (h : RT O a t0 md tp L u v rd) : v 2 = nI (iN (u 13)) ∧ iN (u 13) ≤ L ∧ L ≤ 400 ∧ v 4 = u 15 := by
  obtain ⟨h1, h2, h3, h4, hP, ⟨h6, h7, h8, h9, h10⟩, hl⟩ := h
  obtain ⟨s, e, t, p1, p2, p3, p4, p5, p6, p7, p8, p9⟩ := hP
  have i3 : iN (u 13) = e := by rw [p3]; exact iN_nI (by omega)
  have i5 : iN (u 15) = s := by rw [p4]; exact iN_nI (by omega)
  have i6 : iN (u 16) = e := by rw [p5]; exact iN_nI (by omega)
  refine ⟨by rw [h6, i3]; show nI (iN (u 16)) = nI e; rw [i6], by omega, p2, by rw [h8]; show nI (iN (u 15)) = u 15; rw [i5, p4]⟩
theorem RT.tok {O : gO} {a t0 md : Nat} {tp : Nat → Int32} {L : Nat} {u v : Nat → Int32} {rd : Nat → Nat} (h : RT O a t0 md tp L u v rd) : (v 3 = 2 ↔ u 14 = 3) ∧ (v 3 = 1 ↔ u 14 = 2) ∧ (v 3 = 3 ↔ u 14 = 4) ∧ (v 3 = 0 ↔ u 14 = 1) := by
  obtain ⟨h1, h2, h3, h4, hP, ⟨h6, h7, h8, h9, h10⟩, hl⟩ := h
  obtain ⟨t, q1, q2, q3⟩ := hP.tk
  have e : v 3 = tkI t := by rw [h7]; show tkI (iN (u 14)) = tkI t; rw [q3]
  rw [e, q1, tkI_2 q2, tkI_1 q2, tkI_3 q2, tkI_0 q2]
  exact ⟨⟨fun h => by rw [h]; rfl, fun h => neq_t (b := 3) h⟩, ⟨fun h => by rw [h]; rfl, fun h => neq_t (b := 2) h⟩, ⟨fun h => by rw [h]; rfl, fun h => neq_t (b := 4) h⟩, ⟨fun h => by rw [h]; rfl, fun h => neq_t (b := 1) h⟩⟩
theorem RT.num {O : gO} {a t0 md : Nat} {tp : Nat → Int32} {L : Nat} {u v : Nat → Int32} {rd : Nat → Nat} (h : RT O a t0 md tp L u v rd) (h3 : u 14 = 3) : v 5 = figV tp u := by
  obtain ⟨h1, h2, h4, h5, hP, ⟨h6, h7, h8, h9, h10⟩, hl⟩ := h
  rw [figV, if_pos h3]
  exact h9 (by show iN (u 14) = 3; rw [h3]; rfl)
/-- the word at hand is constant i -/
abbrev isW (tp u : Nat → Int32) (i : Nat) : Prop := u 14 = 2 ∧ eqS i (iN (u 16) - iN (u 15)) (fun j => tp (iN (u 15) + j))
theorem RT.str {O : gO} {a t0 md : Nat} {tp : Nat → Int32} {L : Nat} {u v : Nat → Int32} {rd : Nat → Nat} (h : RT O a t0 md tp L u v rd) (h2 : u 14 = 2) : ∃ r g, O (rd 6) = some (strU r (iN (u 16) - iN (u 15)) g) ∧ iN (u 16) - iN (u 15) ≤ 400 ∧ ∀ i, eqS i (iN (u 16) - iN (u 15)) g ↔ isW tp u i := by
  obtain ⟨h1, h2', h4, h5, hP, ⟨h6, h7, h8, h9, h10⟩, hl⟩ := h
  obtain ⟨s, e, t, p1, p2, p3, p4, p5, p6, p7, p8, p9⟩ := hP
  obtain ⟨r, g, q1, q2⟩ := h10 (by show iN (u 14) = 2; rw [h2]; rfl)
  have i5 : iN (u 15) = s := by rw [p4]; exact iN_nI (by omega)
  have i6 : iN (u 16) = e := by rw [p5]; exact iN_nI (by omega)
  refine ⟨r, g, q1, by omega, fun i => ?_⟩
  unfold isW eqS
  constructor
  · intro z; exact ⟨h2, z.1, fun j hj => by rw [← z.2 j hj]; exact (q2 j hj).symm⟩
  · intro z; exact ⟨z.2.1, fun j hj => by rw [← z.2.2 j hj]; exact q2 j hj⟩
