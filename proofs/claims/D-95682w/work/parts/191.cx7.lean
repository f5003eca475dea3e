/-! Rest, who, ends, widest, times. -/
set_option maxRecDepth 100000
theorem restF_agr {ro : Nat → Int32} {n mv nt : Nat} (hmo : movOk ro n mv) : ∀ t i st f g, agr n f g → restF ro n mv nt t i st f = restF ro n mv nt t i st g := by
  intro t
  induction t with
  | zero => intro i st f g _; rfl
  | succ t ih =>
    intro i st f g h
    have hg := goF_agr (nt := nt + i) (o := 31) hmo h mv (Nat.le_refl mv)
    have he := eqL_agr hg h n (Nat.le_refl n)
    rw [restF, restF, he, ih (i + 1) _ _ _ hg]
theorem wcU_n {P : Nat → Bool} : ∀ k, ∃ c, c ≤ k ∧ wcU P k = nI c := by
  intro k
  induction k with
  | zero => exact ⟨0, Nat.le_refl 0, rfl⟩
  | succ k ih =>
    obtain ⟨c, hc, e⟩ := ih
    rw [wcU]
    split
    · exact ⟨c + 1, by omega, by rw [e, nI_1]⟩
    · exact ⟨c, by omega, e⟩
theorem wcU_D {P : Nat → Bool} {K : Nat} : ∀ j, j ≤ K → wcU P (K - j) + wcD P (K - 1) j = wcU P K := by
  intro j
  induction j with
  | zero => intro _; rw [wcD, Int32.add_zero]; rfl
  | succ j ih =>
    intro hj
    have i := ih (by omega)
    rw [show K - j = (K - (j + 1)) + 1 by omega, wcU] at i
    rw [wcD, show K - 1 - j = K - (j + 1) by omega, ← i]
    split
    · rw [Int32.add_assoc, Int32.add_comm 1]
    · rfl
theorem wcD_U {P : Nat → Bool} {K : Nat} : wcD P (K - 1) K = wcU P K := by
  have h := wcU_D (P := P) (K := K) K (Nat.le_refl K)
  rw [Nat.sub_self, wcU, Int32.zero_add] at h
  exact h
theorem wlU_0 {P : Nat → Bool} : ∀ k, k < 100 → wcU P k = 0 → wlU P k = -1000000 := by
  intro k
  induction k with
  | zero => intro _ _; rfl
  | succ k ih =>
    intro hk h
    rw [wcU] at h
    rw [wlU]
    by_cases hp : P k = true
    · rw [if_pos hp] at h
      obtain ⟨c, hc, e⟩ := wcU_n (P := P) k
      rw [e, nI_1] at h
      exact absurd (neq_t (b := 0) h) (by omega)
    · rw [if_neg hp] at h ⊢
      exact ih (by omega) h
theorem wlU_D {P : Nat → Bool} {K : Nat} (hK : K < 100) : ∀ j, j ≤ K → wlU P K = if wcU P (K - j) = 0 then wlD P (K - 1) j else wlU P (K - j) := by
  intro j
  induction j with
  | zero =>
    intro _
    rw [wlD, Nat.sub_zero]
    by_cases h : wcU P K = 0
    · rw [if_pos h, wlU_0 K hK h]
    · rw [if_neg h]
  | succ j ih =>
    intro hj
    rw [ih (by omega), wlD, show K - j = (K - (j + 1)) + 1 by omega, wcU, wlU, show K - 1 - j = K - (j + 1) by omega]
    by_cases hp : P (K - (j + 1)) = true
    · rw [if_pos hp, if_pos hp, if_pos hp]
      obtain ⟨c, hc, e⟩ := wcU_n (P := P) (K - (j + 1))
      rw [if_neg]
      rw [e, nI_1]
      intro q
      exact absurd (neq_t (b := 0) q) (by omega)
    · rw [if_neg hp, if_neg hp, if_neg hp]
theorem wlD_U {P : Nat → Bool} {K : Nat} (hK : K < 100) : wlD P (K - 1) K = wlU P K := by
  rw [wlU_D hK K (Nat.le_refl K), Nat.sub_self, wcU, if_pos rfl]

section CX7
variable (l : Launch) (κ : Nat → Nat) (O : gO) (no : Nat) (v : Nat → Int32) (w : Nat → Nat → Int32)
theorem cx_rest (hI : INV v w) (hC : CI κ O no v w) : cX l κ yX0_rest (ws_ yX0_rest cX0_rest 4 (some .int)) [] O no (op_rest v w, upd v 0 0, w) := by
  obtain ⟨cv, ad, g, cw, rx, rd, rw, mm, kd, mv, n, tm, nt, hx, hN, hR, hro, hmv, hm, ⟨en, hn⟩, ⟨et, ht⟩, ⟨ent, hnt⟩, hto, hmo, hbd⟩ := CI.un hI hC
  obtain ⟨q1, q2, q3, q4, hrr, q5, ⟨tx, td, tw, c5⟩, q6⟩ := CIx.iff.mp hx
  have hd : ad 4 ≠ ad 5 := hrr.ne (i := 0) (j := 1) rfl rfl (by decide)
  have e0 : w 5 0 = rx 0 := hro.1
  have e4 : w 5 4 = nI n := hro.2.2.2.2.1.trans en
  have e5 : w 5 5 = nI mm := hro.2.2.2.2.2.1
  have e6 : w 5 6 = nI nt := hro.2.2.2.2.2.2.1.trans ent
  refine (cn_rest l κ O no cv ad g cw rx rd rw tx td tw hN hR c5 hd mm kd mv hmv n en hn hmo (w 5) hro.x nt ent (by omega)).cx (Nat.le_of_ble_eq_true rfl) (Nat.le_of_ble_eq_true rfl) (Nat.le_of_ble_eq_true rfl) (Nat.le_of_ble_eq_true rfl) (fun rv O1 hp => ?_)
  obtain ⟨h1, td1, tw1, tx1, rfl⟩ := hp
  refine ⟨?_, (hx.tr5 hI.a).ci.agr vA.z wA.rf, hx.k35⟩
  rw [h1]
  unfold op_rest
  rw [e0]
  split
  · rfl
  · rw [e4, e5, e6, iN_nI (by omega), iN_nI (by omega), iN_nI (by omega)]
    rw [restF_agr (hro.mo hmo) 62 0 0 (rw 6) (layF (w 5) (w 19) n 1) (fun k hk => by
      unfold layF
      rw [if_pos hk]
      exact ((hro.2.2.2.2.2.2.2.2.1 k (by omega)).2.1).symm)]
theorem cx_who (hI : INV v w) (hC : CI κ O no v w) (x y : Int32) : cX l κ yX0_who (ws_ yX0_who cX0_who 7 (some .int)) [.int x, .int y] O no (op_who w x y, upd v 0 0, w) := by
  obtain ⟨cv, ad, g, cw, rx, rd, rw, mm, kd, mv, n, tm, nt, hx, hN, hR, hro, hmv, hm, ⟨en, hn⟩, ⟨et, ht⟩, ⟨ent, hnt⟩, hto, hmo, hbd⟩ := CI.un hI hC
  obtain ⟨q1, q2, q3, q4, hrr, q5, ⟨tx, td, tw, c5⟩, q6⟩ := CIx.iff.mp hx
  have hd : ad 4 ≠ ad 5 := hrr.ne (i := 0) (j := 1) rfl rfl (by decide)
  have e0 : w 5 0 = rx 0 := hro.1
  have e4 : w 5 4 = nI n := hro.2.2.2.2.1.trans en
  have e5 : w 5 5 = nI mm := hro.2.2.2.2.2.1
  refine (cn_who l κ O no cv ad g cw rx rd rw tx td tw hN hR c5 hd mm kd mv hmv n en hn hmo (w 5) hro.x x y).cx (Nat.le_of_ble_eq_true rfl) (Nat.le_of_ble_eq_true rfl) (Nat.le_of_ble_eq_true rfl) (Nat.le_of_ble_eq_true rfl) (fun rv O1 hp => ?_)
  obtain ⟨h1, td1, tw1, tx1, rfl⟩ := hp
  refine ⟨?_, (hx.tr5 hI.a).ci.agr vA.z wA.rf, hx.k35⟩
  rw [h1]
  unfold op_who
  rw [e0, e4, e5, iN_nI (by omega), iN_nI (by omega)]
  have hP : whoP (w 5) n mm (iN x) = stC (w 5) n mm (iN x) rw := by
    funext z
    unfold whoP stC stands
    refine eqL_agr (ntsF_agr (hro.mo hmo) (fun k hk => ?_) _) (fun k hk => ?_) n (Nat.le_refl n)
    · unfold layF
      rw [if_pos hk]
      exact (hro.2.2.2.2.2.2.2.2.1 k (by omega)).2.2
    · exact (hro.2.2.2.2.2.2.2.2.1 k (by omega)).2.1
  have hb := (shl1 hm).2.1
  rw [hP, wcD_U, wlD_U (by omega)]
theorem len_i {v : Nat → Int32} {w : Nat → Nat → Int32} (hI : INV v w) : 0 ≤ (w 5 0).toInt ∧ (w 5 0).toInt ≤ 200 := by
  obtain ⟨-, -, -, -, ⟨n, mm, tm, nt, -, -, -, -, -, -, -, -, ⟨le, fe, se, fi, e1, h1, -⟩, -⟩, -⟩ := hI
  rw [e1, nI_toInt (by omega)]
  omega
theorem CIx.cw11 {κ : Nat → Nat} {O : gO} {no : Nat} {v : Nat → Int32} {w : Nat → Nat → Int32} {cv : Nat → Int32} {ad : Nat → Nat} {g : Nat → Nat → Option Nat} {cw : Nat → Nat → Int32} (hx : CIx κ O no v w cv ad g cw) (h8 : ∃ a : Nat, v 8 = nI a ∧ a ≤ 24) (G : Nat → Int32) : CI κ (oup O no (nsU cv ad g (wput cw 11 G))) no v w :=
  (hx.cvw (cv' := cv) (cw' := wput cw 11 G) h8 hx.2.1 hx.2.2.1 (fun a ha ha2 => ⟨a, ha, ha2, Nat.le_refl a⟩) rfl rfl rfl rfl rfl rfl rfl rfl rfl).ci
theorem cx_ends (hI : INV v w) (hC : CI κ O no v w) (x y f : Int32) : cX l κ yX0_ends (ws_ yX0_ends cX0_ends 4 (some .int)) [.int x, .int y, .int f] O no (op_ends w x y f, upd v 0 0, w) := by
  obtain ⟨cv, ad, g, cw, rx, rd, rw, mm, kd, mv, n, tm, nt, hx, hN, hR, hro, hmv, hm, ⟨en, hn⟩, ⟨et, ht⟩, ⟨ent, hnt⟩, hto, hmo, hbd⟩ := CI.un hI hC
  have e0 : w 5 0 = rx 0 := hro.1
  have e4 : w 5 4 = nI n := hro.2.2.2.2.1.trans en
  have e7 : w 5 7 = nI tm := hro.2.2.2.2.2.2.2.1.trans et
  refine (cn_ends l κ O no cv ad g cw rx rd rw x y f hN hR (w 5) e0 (fun q hq => hro.2.2.2.2.2.2.2.2.2.2 q hq) n en hn tm et ht hto).cx (Nat.le_of_ble_eq_true rfl) (Nat.le_of_ble_eq_true rfl) (Nat.le_of_ble_eq_true rfl) (Nat.le_of_ble_eq_true rfl) (fun rv O1 hp => ?_)
  obtain ⟨h1, G, rfl⟩ := hp
  refine ⟨?_, (hx.cw11 hI.a G).agr vA.z wA.rf, hx.k3no⟩
  rw [h1]
  obtain ⟨l0, l1⟩ := len_i hI
  obtain ⟨c1, c2⟩ := clo (f := cw 11) hn hto l0 l1
  obtain ⟨F, eF⟩ : ∃ F, F = clC (w 5) (cw 11) n tm := ⟨_, rfl⟩
  obtain ⟨Z, eZ⟩ : ∃ Z, Z = layZ (w 5) n tm := ⟨_, rfl⟩
  unfold endC op_ends
  rw [e4, e7, iN_nI (by omega), iN_nI (by omega)]
  rw [← eF, ← eZ] at c1 c2
  rw [← eF, ← eZ, ← c1]
  have hc : (¬ (0 ≤ x ∧ x ≤ nI n - 1) ∨ ¬ (x + 1 ≤ y ∧ y ≤ nI n - 1) ∨ ¬ (0 ≤ f ∧ f ≤ 1)) ↔ (¬ (0 ≤ x ∧ x ≤ nI n - 1) ∨ ¬ (0 ≤ y ∧ y ≤ nI n - 1) ∨ ¬ x < y ∨ ¬ (0 ≤ f ∧ f ≤ 1)) := by
    by_cases hxx : 0 ≤ x ∧ x ≤ nI n - 1
    · obtain ⟨i, hi, rfl⟩ := in_nI1 (by omega) hxx
      by_cases hyy : 0 ≤ y ∧ y ≤ nI n - 1
      · obtain ⟨j, hj, rfl⟩ := in_nI1 (by omega) hyy
        rw [nI_1]
        have a1 : nI (i + 1) ≤ nI j ↔ i + 1 ≤ j := nI_leI (by omega) (by omega)
        have a2 : nI i < nI j ↔ i < j := nI_ltI (by omega) (by omega)
        have a3 := hyy.2
        rw [a1, a2]
        constructor
        · rintro (q | q | q)
          · exact Or.inl q
          · exact Or.inr (Or.inr (Or.inl (fun q2 => q ⟨q2, a3⟩)))
          · exact Or.inr (Or.inr (Or.inr q))
        · rintro (q | q | q | q)
          · exact Or.inl q
          · exact absurd hyy q
          · exact Or.inr (Or.inl (fun q2 => q q2.1))
          · exact Or.inr (Or.inr q)
      · constructor
        · intro _; exact Or.inr (Or.inl hyy)
        · intro _
          refine Or.inr (Or.inl (fun q => hyy ⟨?_, q.2⟩))
          have q1 := q.1
          rw [nI_1] at q1
          refine Int32.le_trans ?_ q1
          exact Int32.not_lt.mp (nI_pos (by omega))
    · exact ⟨fun _ => Or.inl hxx, fun _ => Or.inl hxx⟩
  by_cases hb : ¬ (0 ≤ x ∧ x ≤ nI n - 1) ∨ ¬ (x + 1 ≤ y ∧ y ≤ nI n - 1) ∨ ¬ (0 ≤ f ∧ f ≤ 1)
  · rw [if_pos hb, if_pos (hc.mp hb)]
  · rw [if_neg hb, if_neg (fun q => hb (hc.mpr q))]
    by_cases ho : okL Z 7 = true
    · rw [if_neg (not_not_intro ho), if_neg (not_not_intro ho)]
      have hxx : 0 ≤ x ∧ x ≤ nI n - 1 := Classical.byContradiction fun q => hb (Or.inl q)
      have hyy : 0 ≤ y ∧ y ≤ nI n - 1 := Classical.byContradiction fun q => hb (hc.mpr (Or.inr (Or.inl q)))
      obtain ⟨i, hi, rfl⟩ := in_nI1 (by omega) hxx
      obtain ⟨j, hj, rfl⟩ := in_nI1 (by omega) hyy
      rw [iN_nI (by omega), iN_nI (by omega), (c2 ho).1 i j hi hj, (c2 ho).1 j i hj hi]
    · rw [if_pos ho, if_pos ho]
theorem cx_widest (hI : INV v w) (hC : CI κ O no v w) : cX l κ yX0_widest (ws_ yX0_widest cX0_widest 6 (some .int)) [] O no (op_widest w, upd v 0 0, w) := by
  obtain ⟨cv, ad, g, cw, rx, rd, rw, mm, kd, mv, n, tm, nt, hx, hN, hR, hro, hmv, hm, ⟨en, hn⟩, ⟨et, ht⟩, ⟨ent, hnt⟩, hto, hmo, hbd⟩ := CI.un hI hC
  have e0 : w 5 0 = rx 0 := hro.1
  have e4 : w 5 4 = nI n := hro.2.2.2.2.1.trans en
  have e7 : w 5 7 = nI tm := hro.2.2.2.2.2.2.2.1.trans et
  refine (cn_widest l κ O no cv ad g cw rx rd rw hN hR (w 5) e0 (fun q hq => hro.2.2.2.2.2.2.2.2.2.2 q hq) n en hn tm et ht hto).cx (Nat.le_of_ble_eq_true rfl) (Nat.le_of_ble_eq_true rfl) (Nat.le_of_ble_eq_true rfl) (Nat.le_of_ble_eq_true rfl) (fun rv O1 hp => ?_)
  obtain ⟨h1, G, rfl⟩ := hp
  refine ⟨?_, (hx.cw11 hI.a G).agr vA.z wA.rf, hx.k3no⟩
  rw [h1]
  obtain ⟨l0, l1⟩ := len_i hI
  obtain ⟨c1, c2⟩ := clo (f := cw 11) hn hto l0 l1
  obtain ⟨F, eF⟩ : ∃ F, F = clC (w 5) (cw 11) n tm := ⟨_, rfl⟩
  obtain ⟨Z, eZ⟩ : ∃ Z, Z = layZ (w 5) n tm := ⟨_, rfl⟩
  unfold op_widest
  rw [e0, e4, e7, iN_nI (by omega), iN_nI (by omega)]
  rw [← eF, ← eZ] at c1 c2
  rw [← eF, ← eZ, ← c1]
  by_cases h0 : 0 < rx 0
  · rw [if_neg (not_not_intro h0), if_neg (not_not_intro h0)]
    by_cases ho : okL Z 7 = true
    · rw [if_neg (not_not_intro ho), if_neg (not_not_intro ho), wcO_wdO hn (c2 ho).1 (c2 ho).2]
    · rw [if_pos ho, if_pos ho]
  · rw [if_pos h0, if_pos h0]
end CX7
