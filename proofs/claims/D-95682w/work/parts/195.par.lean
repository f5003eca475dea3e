/-! What reading leaves as it was, and that a road well read is a road. -/
set_option maxRecDepth 100000
def RV (v u : Nat → Int32) : Prop := (∀ i, i < 10 → u i = v i) ∧ u 10 = 0 ∧ u 11 = v 11 ∧ (∀ i, 18 < i → u i = v i) ∧ 0 ≤ u 17
theorem RV.bad {v u : Nat → Int32} (h : RV v u) {k : Int32} (hk : 0 ≤ k) : RV v (badV u k) := by
  obtain ⟨h1, h2, h3, h4, h5⟩ := h
  refine ⟨fun i hi => ?_, ?_, ?_, fun i hi => ?_, ?_⟩
  · rw [badV_o u k (by omega) (by omega)]; exact h1 i hi
  · rw [badV_o u k (by omega) (by omega)]; exact h2
  · rw [badV_o u k (by omega) (by omega)]; exact h3
  · rw [badV_o u k (by omega) (by omega)]; exact h4 i hi
  · unfold badV
    split
    · exact hk
    · exact h5
theorem RV.nx {v u : Nat → Int32} (h : RV v u) (tp : Nat → Int32) (L : Nat) : RV v (nxV tp L u) := by
  obtain ⟨h1, h2, h3, h4, h5⟩ := h
  unfold nxV vNx
  refine ⟨fun i hi => ?_, ?_, ?_, fun i hi => ?_, ?_⟩
  · show (if i = 13 then _ else if i = 14 then _ else if i = 15 then _ else if i = 16 then _ else u i) = _
    rw [if_neg (by omega), if_neg (by omega), if_neg (by omega), if_neg (by omega)]; exact h1 i hi
  · exact h2
  · exact h3
  · show (if i = 13 then _ else if i = 14 then _ else if i = 15 then _ else if i = 16 then _ else u i) = _
    rw [if_neg (by omega), if_neg (by omega), if_neg (by omega), if_neg (by omega)]; exact h4 i hi
  · exact h5
theorem RV.must {v u : Nat → Int32} (h : RV v u) (tp : Nat → Int32) (L : Nat) (x : Int32) : RV v (mustV tp L u x) := by
  unfold mustV
  split
  · split
    · exact h.bad (by decide)
    · exact h.nx tp L
  · exact h
theorem RV.num {v u : Nat → Int32} (h : RV v u) (tp : Nat → Int32) (L : Nat) (lo hi : Int32) : RV v (numV tp L u lo hi) := by
  unfold numV
  split
  · exact h
  · refine RV.must ?_ tp L _
    unfold numB
    split
    · exact h.bad (by decide)
    · exact h
theorem RV.end_ {v u : Nat → Int32} (h : RV v u) (tp : Nat → Int32) (L : Nat) : RV v (endV tp L u) := by
  unfold endV
  split
  · exact h.must tp L _
  · exact h
theorem RV.beg {v u f : Nat → Int32} (h : RV v u) (tp : Nat → Int32) (L i : Nat) (r : Int32) : RV v (begV tp L u f i r) := by
  unfold begV
  refine RV.must ?_ tp L _
  split
  · exact h.bad (by decide)
  · exact h
theorem RV.rs {v u f : Nat → Int32} (h : RV v u) (tp : Nat → Int32) (L : Nat) : RV v (rsV tp L u f) := (((h.beg tp L 4 6).num tp L 0 200).num tp L _ _).end_ tp L
theorem RV.rm {v u f : Nat → Int32} (h : RV v u) (tp : Nat → Int32) (L : Nat) : RV v (rmV tp L u f) := by
  have h1 : RV v (rm1 tp L u f) := h.beg tp L 5 5
  have h2 : RV v (rm2 tp L u f) := by
    unfold rm2
    split
    · exact h1.must tp L _
    · exact h1
  exact (((h2.num tp L 0 (f 4 - 1)).num tp L 0 1).num tp L 1 5).end_ tp L
theorem RV.stn {v : Nat → Int32} (tp : Nat → Int32) (L : Nat) : ∀ k u f, RV v u → RV v (stnL tp L k u f).1 := by
  intro k
  induction k with
  | zero => intro u f h; exact h
  | succ k ih =>
    intro u f h
    rw [stnL]
    split
    · exact ih _ _ (h.rs tp L)
    · exact h
theorem RV.mov {v : Nat → Int32} (tp : Nat → Int32) (L : Nat) : ∀ k u f, RV v u → RV v (movL tp L k u f).1 := by
  intro k
  induction k with
  | zero => intro u f h; exact h
  | succ k ih =>
    intro u f h
    rw [movL]
    split
    · exact ih _ _ (h.rm tp L)
    · exact h
theorem RV.A (tp : Nat → Int32) (L : Nat) (v : Nat → Int32) : RV v (rdA tp L v) := by
  refine RV.nx ?_ tp L
  refine ⟨fun i hi => ?_, rfl, rfl, fun i hi => ?_, (show (0 : Int32) ≤ 0 by decide)⟩
  · rw [upd_n (by omega), upd_n (by omega), upd_n (by omega), upd_n (by omega)]
  · rw [upd_n (by omega), upd_n (by omega), upd_n (by omega), upd_n (by omega)]
theorem RV.E (tp : Nat → Int32) (L : Nat) (v : Nat → Int32) : RV v (rdE tp L v) := ((((((RV.A tp L v).must tp L _).num tp L 10 200).num tp L 0 20).num tp L 0 100).num tp L 0 99).end_ tp L
theorem RV.M (tp : Nat → Int32) (L : Nat) (v f : Nat → Int32) : RV v (rdM tp L v f).1 := RV.mov tp L 7 _ _ (RV.stn tp L 8 _ _ (RV.E tp L v))
theorem RV.T (tp : Nat → Int32) (L : Nat) (v f : Nat → Int32) : RV v (rdT tp L v f) := by
  unfold rdT
  split
  · exact (RV.M tp L v f).bad (by decide)
  · exact RV.M tp L v f
theorem numV_ok {tp : Nat → Int32} {L : Nat} {v : Nat → Int32} {lo hi : Int32} (h : numV tp L v lo hi 17 = 0) : v 17 = 0 ∧ lo ≤ numR tp v ∧ numR tp v ≤ hi := by
  have h0 := numV_17 h
  have hn : ¬ 0 < v 17 := by rw [h0]; decide
  refine ⟨h0, ?_⟩
  unfold numR
  rw [if_neg hn]
  rw [numV, if_neg hn] at h
  have hb := numB_17 (mustV_17 h)
  rw [mustV, if_pos (mustV_17 h)] at h
  by_cases h3 : v 14 = 3
  · by_cases hr : lo ≤ figV tp v ∧ figV tp v ≤ hi
    · exact hr
    · exfalso
      rw [if_neg (bI_n0.mpr h3)] at h
      have : numB tp v lo hi 17 = 0 := h
      rw [numB, if_pos ⟨h3, hr⟩] at this
      exact badV_n v (by decide) this
  · rw [if_pos (bI_0.mpr h3)] at h
    exact absurd h (badV_n _ (by decide))
theorem movL_17 {tp : Nat → Int32} {L : Nat} : ∀ k v f, (movL tp L k v f).1 17 = 0 → v 17 = 0 := by
  intro k v f h
  cases k with
  | zero => exact h
  | succ k =>
    rw [movL] at h
    split at h
    · next q => exact nameV_ok (by decide) q
    · exact h
theorem stnL_17 {tp : Nat → Int32} {L : Nat} : ∀ k v f, (stnL tp L k v f).1 17 = 0 → v 17 = 0 := by
  intro k v f h
  cases k with
  | zero => exact h
  | succ k =>
    rw [stnL] at h
    split at h
    · next q => exact nameV_ok (by decide) q
    · exact h
/-- a number between two naturals -/
theorem bet {x lo hi : Int32} {a b : Nat} (ea : lo = nI a) (eb : hi = nI b) (ha : a < 2 ^ 31) (hb : b < 2 ^ 31) (h : lo ≤ x ∧ x ≤ hi) : ∃ j, a ≤ j ∧ j ≤ b ∧ x = nI j := by
  subst ea
  subst eb
  obtain ⟨j, hj, rfl⟩ := in_nI (a := 0) (b := nI b) (N := b) (nI_toInt hb) rfl ⟨Int32.le_trans (Int32.not_lt.mp (nI_pos ha)) h.1, h.2⟩
  exact ⟨j, nle_t h.1 ha (by omega), hj, rfl⟩
