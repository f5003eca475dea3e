/-! A mover read: the list grows; the kinds by their names. -/
set_option maxRecDepth 100000
section PBA
variable {κ : Nat → Nat} {O O1 O2 : gO} {a no md la : Nat} {cv : Nat → Int32} {nd : Nat → Nat} {g : Nat → Nat → Option Nat} {cw : Nat → Nat → Int32} {tp : Nat → Int32} {L : Nat} {u v : Nat → Int32} {rd : Nat → Nat} {dv : Nat → Int32} {dd : Nat → Nat} {dw : Nat → Nat → Int32} {mm : Nat} {kd : Nat → Nat} {mv : Nat → Nat → Int32}
theorem PB.new (h : PB κ O O1 a no md la cv nd g cw tp L u v rd dv dd dw mm kd mv) {q : Nat} {x : gU} (hq : O1 q = none) (hO : O2 = oup O1 q x) : PB κ O O2 a no md la cv nd g cw tp L u v rd dv dd dw mm kd mv := by
  obtain ⟨h1, h2, h3, h4, h5, h6⟩ := h
  have hk : ∀ b y, O1 b = some y → O2 b = some y := by
    intro b y hb
    rw [hO, oup_n (fun e => by rw [e, hq] at hb; cases hb)]
    exact hb
  exact ⟨h1.kp (fun b ci fs ar _ hb => hk b _ hb), hk _ _ h2, hk _ _ h3, h4, h5.kp (fun b ci fs ar _ hb => hk b _ hb), by rw [hO]; exact h6.up (Or.inr hq)⟩
theorem PB.thr (h : PB κ O O1 a no md la cv nd g cw tp L u v rd dv dd dw mm kd mv) {z : Nat} {x : gU} (hp : O1 z = none ∧ O2 = oup O1 z x) : O2 z = some x ∧ kpL O O2 [a, md, la] := by
  obtain ⟨h1, rfl⟩ := hp
  exact ⟨oup_s _ _ _, h.2.2.2.2.2.up (Or.inr h1)⟩
theorem PB.add (h : PB κ O O1 a no md la cv nd g cw tp L u v rd dv dd dw mm kd mv) {q kdm ea ea' : Nat} {mvm : Nat → Int32} {mc mc' z : Int32} {ar : gA} {lf lf' : Nat → Option Nat} (hl : O1 la = some (lsU mc ea z ar)) (hJ : ∀ j, j < mm → 1 ≤ kd j ∧ kd j ≤ 5 ∧ ∃ q, lf j = some q ∧ O1 q = some (mvU (kd j) (mv j))) (hm : mm < 5) (hQ : O1 q = some (mvU kdm mvm)) (h1 : 1 ≤ kdm) (h5 : kdm ≤ 5) (hO : O2 = oup O1 la (lsU mc' ea' (nI (mm + 1)) (lar lf'))) (hf : ∀ j, j < mm → lf' j = lf j) (hfm : lf' mm = some q) :
    PB κ O O2 a no md la cv nd g cw tp L u v rd dv dd dw (mm + 1) (fun j => if j = mm then kdm else kd j) (fun j => if j = mm then mvm else mv j) := by
  obtain ⟨g1, g2, g3, g4, g5, g6⟩ := h
  have hk : ∀ b ci fs ar, ci ≠ 8 → O1 b = some (.inr (ci, fs, ar)) → O2 b = some (.inr (ci, fs, ar)) := by
    intro b ci fs ar hc hb
    rw [hO, oup_n (o_ne hb hl hc)]
    exact hb
  refine ⟨g1.kp (fun b ci fs ar hc hb => hk b ci fs ar (by omega) hb), hk _ _ _ _ (by decide) g2, hk _ _ _ _ (by decide) g3, g4, ⟨mc', ea', lf', _, by rw [hO]; exact oup_s _ _ _, by omega, fun e => absurd e (by omega), fun _ => rfl, fun j hj => ?_⟩, by rw [hO]; exact g6.up (Or.inl (by simp))⟩
  by_cases e : j = mm
  · subst e
    refine ⟨by show 1 ≤ if j = j then kdm else _; rw [if_pos rfl]; exact h1, by show (if j = j then kdm else _) ≤ 5; rw [if_pos rfl]; exact h5, q, hfm, ?_⟩
    show O2 q = some (mvU (if j = j then kdm else _) (if j = j then mvm else _))
    rw [if_pos rfl, if_pos rfl]
    exact hk _ _ _ _ (by omega) hQ
  · obtain ⟨j1, j2, q', j3, j4⟩ := hJ j (by omega)
    refine ⟨by show 1 ≤ if j = mm then kdm else _; rw [if_neg e]; exact j1, by show (if j = mm then kdm else _) ≤ 5; rw [if_neg e]; exact j2, q', by rw [hf j (by omega)]; exact j3, ?_⟩
    show O2 q' = some (mvU (if j = mm then kdm else _) (if j = mm then mvm else _))
    rw [if_neg e, if_neg e]
    exact hk _ _ _ _ (by omega) j4
end PBA
theorem rm2_some {tp : Nat → Int32} {L : Nat} {u f : Nat → Int32} {k : Nat} (h17 : rm1 tp L u f 17 = 0) (hP : PV L (rm1 tp L u f)) (hL : LT tp (rm1 tp L u f)) (hk : k < 5) (hw : isW tp (rm1 tp L u f) (4 + k)) : rmK tp L u f = nI (k + 1) ∧ rm2 tp L u f = nxV tp L (rm1 tp L u f) ∧ rm2 tp L u f 17 = 0 := by
  have e : rmK tp L u f = nI (k + 1) := by
    rw [rmK]
    rcases (show k = 0 ∨ k = 1 ∨ k = 2 ∨ k = 3 ∨ k = 4 by omega) with rfl | rfl | rfl | rfl | rfl
    · rw [(nw_4 hP hL h17).mpr hw]; rfl
    · rw [(nw_5 hP hL h17).mpr hw]; rfl
    · rw [(nw_6 hP hL h17).mpr hw]; rfl
    · rw [(nw_7 hP hL h17).mpr hw]; rfl
    · rw [(nw_8 hP hL h17).mpr hw]; rfl
  have ne : ¬ rmK tp L u f = -1000000 := by
    rw [e]
    rcases (show k = 0 ∨ k = 1 ∨ k = 2 ∨ k = 3 ∨ k = 4 by omega) with rfl | rfl | rfl | rfl | rfl <;> decide
  have e2 : rm2 tp L u f = nxV tp L (rm1 tp L u f) := by rw [rm2, if_pos h17, if_neg ne, mustV, if_pos h17, if_neg (by decide)]
  exact ⟨e, e2, by rw [e2]; exact h17⟩
theorem rm2_none {tp : Nat → Int32} {L : Nat} {u f : Nat → Int32} (h17 : rm1 tp L u f 17 = 0) (hP : PV L (rm1 tp L u f)) (hL : LT tp (rm1 tp L u f)) (hw : ∀ k, k < 5 → ¬ isW tp (rm1 tp L u f) (4 + k)) : rm2 tp L u f 17 = 1 ∧ rm2 tp L u f 18 = rm1 tp L u f 15 ∧ 0 < rm2 tp L u f 17 := by
  have e : rmK tp L u f = -1000000 := by
    rw [rmK, kndB, if_neg (fun h => hw 0 (by omega) ((nw_4 hP hL h17).mp h)), if_neg (fun h => hw 1 (by omega) ((nw_5 hP hL h17).mp h)), if_neg (fun h => hw 2 (by omega) ((nw_6 hP hL h17).mp h)), if_neg (fun h => hw 3 (by omega) ((nw_7 hP hL h17).mp h)), if_neg (fun h => hw 4 (by omega) ((nw_8 hP hL h17).mp h))]
  have := badV_17 h17 1
  rw [rm2, if_pos h17, e, if_pos rfl, mustV, if_pos h17, if_pos rfl, this.1, this.2]
  exact ⟨rfl, rfl, by decide⟩
theorem rm_st2 {tp : Nat → Int32} {L : Nat} {u f : Nat → Int32} (h : 0 < rm2 tp L u f 17) : rmV tp L u f = rm2 tp L u f := by
  have e3 : rm3 tp L u f = rm2 tp L u f := numV_st h
  have e4 : rm4 tp L u f = rm2 tp L u f := by rw [rm4, e3, numV_st h]
  have e5 : rm5 tp L u f = rm2 tp L u f := by rw [rm5, e4, numV_st h]
  rw [rmV, e5, endV_st h]
theorem rm_st1 {tp : Nat → Int32} {L : Nat} {u f : Nat → Int32} (h : 0 < rm1 tp L u f 17) : rmV tp L u f = rm1 tp L u f := by
  have e : rm2 tp L u f = rm1 tp L u f := by rw [rm2, if_neg (pos_n h)]
  rw [rm_st2 (by rw [e]; exact h), e]
theorem rm_st3 {tp : Nat → Int32} {L : Nat} {u f : Nat → Int32} (h : 0 < rm3 tp L u f 17) : rmV tp L u f = rm3 tp L u f := by
  have e4 : rm4 tp L u f = rm3 tp L u f := numV_st h
  have e5 : rm5 tp L u f = rm3 tp L u f := by rw [rm5, e4, numV_st h]
  rw [rmV, e5, endV_st h]
theorem rm_st4 {tp : Nat → Int32} {L : Nat} {u f : Nat → Int32} (h : 0 < rm4 tp L u f 17) : rmV tp L u f = rm4 tp L u f := by
  have e5 : rm5 tp L u f = rm4 tp L u f := numV_st h
  rw [rmV, e5, endV_st h]
theorem rm_st5 {tp : Nat → Int32} {L : Nat} {u f : Nat → Int32} (h : 0 < rm5 tp L u f 17) : rmV tp L u f = rm5 tp L u f := by
  rw [rmV, endV_st h]
theorem numV_p {tp : Nat → Int32} {L : Nat} {v : Nat → Int32} {lo hi : Int32} (h17 : v 17 = 0) (h : ¬ numV tp L v lo hi 17 = 0) : 0 < numV tp L v lo hi 17 := by
  rcases numV_k (tp := tp) (L := L) (lo := lo) (hi := hi) h17 with k | k
  · exact absurd k.1 h
  · exact k.1
theorem endV_p {tp : Nat → Int32} {L : Nat} {v : Nat → Int32} (h17 : v 17 = 0) (h : ¬ endV tp L v 17 = 0) : 0 < endV tp L v 17 := by
  rcases endV_k (tp := tp) (L := L) h17 with k | k
  · exact absurd k.1 h
  · exact k.1
theorem begV_p {tp : Nat → Int32} {L : Nat} {v f : Nat → Int32} {i : Nat} {room : Int32} (h17 : v 17 = 0) (h : ¬ begV tp L v f i room 17 = 0) : 0 < begV tp L v f i room 17 := by
  rcases begV_k (tp := tp) (L := L) (f := f) (i := i) (room := room) h17 with k | k
  · exact absurd k.1 h
  · exact k.1
theorem cj_addA (l : Launch) (κ : Nat → Nat) (O : gO) (la : Nat) (mc : Int32) (ea mm : Nat) (lf : Nat → Option Nat) (lr : gA) (q kd : Nat) (mv : Nat → Int32) (hl1 : O la = some (lsU mc ea (nI mm) lr)) (hlE : mm = 0 → ea = κ 0 ∧ lr = aNo) (hlN : 0 < mm → lr = lar lf) (hm : mm < 5) (hQ : O q = some (mvU kd mv)) (h1 : 1 ≤ kd) (h5 : kd ≤ 5) : oM l κ yJ2_add cJ2_add 2 (some .boolean) ({ frames := 4, cells := 1, slots := 10, locals := 87 }) [.ref la, .ref q] O (fun rv O1 => ∃ (qa : Nat) (mc2 : Int32) (lf2 : Nat → Option Nat), rv = some (.int 1) ∧ O1 = oup O la (lsU mc2 qa (nI (mm + 1)) (lar lf2)) ∧ (∀ j, j < mm → lf2 j = lf j) ∧ lf2 mm = some q) := by
  rcases Nat.eq_zero_or_pos mm with h0 | h0
  · refine (cj_listAddE l κ O la mc q kd mv (by rw [hl1, (hlE h0).1, (hlE h0).2, h0]; rfl) hQ h1 h5).weak (fun rv O1 hp => ?_)
    obtain ⟨qa, e1, e2⟩ := hp
    exact ⟨qa, mc + 1, _, e1, by rw [e2, h0], fun j hj => absurd hj (by omega), by rw [h0]; rfl⟩
  · refine (cj_listAddN l κ O la mc ea mm lf q kd mv (by rw [hl1, hlN h0]) (by omega) hQ h1 h5).weak (fun rv O1 hp => ?_)
    exact ⟨ea, mc + 1, _, hp.1, hp.2, fun j hj => if_neg (by omega), if_pos rfl⟩
