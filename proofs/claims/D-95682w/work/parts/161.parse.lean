/-! The parse: bundles of what stands between the reader's calls. -/
set_option maxRecDepth 100000
theorem oM.at {l : Launch} {κ : Nat → Nat} {y : MethodName} {cc : ByteArray} {nL : Nat} {ret : Option FieldType} {rm : Room} {As : List Value} {O O' : gO} {Post : Option Value → gO → Prop} (h : O' = O) (hc : oM l κ y cc nL ret rm As O Post) : oM l κ y cc nL ret rm As O' Post := by
  rw [h]; exact hc
theorem oT.at {l : Launch} {κ : Nat → Nat} {y : MethodName} {cc : ByteArray} {nL : Nat} {ret : Option FieldType} {rm : Room} {As : List Value} {O O' : gO} {Post : Nat → gO → Prop} (h : O' = O) (hc : oT l κ y cc nL ret rm As O Post) : oT l κ y cc nL ret rm As O' Post := by
  rw [h]; exact hc
theorem oT.weak {l : Launch} {κ : Nat → Nat} {y : MethodName} {cc : ByteArray} {nL : Nat} {ret : Option FieldType} {rm : Room} {As : List Value} {O : gO} {P Q : Nat → gO → Prop} (e : P = Q) (hc : oT l κ y cc nL ret rm As O P) : oT l κ y cc nL ret rm As O Q := by
  rw [← e]; exact hc
/-- all units but those of S are kept -/
def kpL (O O1 : gO) (S : List Nat) : Prop := ∀ (b : Nat) (x : gU), b ∉ S → O b = some x → O1 b = some x
theorem kpL.rf {O : gO} {S : List Nat} : kpL O O S := fun _ _ _ h => h
theorem kpL.A {O O1 O2 : gO} {S : List Nat} {a : Nat} (h : kpL O O1 S) (h2 : kpA O1 O2 a) (ha : a ∈ S) : kpL O O2 S := fun b x hb hx => h2 b x (fun e => hb (e ▸ ha)) (h b x hb hx)
theorem kpL.tr {O O1 O2 : gO} {S T : List Nat} (h : kpL O O1 S) (h2 : kpL O1 O2 T) (hs : ∀ b, b ∈ T → b ∈ S) : kpL O O2 S := fun b x hb hx => h2 b x (fun e => hb (hs b e)) (h b x hb hx)
theorem kpL.up {O O1 : gO} {S : List Nat} {a : Nat} {u : gU} (h : kpL O O1 S) (ha : a ∈ S ∨ O1 a = none) : kpL O (oup O1 a u) S := by
  intro b x hb hx
  have hx1 := h b x hb hx
  by_cases e : b = a
  · subst e
    rcases ha with ha | ha
    · exact absurd ha hb
    · rw [ha] at hx1; cases hx1
  · rw [oup_n e]; exact hx1
theorem kpA.M {O O1 : gO} {a ci : Nat} {fs : List Value} {ar : gA} (h : kpA O O1 a) (ha : O a = some (.inr (ci, fs, ar))) (hc : ci < 8) : kpM O O1 := by
  intro b cj fs' ar' h8 hb
  exact h b _ (o_ne hb ha (by omega)) hb
/-- what stands while a road is read: a the reader, no the component, md the road, la its list -/
def PB (κ : Nat → Nat) (O O1 : gO) (a no md la : Nat) (cv : Nat → Int32) (nd : Nat → Nat) (g : Nat → Nat → Option Nat) (cw : Nat → Nat → Int32) (tp : Nat → Int32) (L : Nat) (u v : Nat → Int32) (rd : Nat → Nat) (dv : Nat → Int32) (dd : Nat → Nat) (dw : Nat → Nat → Int32) (mm : Nat) (kd : Nat → Nat) (mv : Nat → Nat → Int32) : Prop :=
  RT O1 a (nd 1) md tp L u v rd ∧ O1 no = some (nsU cv nd g cw) ∧ O1 md = some (rdU dv dd dw) ∧ dd 8 = la ∧ mvs κ O1 la mm kd mv ∧ kpL O O1 [a, md, la]
section PBS
variable {κ : Nat → Nat} {O O1 O2 : gO} {a no md la : Nat} {cv : Nat → Int32} {nd : Nat → Nat} {g : Nat → Nat → Option Nat} {cw : Nat → Nat → Int32} {tp : Nat → Int32} {L : Nat} {u v : Nat → Int32} {rd : Nat → Nat} {dv : Nat → Int32} {dd : Nat → Nat} {dw : Nat → Nat → Int32} {mm : Nat} {kd : Nat → Nat} {mv : Nat → Nat → Int32}
theorem PB.e (h : PB κ O O1 a no md la cv nd g cw tp L u v rd dv dd dw mm kd mv) : oups O1 [(a, rrU v rd), (no, nsU cv nd g cw), (md, rdU dv dd dw)] = O1 := by
  rw [oups, oups, oups, oups, oup_same h.2.2.1, oup_same h.2.1, oup_same h.1.1]
theorem PB.nodup (h : PB κ O O1 a no md la cv nd g cw tp L u v rd dv dd dw mm kd mv) : ([a, no, md] : List Nat).Nodup := by
  simp only [List.nodup_cons, List.mem_cons, List.mem_singleton, List.not_mem_nil, not_or, or_false, not_false_eq_true, List.nodup_nil, and_true]
  exact ⟨⟨o_ne h.1.1 h.2.1 (by decide), o_ne h.1.1 h.2.2.1 (by decide)⟩, o_ne h.2.1 h.2.2.1 (by decide)⟩
theorem PB.ps {D : va_G} {ac : Nat → ClassId} {A : Nat → Prop} {H0 H : Heap} {locs : List Loc} (h : PB κ O O1 a no md la cv nd g cw tp L u v rd dv dd dw mm kd mv) (hO : OS D ac A H0 O1 H locs) : PS D ac A H0 O1 [(a, rrU v rd), (no, nsU cv nd g cw), (md, rdU dv dd dw)] H locs :=
  PS.of hO _ ⟨h.1.1, h.2.1, h.2.2.1, trivial⟩ h.nodup
/-- a call that changes the reader alone -/
theorem PB.call (h : PB κ O O1 a no md la cv nd g cw tp L u v rd dv dd dw mm kd mv) (hk : kpA O1 O2 a) {u2 v2 : Nat → Int32} {rd2 : Nat → Nat} (hR : RT O2 a (nd 1) md tp L u2 v2 rd2) : PB κ O O2 a no md la cv nd g cw tp L u2 v2 rd2 dv dd dw mm kd mv := by
  obtain ⟨h1, h2, h3, h4, h5, h6⟩ := h
  exact ⟨hR, hk _ _ (o_ne h2 h1.1 (by decide)) h2, hk _ _ (o_ne h3 h1.1 (by decide)) h3, h4, h5.kp (hk.M h1.1 (by decide)), h6.A hk (by simp)⟩
/-- the road's numbers are set -/
theorem PB.put (h : PB κ O O1 a no md la cv nd g cw tp L u v rd dv dd dw mm kd mv) (dv2 : Nat → Int32) (dw2 : Nat → Nat → Int32) : PB κ O (oup O1 md (rdU dv2 dd dw2)) a no md la cv nd g cw tp L u v rd dv2 dd dw2 mm kd mv := by
  obtain ⟨h1, h2, h3, h4, h5, h6⟩ := h
  refine ⟨h1.kp (fun b ci fs ar hc hb => ?_), ?_, oup_s _ _ _, h4, h5.kp (kpM.up h3 (by decide)), h6.up (Or.inl (by simp))⟩
  · rw [oup_n (o_ne hb h3 (by omega))]; exact hb
  · rw [oup_n (o_ne h2 h3 (by decide))]; exact h2
theorem PB.re {D : va_G} {ac : Nat → ClassId} {A : Nat → Prop} {H0 H : Heap} {locs : List Loc} {dv2 : Nat → Int32} {dw2 : Nat → Nat → Int32} (h : PB κ O O1 a no md la cv nd g cw tp L u v rd dv dd dw mm kd mv) (hM : PS D ac A H0 O1 [(a, rrU v rd), (no, nsU cv nd g cw), (md, rdU dv2 dd dw2)] H locs) : ∃ O2, PS D ac A H0 O2 [(a, rrU v rd), (no, nsU cv nd g cw), (md, rdU dv2 dd dw2)] H locs ∧ PB κ O O2 a no md la cv nd g cw tp L u v rd dv2 dd dw2 mm kd mv := by
  have h2 := h.put dv2 dw2
  have e : oups O1 [(a, rrU v rd), (no, nsU cv nd g cw), (md, rdU dv2 dd dw2)] = oup O1 md (rdU dv2 dd dw2) := by
    rw [oups, oups, oups, oups, oup_same h2.2.1, oup_same h2.1.1]
  exact ⟨_, h2.ps (by rw [← e]; exact hM.1), h2⟩
end PBS
/-! The reference's steps: well, or at fault. -/
theorem badV_17 {v : Nat → Int32} (h : v 17 = 0) (k : Int32) : badV v k 17 = k ∧ badV v k 18 = v 15 := by
  rw [badV, if_pos h]
  exact ⟨by rw [upd_n (by decide), upd_s], by rw [upd_s]⟩
theorem nxV_17 (tp : Nat → Int32) (L : Nat) (v : Nat → Int32) : nxV tp L v 17 = v 17 := rfl
theorem mustV_k {tp : Nat → Int32} {L : Nat} {v : Nat → Int32} {x : Int32} (h17 : v 17 = 0) : (mustV tp L v x 17 = 0 ∧ ¬ x = 0 ∧ mustV tp L v x = nxV tp L v) ∨ (0 < mustV tp L v x 17 ∧ x = 0 ∧ mustV tp L v x 17 = 1 ∧ mustV tp L v x 18 = v 15) := by
  unfold mustV
  rw [if_pos h17]
  by_cases hx : x = 0
  · rw [if_pos hx]
    have := badV_17 h17 1
    exact Or.inr ⟨by rw [this.1]; decide, hx, this⟩
  · rw [if_neg hx]
    exact Or.inl ⟨h17, hx, rfl⟩
theorem numV_k {tp : Nat → Int32} {L : Nat} {v : Nat → Int32} {lo hi : Int32} (h17 : v 17 = 0) : (numV tp L v lo hi 17 = 0 ∧ v 14 = 3 ∧ (lo ≤ figV tp v ∧ figV tp v ≤ hi) ∧ numV tp L v lo hi = nxV tp L v ∧ numR tp v = figV tp v) ∨
    (0 < numV tp L v lo hi 17 ∧ ((¬ v 14 = 3 ∧ numV tp L v lo hi 17 = 1 ∧ numV tp L v lo hi 18 = v 15) ∨ (v 14 = 3 ∧ ¬ (lo ≤ figV tp v ∧ figV tp v ≤ hi) ∧ numV tp L v lo hi 17 = 2 ∧ numV tp L v lo hi 18 = v 15))) := by
  have h0 : ¬ 0 < v 17 := by rw [h17]; decide
  unfold numV numR
  rw [if_neg h0, if_neg h0]
  by_cases h3 : v 14 = 3
  · rw [bI_t h3]
    by_cases hr : lo ≤ figV tp v ∧ figV tp v ≤ hi
    · rw [show numB tp v lo hi = v from if_neg (fun h => h.2 hr), mustV, if_pos h17, if_neg (by decide)]
      exact Or.inl ⟨h17, h3, hr, rfl, rfl⟩
    · rw [show numB tp v lo hi = badV v 2 from if_pos ⟨h3, hr⟩, mustV, if_neg (badV_n v (by decide))]
      have := badV_17 h17 2
      exact Or.inr ⟨by rw [this.1]; decide, Or.inr ⟨h3, hr, this⟩⟩
  · rw [bI_f h3, show numB tp v lo hi = v from if_neg (fun h => h3 h.1), mustV, if_pos h17, if_pos rfl]
    have := badV_17 h17 1
    exact Or.inr ⟨by rw [this.1]; decide, Or.inl ⟨h3, this⟩⟩
theorem endV_k {tp : Nat → Int32} {L : Nat} {v : Nat → Int32} (h17 : v 17 = 0) : (endV tp L v 17 = 0 ∧ v 14 = 4 ∧ endV tp L v = nxV tp L v) ∨ (0 < endV tp L v 17 ∧ ¬ v 14 = 4 ∧ endV tp L v 17 = 1 ∧ endV tp L v 18 = v 15) := by
  rw [endV, if_pos h17]
  rcases mustV_k (tp := tp) (L := L) (x := bI (v 14 = 4)) h17 with ⟨h1, h2, h3⟩ | ⟨h1, h2, h3⟩
  · exact Or.inl ⟨h1, bI_n0.mp h2, h3⟩
  · exact Or.inr ⟨h1, bI_0.mp h2, h3⟩
theorem begV_k {tp : Nat → Int32} {L : Nat} {v f : Nat → Int32} {i : Nat} {room : Int32} (h17 : v 17 = 0) : (begV tp L v f i room 17 = 0 ∧ ¬ f i = room ∧ begV tp L v f i room = nxV tp L v) ∨ (0 < begV tp L v f i room 17 ∧ f i = room ∧ begV tp L v f i room 17 = 3 ∧ begV tp L v f i room 18 = v 15) := by
  unfold begV
  by_cases h : f i = room
  · rw [if_pos h, mustV, if_neg (badV_n v (by decide))]
    have := badV_17 h17 3
    exact Or.inr ⟨by rw [this.1]; decide, h, this⟩
  · rw [if_neg h, mustV, if_pos h17, if_neg (by decide)]
    exact Or.inl ⟨h17, h, rfl⟩
/-! A fault stays. -/
theorem pos_n {x : Int32} (h : 0 < x) : ¬ x = 0 := fun e => by rw [e] at h; exact absurd h (by decide)
theorem mustV_st {tp : Nat → Int32} {L : Nat} {v : Nat → Int32} {x : Int32} (h : 0 < v 17) : mustV tp L v x = v := by rw [mustV, if_neg (pos_n h)]
theorem numV_st {tp : Nat → Int32} {L : Nat} {v : Nat → Int32} {lo hi : Int32} (h : 0 < v 17) : numV tp L v lo hi = v := by rw [numV, if_pos h]
theorem endV_st {tp : Nat → Int32} {L : Nat} {v : Nat → Int32} (h : 0 < v 17) : endV tp L v = v := by rw [endV, if_neg (pos_n h)]
theorem begV_st {tp : Nat → Int32} {L : Nat} {v f : Nat → Int32} {i : Nat} {room : Int32} (h : 0 < v 17) : begV tp L v f i room = v := by
  have e : (if f i = room then badV v 3 else v) = v := by
    split
    · rw [badV, if_neg (pos_n h)]
    · rfl
  rw [begV, e, mustV_st h]
theorem nameV_st {tp v : Nat → Int32} (h : 0 < v 17) : nameV tp v = 0 := by rw [nameV, if_neg (pos_n h)]
theorem stnL_st {tp : Nat → Int32} {L : Nat} {v f : Nat → Int32} (h : 0 < v 17) (k : Nat) : stnL tp L k v f = (v, f) := stnL_stop (by rw [nameV_st h]; decide) k
theorem movL_st {tp : Nat → Int32} {L : Nat} {v f : Nat → Int32} (h : 0 < v 17) (k : Nat) : movL tp L k v f = (v, f) := movL_stop (by rw [nameV_st h]; decide) k
/-- a fault among the movers is the end's -/
theorem rdT_M {tp : Nat → Int32} {L : Nat} {v f : Nat → Int32} {u2 f2 : Nat → Int32} {k : Nat} (hm : rdM tp L v f = movL tp L k u2 f2) (h : 0 < u2 17) : rdT tp L v f = u2 := by
  rw [rdT, hm, movL_st h k, if_neg (fun q => pos_n h q.1)]
theorem rdT_S {tp : Nat → Int32} {L : Nat} {v f : Nat → Int32} {u2 f2 : Nat → Int32} {k : Nat} (hm : rdS tp L v f = stnL tp L k u2 f2) (h : 0 < u2 17) : rdT tp L v f = u2 := by
  have e : rdS tp L v f = (u2, f2) := by rw [hm, stnL_st h k]
  exact rdT_M (k := 7) (f2 := f2) (by rw [rdM, e]) h
theorem rdT_E {tp : Nat → Int32} {L : Nat} {v f : Nat → Int32} {u2 : Nat → Int32} (he : rdE tp L v = u2) (h : 0 < u2 17) : rdT tp L v f = u2 := rdT_S (k := 8) (f2 := fr1 tp L v f) (by rw [rdS, he]) h
theorem rdT_3 {tp : Nat → Int32} {L : Nat} {v f : Nat → Int32} {u2 : Nat → Int32} (he : rd3 tp L v = u2) (h : 0 < u2 17) : rdT tp L v f = u2 := rdT_E (by rw [rdE, he, endV_st h]) h
theorem rdT_2 {tp : Nat → Int32} {L : Nat} {v f : Nat → Int32} {u2 : Nat → Int32} (he : rd2 tp L v = u2) (h : 0 < u2 17) : rdT tp L v f = u2 := rdT_3 (by rw [rd3, he, numV_st h]) h
theorem rdT_1 {tp : Nat → Int32} {L : Nat} {v f : Nat → Int32} {u2 : Nat → Int32} (he : rd1 tp L v = u2) (h : 0 < u2 17) : rdT tp L v f = u2 := rdT_2 (by rw [rd2, he, numV_st h]) h
theorem rdT_0 {tp : Nat → Int32} {L : Nat} {v f : Nat → Int32} {u2 : Nat → Int32} (he : rd0 tp L v = u2) (h : 0 < u2 17) : rdT tp L v f = u2 := rdT_1 (by rw [rd1, he, numV_st h]) h
theorem rdT_B {tp : Nat → Int32} {L : Nat} {v f : Nat → Int32} {u2 : Nat → Int32} (he : rdB tp L v = u2) (h : 0 < u2 17) : rdT tp L v f = u2 := rdT_0 (by rw [rd0, he, numV_st h]) h
