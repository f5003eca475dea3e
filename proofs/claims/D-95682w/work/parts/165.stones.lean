/-! The road as it is read. -/
set_option maxRecDepth 100000
def mdR (f dv : Nat → Int32) (dw : Nat → Nat → Int32) (mm : Nat) (kd : Nat → Nat) (mv : Nat → Nat → Int32) : Prop :=
  f 0 = dv 0 ∧ f 1 = dv 1 ∧ f 2 = dv 2 ∧ f 3 = dv 3 ∧ f 4 = dv 4 ∧ f 5 = nI mm ∧ f 6 = 0 ∧ f 7 = dv 11 ∧ (∀ k, k < 6 → f (8 + 3 * k) = dw 5 k ∧ f (8 + 3 * k + 1) = dw 7 k ∧ f (8 + 3 * k + 2) = dw 7 k) ∧
  (∀ j, j < mm → f (26 + 4 * j) = nI (kd j) ∧ f (26 + 4 * j + 1) = mv j 1 ∧ f (26 + 4 * j + 2) = mv j 2 ∧ f (26 + 4 * j + 3) = mv j 3 ∧ mv j 0 = nI j) ∧ ∀ q, q < 48 → f (46 + q) = dw 10 q
theorem mdR.home {f dv : Nat → Int32} {dw : Nat → Nat → Int32} {mm : Nat} {kd : Nat → Nat} {mv : Nat → Nat → Int32} (h : mdR f dv dw mm kd mv) : rdR f (upd dv 9 0) (wput dw 6 (dw 7)) mm kd mv := by
  obtain ⟨h0, h1, h2, h3, h4, h5, h6, h7, h8, h9, h10⟩ := h
  exact ⟨h0, h1, h2, h3, h4, h5, h6, h7, fun k hk => ⟨(h8 k hk).1, (h8 k hk).2.1, (h8 k hk).2.2⟩, h9, h10⟩
theorem mdR.zero (f : Nat → Int32) (x0 x1 x2 x3 : Int32) (kd : Nat → Nat) (mv : Nat → Nat → Int32) : mdR (upd (upd (upd (upd (fz f 94) 0 x0) 1 x1) 2 x2) 3 x3) (upd (upd (upd (upd (fun _ => 0) 0 x0) 1 x1) 2 x2) 3 x3) (fun _ _ => 0) 0 kd mv := by
  have z : ∀ i, 4 ≤ i → i < 94 → upd (upd (upd (upd (fz f 94) 0 x0) 1 x1) 2 x2) 3 x3 i = 0 := by
    intro i h1 h2
    rw [upd_n (by omega), upd_n (by omega), upd_n (by omega), upd_n (by omega), fz, if_pos h2]
  refine ⟨rfl, rfl, rfl, rfl, z 4 (by omega) (by omega), z 5 (by omega) (by omega), z 6 (by omega) (by omega), z 7 (by omega) (by omega), fun k hk => ⟨z _ (by omega) (by omega), z _ (by omega) (by omega), z _ (by omega) (by omega)⟩, fun j hj => absurd hj (by omega), fun q hq => z _ (by omega) (by omega)⟩
theorem mdR.st {f dv : Nat → Int32} {dw : Nat → Nat → Int32} {kd : Nat → Nat} {mv : Nat → Nat → Int32} (h : mdR f dv dw 0 kd mv) {n : Nat} (hf : f 4 = nI n) (hn : n < 6) (A B : Int32) : mdR (upd (st3 f n A B) 4 (st3 f n A B 4 + 1)) (upd dv 4 (nI (n + 1))) (wput (wput dw 5 (upd (dw 5) n A)) 7 (upd (dw 7) n B)) 0 kd mv := by
  obtain ⟨h0, h1, h2, h3, h4, h5, h6, h7, h8, h9, h10⟩ := h
  have o : ∀ i, (i < 8 ∨ 26 ≤ i) → i ≠ 4 → upd (st3 f n A B) 4 (st3 f n A B 4 + 1) i = f i := by
    intro i hi h4
    rw [upd_n h4, st3, upd_n (by omega), upd_n (by omega), upd_n (by omega)]
  refine ⟨(o 0 (by omega) (by omega)).trans h0, (o 1 (by omega) (by omega)).trans h1, (o 2 (by omega) (by omega)).trans h2, (o 3 (by omega) (by omega)).trans h3, ?_, (o 5 (by omega) (by omega)).trans h5, (o 6 (by omega) (by omega)).trans h6, (o 7 (by omega) (by omega)).trans h7, fun k hk => ?_, fun j hj => absurd hj (by omega), fun q hq => (o _ (by omega) (by omega)).trans (h10 q hq)⟩
  · rw [upd_s, upd_s, st3, upd_n (by omega), upd_n (by omega), upd_n (by omega), hf, nI_1]
  · show _ = upd (dw 5) n A k ∧ _ = upd (dw 7) n B k ∧ _ = upd (dw 7) n B k
    rw [upd_n (show 8 + 3 * k ≠ 4 by omega), upd_n (show 8 + 3 * k + 1 ≠ 4 by omega), upd_n (show 8 + 3 * k + 2 ≠ 4 by omega)]
    by_cases e : k = n
    · subst e
      unfold st3
      rw [upd_s, upd_n (show 8 + 3 * k + 1 ≠ 8 + 3 * k + 2 by omega), upd_s, upd_n (show 8 + 3 * k ≠ 8 + 3 * k + 2 by omega), upd_n (show 8 + 3 * k ≠ 8 + 3 * k + 1 by omega), upd_s, upd_s, upd_s]
      exact ⟨rfl, rfl, rfl⟩
    · unfold st3
      rw [upd_n (show 8 + 3 * k ≠ 8 + 3 * n + 2 by omega), upd_n (show 8 + 3 * k ≠ 8 + 3 * n + 1 by omega), upd_n (show 8 + 3 * k ≠ 8 + 3 * n by omega), upd_n (show 8 + 3 * k + 1 ≠ 8 + 3 * n + 2 by omega), upd_n (show 8 + 3 * k + 1 ≠ 8 + 3 * n + 1 by omega), upd_n (show 8 + 3 * k + 1 ≠ 8 + 3 * n by omega), upd_n (show 8 + 3 * k + 2 ≠ 8 + 3 * n + 2 by omega), upd_n (show 8 + 3 * k + 2 ≠ 8 + 3 * n + 1 by omega), upd_n (show 8 + 3 * k + 2 ≠ 8 + 3 * n by omega), upd_n e, upd_n e]
      exact h8 k hk
theorem mdR.mv {f dv : Nat → Int32} {dw : Nat → Nat → Int32} {mm : Nat} {kd kd1 : Nat → Nat} {mv mv1 : Nat → Nat → Int32} (h : mdR f dv dw mm kd mv) (hm : mm < 5) {K A B C : Int32} (ho : ∀ j, j < mm → kd1 j = kd j ∧ mv1 j = mv j) (hK : nI (kd1 mm) = K) (hN : mv1 mm = mvN (nI mm) A B C) : mdR (upd (mv4 f mm K A B C) 5 (mv4 f mm K A B C 5 + 1)) dv dw (mm + 1) kd1 mv1 := by
  obtain ⟨h0, h1, h2, h3, h4, h5, h6, h7, h8, h9, h10⟩ := h
  have o : ∀ i, (i < 26 ∨ 46 ≤ i) → i ≠ 5 → upd (mv4 f mm K A B C) 5 (mv4 f mm K A B C 5 + 1) i = f i := by
    intro i hi h4
    rw [upd_n h4, mv4, upd_n (by omega), upd_n (by omega), upd_n (by omega), upd_n (by omega)]
  refine ⟨(o 0 (by omega) (by omega)).trans h0, (o 1 (by omega) (by omega)).trans h1, (o 2 (by omega) (by omega)).trans h2, (o 3 (by omega) (by omega)).trans h3, (o 4 (by omega) (by omega)).trans h4, ?_, (o 6 (by omega) (by omega)).trans h6, (o 7 (by omega) (by omega)).trans h7, fun k hk => ⟨(o _ (by omega) (by omega)).trans (h8 k hk).1, (o _ (by omega) (by omega)).trans (h8 k hk).2.1, (o _ (by omega) (by omega)).trans (h8 k hk).2.2⟩, fun j hj => ?_, fun q hq => (o _ (by omega) (by omega)).trans (h10 q hq)⟩
  · rw [upd_s, mv4, upd_n (by omega), upd_n (by omega), upd_n (by omega), upd_n (by omega), h5, nI_1]
  · rw [upd_n (show 26 + 4 * j ≠ 5 by omega), upd_n (show 26 + 4 * j + 1 ≠ 5 by omega), upd_n (show 26 + 4 * j + 2 ≠ 5 by omega), upd_n (show 26 + 4 * j + 3 ≠ 5 by omega)]
    by_cases e : j = mm
    · subst e
      rw [hN, hK]
      unfold mv4
      rw [upd_s, upd_n (show 26 + 4 * j + 2 ≠ 26 + 4 * j + 3 by omega), upd_s, upd_n (show 26 + 4 * j + 1 ≠ 26 + 4 * j + 3 by omega), upd_n (show 26 + 4 * j + 1 ≠ 26 + 4 * j + 2 by omega), upd_s, upd_n (show 26 + 4 * j ≠ 26 + 4 * j + 3 by omega), upd_n (show 26 + 4 * j ≠ 26 + 4 * j + 2 by omega), upd_n (show 26 + 4 * j ≠ 26 + 4 * j + 1 by omega), upd_s]
      exact ⟨rfl, rfl, rfl, rfl, rfl⟩
    · rw [(ho j (by omega)).1, (ho j (by omega)).2]
      unfold mv4
      rw [upd_n (show 26 + 4 * j ≠ 26 + 4 * mm + 3 by omega), upd_n (show 26 + 4 * j ≠ 26 + 4 * mm + 2 by omega), upd_n (show 26 + 4 * j ≠ 26 + 4 * mm + 1 by omega), upd_n (show 26 + 4 * j ≠ 26 + 4 * mm by omega), upd_n (show 26 + 4 * j + 1 ≠ 26 + 4 * mm + 3 by omega), upd_n (show 26 + 4 * j + 1 ≠ 26 + 4 * mm + 2 by omega), upd_n (show 26 + 4 * j + 1 ≠ 26 + 4 * mm + 1 by omega), upd_n (show 26 + 4 * j + 1 ≠ 26 + 4 * mm by omega), upd_n (show 26 + 4 * j + 2 ≠ 26 + 4 * mm + 3 by omega), upd_n (show 26 + 4 * j + 2 ≠ 26 + 4 * mm + 2 by omega), upd_n (show 26 + 4 * j + 2 ≠ 26 + 4 * mm + 1 by omega), upd_n (show 26 + 4 * j + 2 ≠ 26 + 4 * mm by omega), upd_n (show 26 + 4 * j + 3 ≠ 26 + 4 * mm + 3 by omega), upd_n (show 26 + 4 * j + 3 ≠ 26 + 4 * mm + 2 by omega), upd_n (show 26 + 4 * j + 3 ≠ 26 + 4 * mm + 1 by omega), upd_n (show 26 + 4 * j + 3 ≠ 26 + 4 * mm by omega)]
      exact h9 j (by omega)
section PBF
variable {κ : Nat → Nat} {O O1 O2 : gO} {a no md la : Nat} {cv : Nat → Int32} {nd : Nat → Nat} {g : Nat → Nat → Option Nat} {cw : Nat → Nat → Int32} {tp : Nat → Int32} {L : Nat} {u v : Nat → Int32} {rd : Nat → Nat} {dv : Nat → Int32} {dd : Nat → Nat} {dw : Nat → Nat → Int32} {mm : Nat} {kd : Nat → Nat} {mv : Nat → Nat → Int32}
theorem PB.self (h : PB κ O O1 a no md la cv nd g cw tp L u v rd dv dd dw mm kd mv) : PB κ O1 O1 a no md la cv nd g cw tp L u v rd dv dd dw mm kd mv := ⟨h.1, h.2.1, h.2.2.1, h.2.2.2.1, h.2.2.2.2.1, kpL.rf⟩
theorem PB.lift {u2 v2 dv2 : Nat → Int32} {rd2 dd2 : Nat → Nat} {dw2 : Nat → Nat → Int32} {mm2 : Nat} {kd2 : Nat → Nat} {mv2 : Nat → Nat → Int32} (h : PB κ O O1 a no md la cv nd g cw tp L u v rd dv dd dw mm kd mv) (h2 : PB κ O1 O2 a no md la cv nd g cw tp L u2 v2 rd2 dv2 dd2 dw2 mm2 kd2 mv2) : PB κ O O2 a no md la cv nd g cw tp L u2 v2 rd2 dv2 dd2 dw2 mm2 kd2 mv2 :=
  ⟨h2.1, h2.2.1, h2.2.2.1, h2.2.2.2.1, h2.2.2.2.2.1, h.2.2.2.2.2.tr h2.2.2.2.2.2 (fun b hb => hb)⟩
theorem PB.first (hO : O a = some (rrU v rd)) (hN : O no = some (nsU cv nd g cw)) (hD : O md = some (rdU dv dd dw)) (h8 : dd 8 = la) (hm : mvs κ O la mm kd mv) (hk : kpA O O1 a) {v2 : Nat → Int32} {rd2 : Nat → Nat} (hR : RT O1 a (nd 1) md tp L u v2 rd2) : PB κ O O1 a no md la cv nd g cw tp L u v2 rd2 dv dd dw mm kd mv :=
  ⟨hR, hk _ _ (o_ne hN hO (by decide)) hN, hk _ _ (o_ne hD hO (by decide)) hD, h8, hm.kp (hk.M hO (by decide)), kpL.rf.A hk (by simp)⟩
end PBF
theorem rdB_some {tp : Nat → Int32} {L : Nat} {v : Nat → Int32} (hP : PV L (rdA tp L v)) (hL : LT tp (rdA tp L v)) (hw : isW tp (rdA tp L v) 1) : rdB tp L v = nxV tp L (rdA tp L v) ∧ rdB tp L v 17 = 0 := by
  have h17 : rdA tp L v 17 = 0 := rfl
  have e : rdB tp L v = nxV tp L (rdA tp L v) := by rw [rdB, bI_t ((nw_1 hP hL h17).mpr hw), mustV, if_pos h17, if_neg (by decide)]
  exact ⟨e, by rw [e]; rfl⟩
theorem rdB_none {tp : Nat → Int32} {L : Nat} {v : Nat → Int32} (hP : PV L (rdA tp L v)) (hL : LT tp (rdA tp L v)) (hw : ¬ isW tp (rdA tp L v) 1) : rdB tp L v 17 = 1 ∧ rdB tp L v 18 = rdA tp L v 15 ∧ 0 < rdB tp L v 17 := by
  have h17 : rdA tp L v 17 = 0 := rfl
  have := badV_17 h17 1
  rw [rdB, bI_f (fun h => hw ((nw_1 hP hL h17).mp h)), mustV, if_pos h17, if_pos rfl, this.1, this.2]
  exact ⟨rfl, rfl, by decide⟩
/-! A stone's steps. -/
def rs1 (tp : Nat → Int32) (L : Nat) (u f : Nat → Int32) : Nat → Int32 := begV tp L u f 4 6
def rs2 (tp : Nat → Int32) (L : Nat) (u f : Nat → Int32) : Nat → Int32 := numV tp L (rs1 tp L u f) 0 200
def rs3 (tp : Nat → Int32) (L : Nat) (u f : Nat → Int32) : Nat → Int32 := numV tp L (rs2 tp L u f) (rsLo f) (f 0)
theorem rs_st3 {tp : Nat → Int32} {L : Nat} {u f : Nat → Int32} (h : 0 < rs3 tp L u f 17) : rsV tp L u f = rs3 tp L u f := endV_st h
theorem rs_st2 {tp : Nat → Int32} {L : Nat} {u f : Nat → Int32} (h : 0 < rs2 tp L u f 17) : rsV tp L u f = rs2 tp L u f := by
  have e : rs3 tp L u f = rs2 tp L u f := numV_st h
  rw [rs_st3 (by rw [e]; exact h), e]
theorem rs_st1 {tp : Nat → Int32} {L : Nat} {u f : Nat → Int32} (h : 0 < rs1 tp L u f 17) : rsV tp L u f = rs1 tp L u f := by
  have e : rs2 tp L u f = rs1 tp L u f := numV_st h
  rw [rs_st2 (by rw [e]; exact h), e]
theorem rsV_p {tp : Nat → Int32} {L : Nat} {u f : Nat → Int32} (h17 : u 17 = 0) (h : ¬ rsV tp L u f 17 = 0) : 0 < rsV tp L u f 17 := by
  by_cases k1 : rs1 tp L u f 17 = 0
  · by_cases k2 : rs2 tp L u f 17 = 0
    · by_cases k3 : rs3 tp L u f 17 = 0
      · exact endV_p k3 h
      · rw [rs_st3 (numV_p k2 k3)]; exact numV_p k2 k3
    · rw [rs_st2 (numV_p k1 k2)]; exact numV_p k1 k2
  · rw [rs_st1 (begV_p h17 k1)]; exact begV_p h17 k1
theorem rmV_p {tp : Nat → Int32} {L : Nat} {u f : Nat → Int32} (h17 : u 17 = 0) (h : ¬ rmV tp L u f 17 = 0) : 0 < rmV tp L u f 17 := by
  by_cases k1 : rm1 tp L u f 17 = 0
  · by_cases k2 : rm2 tp L u f 17 = 0
    · by_cases k3 : rm3 tp L u f 17 = 0
      · by_cases k4 : rm4 tp L u f 17 = 0
        · by_cases k5 : rm5 tp L u f 17 = 0
          · exact endV_p k5 h
          · rw [rm_st5 (numV_p k4 k5)]; exact numV_p k4 k5
        · rw [rm_st4 (numV_p k3 k4)]; exact numV_p k3 k4
      · rw [rm_st3 (numV_p k2 k3)]; exact numV_p k2 k3
    · have k2p : 0 < rm2 tp L u f 17 := by
        rw [rm2, if_pos k1]
        rw [rm2, if_pos k1] at k2
        rcases mustV_k (tp := tp) (L := L) (x := if rmK tp L u f = -1000000 then 0 else 1) k1 with k | k
        · exact absurd k.1 k2
        · exact k.1
      rw [rm_st2 k2p]; exact k2p
  · rw [rm_st1 (begV_p h17 k1)]; exact begV_p h17 k1
/-- no fault at the end: none before -/
theorem rs_fin {tp : Nat → Int32} {L : Nat} {v f0 : Nat → Int32} {u f : Nat → Int32} {j : Nat} (hm : rdS tp L v f0 = stnL tp L (j + 1) u f) (h17 : u 17 = 0) (hn : nameV tp u = 495874698853) : rdS tp L v f0 = stnL tp L j (rsV tp L u f) (rsF tp L u f) ∧ (rdT tp L v f0 17 = 0 → rsV tp L u f 17 = 0) := by
  have e : rdS tp L v f0 = stnL tp L j (rsV tp L u f) (rsF tp L u f) := by rw [hm, stnL, if_pos hn]
  refine ⟨e, fun h => ?_⟩
  by_cases q : rsV tp L u f 17 = 0
  · exact q
  · rw [rdT_S e (rsV_p h17 q)] at h; exact h
theorem rm_fin {tp : Nat → Int32} {L : Nat} {v f0 : Nat → Int32} {u f : Nat → Int32} {j : Nat} (hm : rdM tp L v f0 = movL tp L (j + 1) u f) (h17 : u 17 = 0) (hn : nameV tp u = 470021465458) : rdM tp L v f0 = movL tp L j (rmV tp L u f) (rmF tp L u f) ∧ (rdT tp L v f0 17 = 0 → rmV tp L u f 17 = 0) := by
  have e : rdM tp L v f0 = movL tp L j (rmV tp L u f) (rmF tp L u f) := by rw [hm, movL, if_pos hn]
  refine ⟨e, fun h => ?_⟩
  by_cases q : rmV tp L u f 17 = 0
  · exact q
  · rw [rdT_M e (rmV_p h17 q)] at h; exact h
theorem numR_01 {tp : Nat → Int32} {L : Nat} {u f : Nat → Int32} (k3 : rm3 tp L u f 17 = 0) (k4 : rm4 tp L u f 17 = 0) : (if numR tp (rm3 tp L u f) = 1 then (1 : Int32) else 0) = numR tp (rm3 tp L u f) := by
  rcases numV_k (tp := tp) (L := L) (lo := 0) (hi := 1) k3 with ⟨-, -, k, -, e⟩ | ⟨k, -⟩
  · rw [e]
    obtain ⟨j, hj, e2⟩ := in_nI (N := 1) (b := 1) (by decide) (a := 0) rfl k
    rw [e2]
    rcases (show j = 0 ∨ j = 1 by omega) with rfl | rfl <;> decide
  · exact absurd k4 (pos_n k)
