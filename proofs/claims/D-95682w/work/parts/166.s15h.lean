/-! The text read: steps with names. -/
set_option maxRecDepth 100000
theorem rdA_RT {O O1 : gO} {a t0 md : Nat} {tp : Nat → Int32} {L : Nat} {ru v : Nat → Int32} {rd : Nat → Nat} (h2 : rd 0 = t0) (h3 : rd 7 = md) (h4 : v 1 = nI L) (hr : ru 10 = nI L) (p2 : L ≤ 400) (hx : rdNx O O1 a v rd tp L 0) : ∃ v1 rd1, RT O1 a t0 md tp L (rdA tp L ru) v1 rd1 :=
  RT.first (e := 0) h2 h3 h4 hr p2 rfl (Nat.zero_le _) hx
theorem rdB_so {tp : Nat → Int32} {L : Nat} {v uA uB : Nat → Int32} (dA : uA = rdA tp L v) (dB : uB = rdB tp L v) (hP : PV L uA) (hL : LT tp uA) (hw : isW tp uA 1) : uB = nxV tp L uA ∧ uB 17 = 0 := by
  subst dA; subst dB
  exact rdB_some hP hL hw
theorem rdB_no {tp : Nat → Int32} {L : Nat} {v uA uB : Nat → Int32} (dA : uA = rdA tp L v) (dB : uB = rdB tp L v) (hP : PV L uA) (hL : LT tp uA) (hw : ¬ isW tp uA 1) : uB 17 = 1 ∧ uB 18 = uA 15 ∧ 0 < uB 17 := by
  subst dA; subst dB
  exact rdB_none hP hL hw
theorem fr1_md {tp : Nat → Int32} {L : Nat} {ru f0 fE uB u0 u1 u2 : Nat → Int32} (dF : fE = fr1 tp L ru f0) (dB : uB = rdB tp L ru) (d0 : u0 = rd0 tp L ru) (d1 : u1 = rd1 tp L ru) (d2 : u2 = rd2 tp L ru) (kd : Nat → Nat) (mv : Nat → Nat → Int32) : mdR fE (upd (upd (upd (upd (fun _ => 0) 0 (numR tp uB)) 1 (numR tp u0)) 2 (numR tp u1)) 3 (numR tp u2)) (fun _ _ => 0) 0 kd mv := by
  rw [dF, dB, d0, d1, d2]
  exact mdR.zero _ _ _ _ _ kd mv
theorem rs_b4 {tp : Nat → Int32} {L : Nat} {ru f0 u f tV fV : Nat → Int32} {j : Nat} (dV : tV = rsV tp L u f) (hs : rdS tp L ru f0 = stnL tp L j tV fV) (h : 0 < tV 17) : rdT tp L ru f0 = tV := rdT_S hs h
theorem rs_b3 {tp : Nat → Int32} {L : Nat} {ru f0 u f t3 tV fV : Nat → Int32} {j : Nat} (c3 : t3 = rs3 tp L u f) (dV : tV = rsV tp L u f) (hs : rdS tp L ru f0 = stnL tp L j tV fV) (h : 0 < t3 17) : rdT tp L ru f0 = t3 := by
  have e : tV = t3 := by rw [dV, c3]; exact rs_st3 (by rw [← c3]; exact h)
  rw [← e]
  exact rdT_S hs (by rw [e]; exact h)
theorem rs_b2 {tp : Nat → Int32} {L : Nat} {ru f0 u f t3 tV fV : Nat → Int32} {j : Nat} (c3 : t3 = rs2 tp L u f) (dV : tV = rsV tp L u f) (hs : rdS tp L ru f0 = stnL tp L j tV fV) (h : 0 < t3 17) : rdT tp L ru f0 = t3 := by
  have e : tV = t3 := by rw [dV, c3]; exact rs_st2 (by rw [← c3]; exact h)
  rw [← e]
  exact rdT_S hs (by rw [e]; exact h)
theorem rs_b1 {tp : Nat → Int32} {L : Nat} {ru f0 u f t3 tV fV : Nat → Int32} {j : Nat} (c3 : t3 = rs1 tp L u f) (dV : tV = rsV tp L u f) (hs : rdS tp L ru f0 = stnL tp L j tV fV) (h : 0 < t3 17) : rdT tp L ru f0 = t3 := by
  have e : tV = t3 := by rw [dV, c3]; exact rs_st1 (by rw [← c3]; exact h)
  rw [← e]
  exact rdT_S hs (by rw [e]; exact h)
theorem rm_b {tp : Nat → Int32} {L : Nat} {ru f0 u f tV fV : Nat → Int32} {j : Nat} (dV : tV = rmV tp L u f) (hs : rdM tp L ru f0 = movL tp L j tV fV) (h17 : u 17 = 0) (h : ¬ tV 17 = 0) : rdT tp L ru f0 = tV := rdT_M hs (by rw [dV]; exact rmV_p h17 (by rw [← dV]; exact h))
theorem rsLo_of {f dv : Nat → Int32} {dw : Nat → Nat → Int32} {mm n : Nat} {kd : Nat → Nat} {mv : Nat → Nat → Int32} (hf4 : f 4 = nI n) (hn : n ≤ 6) (hmd : mdR f dv dw mm kd mv) : (if n = 0 then (0 : Int32) else dw 7 (n - 1) + 1) = rsLo f := by
  have i4 : iN (f 4) = n := by rw [hf4]; exact iN_nI (by omega)
  rw [rsLo, i4]
  by_cases e : n = 0
  · rw [if_pos e, if_pos (by rw [hf4, e]; rfl)]
  · rw [if_neg e, if_neg (show ¬ f 4 = 0 from fun h => e (neq_t (b := 0) (hf4.symm.trans h))), (hmd.2.2.2.2.2.2.2.2.1 (n - 1) (by omega)).2.1]
theorem rs_md {tp : Nat → Int32} {L : Nat} {u f dv t1 t2 tV fV : Nat → Int32} {dw : Nat → Nat → Int32} {n : Nat} {kd : Nat → Nat} {mv : Nat → Nat → Int32} (dF : fV = rsF tp L u f) (dV : tV = rsV tp L u f) (c1 : t1 = rs1 tp L u f) (c2 : t2 = rs2 tp L u f) (hmd : mdR f dv dw 0 kd mv) (hf4 : f 4 = nI n) (b4 : tV 17 = 0) (hn : n < 6) : mdR fV (upd dv 4 (nI (n + 1))) (wput (wput dw 5 (upd (dw 5) n (numR tp t1))) 7 (upd (dw 7) n (numR tp t2))) 0 kd mv := by
  have i4 : iN (f 4) = n := by rw [hf4]; exact iN_nI (by omega)
  rw [dF, c1, c2, rsF, if_pos (by rw [← dV]; exact b4), i4]
  exact hmd.st hf4 hn _ _
theorem rm_md {tp : Nat → Int32} {L : Nat} {u f dv yV zV : Nat → Int32} {dw : Nat → Nat → Int32} {n : Nat} {kd kd1 : Nat → Nat} {mv mv1 : Nat → Nat → Int32} (dz : zV = rmF tp L u f) (dy : yV = rmV tp L u f) (hmd : mdR f dv dw n kd mv) (hf5 : f 5 = nI n) (hn : n < 5) (c6 : yV 17 = 0) (ho : ∀ j, j < n → kd1 j = kd j ∧ mv1 j = mv j) (hK : nI (kd1 n) = rmK tp L u f) (hN : mv1 n = mvN (nI n) (numR tp (rm2 tp L u f)) (if numR tp (rm3 tp L u f) = 1 then 1 else 0) (numR tp (rm4 tp L u f))) : mdR zV dv dw (n + 1) kd1 mv1 := by
  have i5 : iN (f 5) = n := by rw [hf5]; exact iN_nI (by omega)
  have k6 : rmV tp L u f 17 = 0 := by rw [← dy]; exact c6
  have k5 : rm5 tp L u f 17 = 0 := endV_17 k6
  have k4 : rm4 tp L u f 17 = 0 := numV_17 k5
  have k3 : rm3 tp L u f 17 = 0 := numV_17 k4
  rw [numR_01 k3 k4] at hN
  rw [dz, rmF, if_pos k6, i5]
  exact hmd.mv hn ho hK hN
