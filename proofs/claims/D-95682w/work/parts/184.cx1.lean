/-! The public calls that change nothing. -/
set_option maxRecDepth 100000
theorem CI.un {κ : Nat → Nat} {O : gO} {no : Nat} {v : Nat → Int32} {w : Nat → Nat → Int32} (hI : INV v w) (hC : CI κ O no v w) : ∃ (cv : Nat → Int32) (ad : Nat → Nat) (g : Nat → Nat → Option Nat) (cw : Nat → Nat → Int32) (rx : Nat → Int32) (rd : Nat → Nat) (rw : Nat → Nat → Int32) (mm : Nat) (kd : Nat → Nat) (mv : Nat → Nat → Int32) (n tm nt : Nat), CIx κ O no v w cv ad g cw ∧ O no = some (nsU cv ad g cw) ∧ O (ad 4) = some (rdU rx rd rw) ∧ rdR (w 5) rx rw mm kd mv ∧ mvs κ O (rd 8) mm kd mv ∧ mm ≤ 5 ∧ (rx 4 = nI n ∧ n ≤ 6) ∧ (rx 11 = nI tm ∧ tm ≤ 12) ∧ (rx 9 = nI nt ∧ nt ≤ 9999) ∧ tmOk (w 5) n tm ∧ mvOk n mm mv ∧ (∀ k, k < 6 → ∀ f, f < 3 → ∃ x, x ≤ 200 ∧ w 5 (8 + 3 * k + f) = nI x) := by
  obtain ⟨cv, ad, g, cw, hx⟩ := CI.x.mp hC
  obtain ⟨h1, h2, h3, h4, hr, ⟨rx, rd, rw, mm, kd, mv, z1, z2, z3⟩, hA, hP, hI2, hT⟩ := CIx.iff.mp hx
  obtain ⟨-, -, -, -, ⟨n, m2, tm, nt, k1, k2, k3, k4, k5, k6, k7, k8, -, k9, k10, k11⟩, -⟩ := hI
  have hm : mm ≤ 5 := by obtain ⟨_, _, _, _, _, q, -⟩ := z3; exact q
  have z2' := z2
  obtain ⟨y0, y1, y2, y3, y4, y5, y6, y7, y8, y9, y10⟩ := z2
  have em : mm = m2 := (nI_eq (by omega) (by omega)).mp (y5.symm.trans k3)
  subst em
  refine ⟨cv, ad, g, cw, rx, rd, rw, mm, kd, mv, n, tm, nt, hx, h1, z1, z2', z3, hm, ⟨by rw [← y4]; exact k1, k2⟩, ⟨by rw [← y7]; exact k5, k6⟩, ⟨by rw [← y6]; exact k7, k8⟩, k10, fun j hj => ?_, k11⟩
  obtain ⟨u1, u2, u3⟩ := k9 j hj
  obtain ⟨-, x1, x2, x3, -⟩ := y9 j hj
  rw [x1] at u1
  rw [x2] at u2
  rw [x3] at u3
  exact ⟨u1, u2, u3⟩
theorem same_ci {κ : Nat → Nat} {O O1 : gO} {no : Nat} {v : Nat → Int32} {w : Nat → Nat → Int32} {x : Int32} {rv : Option Value} {r : Int32} (hC : CI κ O no v w) (h : rv = some (.int r) ∧ O1 = O) : rv = some (.int r) ∧ CI κ O1 no (upd v 0 x) w ∧ kp3 O O1 := by
  obtain ⟨h1, rfl⟩ := h
  exact ⟨h1, hC.agr vA.z wA.rf, kp3.rf⟩
section CX
variable (l : Launch) (κ : Nat → Nat) (O : gO) (no : Nat) (v : Nat → Int32) (w : Nat → Nat → Int32)
theorem cx_fault (hC : CI κ O no v w) : cX l κ yX0_fault (ws_ yX0_fault cX0_fault 1 (some .int)) [] O no (v 11, upd v 0 0, w) := by
  obtain ⟨cv, ad, g, cw, hx⟩ := CI.x.mp hC
  refine (cn_fault l κ O no cv ad g cw hx.1).cx (Nat.le_of_ble_eq_true rfl) (Nat.le_of_ble_eq_true rfl) (Nat.le_of_ble_eq_true rfl) (Nat.le_of_ble_eq_true rfl) (fun rv O1 hp => ?_)
  rw [hx.2.1.2.1] at hp
  exact same_ci hC hp
theorem cx_status (hC : CI κ O no v w) : cX l κ yX0_status (ws_ yX0_status cX0_status 1 (some .int)) [] O no (v 1, upd v 0 0, w) := by
  obtain ⟨cv, ad, g, cw, hx⟩ := CI.x.mp hC
  refine (cn_status l κ O no cv ad g cw hx.1).cx (Nat.le_of_ble_eq_true rfl) (Nat.le_of_ble_eq_true rfl) (Nat.le_of_ble_eq_true rfl) (Nat.le_of_ble_eq_true rfl) (fun rv O1 hp => ?_)
  rw [hx.2.1.2.2.2] at hp
  exact same_ci hC hp
theorem op2_stone (x f : Int32) : (op_stone v w x f).2 = (upd v 0 0, w) := by unfold op_stone; split <;> rfl
theorem op2_carry (x y f : Int32) : (op_carry v w x y f).2 = (upd v 0 0, w) := by unfold op_carry; (repeat' split) <;> rfl
theorem op2_dare (x f : Int32) : (op_dare v w x f).2 = (upd v 0 0, w) := by unfold op_dare; (repeat' split) <;> rfl
theorem op2_best (x : Int32) : (op_best v w x).2 = (upd v 0 0, w) := by unfold op_best; (repeat' split) <;> rfl
theorem op2_kind (x : Int32) : (op_kind v w x).2 = (upd v 0 0, w) := by unfold op_kind; (repeat' split) <;> rfl
theorem op2_moved (x : Int32) : (op_moved v w x).2 = (upd v 0 0, w) := by unfold op_moved; (repeat' split) <;> rfl
theorem op2_trace (x : Int32) : (op_trace v w x).2 = (upd v 0 0, w) := by unfold op_trace; (repeat' split) <;> rfl
theorem cx_stone (hI : INV v w) (hC : CI κ O no v w) (x f : Int32) : cX l κ yX0_stone (ws_ yX0_stone cX0_stone 3 (some .int)) [.int x, .int f] O no (op_stone v w x f) := by
  obtain ⟨cv, ad, g, cw, rx, rd, rw, mm, kd, mv, n, tm, nt, hx, hN, hR, hro, hmv, hm, ⟨en, hn⟩, ⟨et, ht⟩, ⟨ent, hnt⟩, hto, hmo, hbd⟩ := CI.un hI hC
  refine (cn_stone l κ O no cv ad g cw rx rd rw v w x f hN hR mm kd mv hro n en hn).cx (Nat.le_of_ble_eq_true rfl) (Nat.le_of_ble_eq_true rfl) (Nat.le_of_ble_eq_true rfl) (Nat.le_of_ble_eq_true rfl) (fun rv O1 hp => ?_)
  rw [op2_stone]
  exact same_ci hC hp
theorem cx_carry (hI : INV v w) (hC : CI κ O no v w) (x y f : Int32) : cX l κ yX0_carry (ws_ yX0_carry cX0_carry 4 (some .int)) [.int x, .int y, .int f] O no (op_carry v w x y f) := by
  obtain ⟨cv, ad, g, cw, rx, rd, rw, mm, kd, mv, n, tm, nt, hx, hN, hR, hro, hmv, hm, ⟨en, hn⟩, ⟨et, ht⟩, ⟨ent, hnt⟩, hto, hmo, hbd⟩ := CI.un hI hC
  refine (cn_carry l κ O no cv ad g cw rx rd rw v w x y f hN hR mm kd mv hro n en hn hbd).cx (Nat.le_of_ble_eq_true rfl) (Nat.le_of_ble_eq_true rfl) (Nat.le_of_ble_eq_true rfl) (Nat.le_of_ble_eq_true rfl) (fun rv O1 hp => ?_)
  rw [op2_carry]
  exact same_ci hC hp
theorem cx_dare (hI : INV v w) (hC : CI κ O no v w) (hab : ∀ d, d ≤ 3 → ∃ A, A < 2 ^ 31 ∧ absI (brF (w 5) d (w 5 1)) = nI A) (x y : Int32) : cX l κ yX0_dare (ws_ yX0_dare cX0_dare 5 (some .int)) [.int x, .int y] O no (op_dare v w x y) := by
  obtain ⟨cv, ad, g, cw, rx, rd, rw, mm, kd, mv, n, tm, nt, hx, hN, hR, hro, hmv, hm, ⟨en, hn⟩, ⟨et, ht⟩, ⟨ent, hnt⟩, hto, hmo, hbd⟩ := CI.un hI hC
  refine (cn_dare l κ O no cv ad g cw rx rd rw v w x y hN hR mm kd mv hro n en hn hab).cx (Nat.le_of_ble_eq_true rfl) (Nat.le_of_ble_eq_true rfl) (Nat.le_of_ble_eq_true rfl) (Nat.le_of_ble_eq_true rfl) (fun rv O1 hp => ?_)
  rw [op2_dare]
  exact same_ci hC hp
theorem cx_best (hI : INV v w) (hC : CI κ O no v w) (hb0 : bestB (w 5) 0 3 = 0) (x : Int32) : cX l κ yX0_best (ws_ yX0_best cX0_best 4 (some .int)) [.int x] O no (op_best v w x) := by
  obtain ⟨cv, ad, g, cw, rx, rd, rw, mm, kd, mv, n, tm, nt, hx, hN, hR, hro, hmv, hm, ⟨en, hn⟩, ⟨et, ht⟩, ⟨ent, hnt⟩, hto, hmo, hbd⟩ := CI.un hI hC
  refine (cn_best l κ O no cv ad g cw rx rd rw v w x hN hR mm kd mv hro n en hn hb0).cx (Nat.le_of_ble_eq_true rfl) (Nat.le_of_ble_eq_true rfl) (Nat.le_of_ble_eq_true rfl) (Nat.le_of_ble_eq_true rfl) (fun rv O1 hp => ?_)
  rw [op2_best]
  exact same_ci hC hp
theorem cx_kind (hI : INV v w) (hC : CI κ O no v w) (x : Int32) : cX l κ yX0_kind (ws_ yX0_kind cX0_kind 2 (some .int)) [.int x] O no (op_kind v w x) := by
  obtain ⟨cv, ad, g, cw, rx, rd, rw, mm, kd, mv, n, tm, nt, hx, hN, hR, hro, hmv, hm, ⟨en, hn⟩, ⟨et, ht⟩, ⟨ent, hnt⟩, hto, hmo, hbd⟩ := CI.un hI hC
  refine (cn_kind l κ O no cv ad g cw rx rd rw v w x hN hR mm kd mv hro n en hn hmv).cx (Nat.le_of_ble_eq_true rfl) (Nat.le_of_ble_eq_true rfl) (Nat.le_of_ble_eq_true rfl) (Nat.le_of_ble_eq_true rfl) (fun rv O1 hp => ?_)
  rw [op2_kind]
  exact same_ci hC hp
theorem cx_moved (hI : INV v w) (hC : CI κ O no v w) (x : Int32) : cX l κ yX0_moved (ws_ yX0_moved cX0_moved 8 (some .int)) [.int x] O no (op_moved v w x) := by
  obtain ⟨cv, ad, g, cw, rx, rd, rw, mm, kd, mv, n, tm, nt, hx, hN, hR, hro, hmv, hm, ⟨en, hn⟩, ⟨et, ht⟩, ⟨ent, hnt⟩, hto, hmo, hbd⟩ := CI.un hI hC
  refine (cn_moved l κ O no cv ad g cw rx rd rw v w x hN hR mm kd mv hro n en hn).cx (Nat.le_of_ble_eq_true rfl) (Nat.le_of_ble_eq_true rfl) (Nat.le_of_ble_eq_true rfl) (Nat.le_of_ble_eq_true rfl) (fun rv O1 hp => ?_)
  rw [op2_moved]
  exact same_ci hC hp
theorem cx_count (hI : INV v w) (hC : CI κ O no v w) (x : Int32) : cX l κ yX0_count (ws_ yX0_count cX0_count 4 (some .int)) [.int x] O no (op_count v w x) := by
  obtain ⟨cv, ad, g, cw, rx, rd, rw, mm, kd, mv, n, tm, nt, hx, hN, hR, hro, hmv, hm, ⟨en, hn⟩, ⟨et, ht⟩, ⟨ent, hnt⟩, hto, hmo, hbd⟩ := CI.un hI hC
  refine (cn_count l κ O no cv ad g cw rx rd rw v w x hN hR mm kd mv hro n en hn hmv (fun j hj => ⟨(hx.2.2.2.1.1 j hj).1, fun q hq => ?_⟩) hx.2.1.1 hx.2.1.2.2.1).cx (Nat.le_of_ble_eq_true rfl) (Nat.le_of_ble_eq_true rfl) (Nat.le_of_ble_eq_true rfl) (Nat.le_of_ble_eq_true rfl) (fun rv O1 hp => ?_)
  · obtain ⟨x0, b0, n0, f0, z1, z2, z3, -⟩ := (hx.2.2.2.1.1 j hj).2 q hq
    rw [z2]; exact z3
  · exact same_ci hC hp
theorem cx_trace (hI : INV v w) (hC : CI κ O no v w) (x : Int32) : cX l κ yX0_trace (ws_ yX0_trace cX0_trace 2 (some .int)) [.int x] O no (op_trace v w x) := by
  obtain ⟨cv, ad, g, cw, hx⟩ := CI.x.mp hC
  obtain ⟨h1, h2, h3, h4, hr, hR, hA, hP, hI2, tv, td, tf, t1, t2, t3⟩ := CIx.iff.mp hx
  obtain ⟨-, -, ⟨t, et, ht⟩, -⟩ := hI
  refine (cn_trace l κ O no cv ad g cw tv td tf x t h1 t1 (t2.trans et) ht).cx (Nat.le_of_ble_eq_true rfl) (Nat.le_of_ble_eq_true rfl) (Nat.le_of_ble_eq_true rfl) (Nat.le_of_ble_eq_true rfl) (fun rv O1 hp => ?_)
  rw [op2_trace]
  refine same_ci hC ?_
  refine ⟨hp.1.trans ?_, hp.2⟩
  unfold op_trace
  rw [et]
  split
  · rename_i hq
    obtain ⟨j, hj, rfl⟩ := in_nI1 (by omega) hq
    rw [iN_nI (by omega), t3 t et ht j hj]
  · rfl
end CX
