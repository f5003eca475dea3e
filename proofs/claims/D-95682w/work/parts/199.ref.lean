/-! One form for all of the reference's public calls. -/
set_option maxRecDepth 100000
def RM3 : Room := { frames := 5, cells := 0, slots := 0, locals := 111 }
/-- a public call of the reference: it answers as t says, and its numbers are as t says where it matters -/
abbrev rX (l : Launch) (y : MethodName) (bytes : ByteArray) (maxL : Nat) (As : List Value) (v : Nat → Int32) (w : Nat → Nat → Int32) (t : mR) : Prop :=
  mMi l y bytes maxL (some .int) RM3 As v w (fun r v1 w1 => r = t.1 ∧ vA t.2.1 v1 ∧ wA t.2.2 w1)
theorem Met.qi {l : Launch} {y : MethodName} {ws : List Cond} {rm : Room} {Pc : Array Value → State → Prop} {S : Type} {post post' : Int32 → S → Prop} {B : S → State → Prop} {A : Nat → Prop} {mc ms : Nat} {free : Addr → Prop} (h : Met l y ws rm Pc (va_Qi post B A) mc ms free) (hp : ∀ r u, post r u → post' r u) : Met l y ws rm Pc (va_Qi post' B A) mc ms free := by
  intro p e ha hc hk s m args below hf happ hP hK
  obtain ⟨n, o, h1, h2, h3, ⟨⟨r, u, e1, e2, e3⟩, h5⟩, h6⟩ := h p e ha hc hk s m args below hf happ hP hK
  exact ⟨n, o, h1, h2, h3, ⟨⟨r, u, e1, hp r u e2, e3⟩, h5⟩, h6⟩
theorem mMi.rx {l : Launch} {y : MethodName} {bytes : ByteArray} {maxL : Nat} {fr lo : Nat} {As : List Value} {v : Nat → Int32} {w : Nat → Nat → Int32} {t : mR} {post : Int32 → (Nat → Int32) → (Nat → Nat → Int32) → Prop} (h : mMi l y bytes maxL (some .int) { frames := fr, cells := 0, slots := 0, locals := lo } As v w post) (h1 : fr ≤ 5) (h4 : lo ≤ 111) (hp : ∀ r v1 w1, post r v1 w1 → r = t.1 ∧ vA t.2.1 v1 ∧ wA t.2.2 w1) : rX l y bytes maxL As v w t :=
  fun D ac A G mo ad => ((h D ac A G mo ad).qi (fun r u => hp r u.1 u.2)).wide (rm' := RM3) h1 (Nat.le_refl 0) (Nat.le_refl 0) h4
theorem vA.rf {v : Nat → Int32} : vA v v := ⟨rfl, rfl, rfl, rfl, rfl⟩
theorem ex3 {t : mR} : ∀ (r : Int32) (v1 : Nat → Int32) (w1 : Nat → Nat → Int32), (r, v1, w1) = t → r = t.1 ∧ vA t.2.1 v1 ∧ wA t.2.2 w1 := by
  rintro r v1 w1 rfl
  exact ⟨rfl, vA.rf, wA.rf⟩
theorem ex3n {v : Nat → Int32} {w : Nat → Nat → Int32} {r0 : Int32} (P : Nat → Prop) (hP : ∀ q, q = 2 ∨ q = 3 ∨ q = 4 ∨ q = 5 ∨ q = 7 ∨ q = 9 ∨ q = 22 ∨ q = 23 ∨ q = 24 → P q) {r : Int32} {v1 : Nat → Int32} {w1 : Nat → Nat → Int32} (h : r = r0 ∧ v1 = upd v 0 0 ∧ ∀ q, P q → w1 q = w q) : r = r0 ∧ vA (upd v 0 0) v1 ∧ wA w w1 := by
  obtain ⟨h1, rfl, h3⟩ := h
  exact ⟨h1, vA.rf, h3 2 (hP 2 (by omega)), h3 3 (hP 3 (by omega)), h3 4 (hP 4 (by omega)), h3 5 (hP 5 (by omega)), h3 7 (hP 7 (by omega)), h3 9 (hP 9 (by omega)), h3 22 (hP 22 (by omega)), h3 23 (hP 23 (by omega)), h3 24 (hP 24 (by omega))⟩
theorem INV.un {v : Nat → Int32} {w : Nat → Nat → Int32} (h : INV v w) : ∃ n mm tm nt a T t : Nat, rdN w n mm tm ∧ w 5 6 = nI nt ∧ nt < 2 ^ 29 ∧ movOk (w 5) n mm ∧ tmOk (w 5) n tm ∧ v 8 = nI a ∧ a ≤ 24 ∧ v 10 = nI T ∧ T ≤ 400 ∧ tpOk (w 9) T ∧ v 25 = nI t ∧ t ≤ 16 ∧ rowsOk w := by
  obtain ⟨⟨a, ea, ha, -⟩, ⟨T, eT, hT, hok⟩, ⟨t, et, ht⟩, ro, ⟨n, m2, tm, nt, k1, k2, k3, k4, k5, k6, k7, k8, -, k9, k10, k11⟩, -⟩ := h
  refine ⟨n, m2, tm, nt, a, T, t, ⟨k1, k2, k3, k4, k5, k6⟩, k7, by omega, fun m hm => ?_, k10, ea, ha, eT, hT, hok, et, ht, ro⟩
  obtain ⟨⟨k, z1, z2⟩, -, r, z3, z4⟩ := k9 m hm
  exact ⟨k, r, z2, z1, z4, z3⟩
section RX
variable (l : Launch) (v : Nat → Int32) (w : Nat → Nat → Int32)
theorem rx_row (h : INV v w) (x : Int32) (y : Int32) (z : Int32) : rX l yX3_row cX3_row 5 [.int x, .int y, .int z] v w (op_row v w x y z) := by
  obtain ⟨n, mm, tm, nt, a, T, tt, hd, ent, hnt, hmo, hto, ea, ha, eT, hT, htp, ett, htt, hw⟩ := h.un
  obtain ⟨k1, k2, k3, k4, k5, k6⟩ := id hd
  exact (mc_row l v w x y z ).rx (by decide) (by decide) ex3
theorem rx_set (h : INV v w) (x : Int32) (y : Int32) (z : Int32) : rX l yX3_set cX3_set 4 [.int x, .int y, .int z] v w (op_set v w x y z) := by
  obtain ⟨n, mm, tm, nt, a, T, tt, hd, ent, hnt, hmo, hto, ea, ha, eT, hT, htp, ett, htt, hw⟩ := h.un
  obtain ⟨k1, k2, k3, k4, k5, k6⟩ := id hd
  exact (mc_set l v w x y z hw).rx (by decide) (by decide) ex3
theorem rx_copy (h : INV v w) (x : Int32) (y : Int32) (z : Int32) (u : Int32) (s : Int32) : rX l yX3_copy cX3_copy 9 [.int x, .int y, .int z, .int u, .int s] v w (op_copy v w x y z u s) := by
  obtain ⟨n, mm, tm, nt, a, T, tt, hd, ent, hnt, hmo, hto, ea, ha, eT, hT, htp, ett, htt, hw⟩ := h.un
  obtain ⟨k1, k2, k3, k4, k5, k6⟩ := id hd
  exact (mc_copy l v w x y z u s hw).rx (by decide) (by decide) ex3
theorem rx_drop (h : INV v w) (x : Int32) : rX l yX3_drop cX3_drop 2 [.int x] v w (op_drop v w x) := by
  obtain ⟨n, mm, tm, nt, a, T, tt, hd, ent, hnt, hmo, hto, ea, ha, eT, hT, htp, ett, htt, hw⟩ := h.un
  obtain ⟨k1, k2, k3, k4, k5, k6⟩ := id hd
  exact (mc_drop l v w x ).rx (by decide) (by decide) ex3
theorem rx_road (h : INV v w)  : rX l yX3_road cX3_road 2 [] v w (op_road v w ) := by
  obtain ⟨n, mm, tm, nt, a, T, tt, hd, ent, hnt, hmo, hto, ea, ha, eT, hT, htp, ett, htt, hw⟩ := h.un
  obtain ⟨k1, k2, k3, k4, k5, k6⟩ := id hd
  exact (mc_road l v w  T eT hT htp).rx (by decide) (by decide) ex3
theorem rx_night (h : INV v w)  : rX l yX3_night cX3_night 3 [] v w (op_night v w ) := by
  obtain ⟨n, mm, tm, nt, a, T, tt, hd, ent, hnt, hmo, hto, ea, ha, eT, hT, htp, ett, htt, hw⟩ := h.un
  obtain ⟨k1, k2, k3, k4, k5, k6⟩ := id hd
  exact (mc_night l v w  n mm a nt k1 k2 k3 k4 hmo ea ha ent hnt).rx (by decide) (by decide) ex3
theorem rx_prove (h : INV v w) (x : Int32) : rX l yX3_prove cX3_prove 7 [.int x] v w (op_prove v w x) := by
  obtain ⟨n, mm, tm, nt, a, T, tt, hd, ent, hnt, hmo, hto, ea, ha, eT, hT, htp, ett, htt, hw⟩ := h.un
  obtain ⟨k1, k2, k3, k4, k5, k6⟩ := id hd
  exact (mc_prove l v w x n k1 k2 a ea ha).rx (by decide) (by decide) ex3
theorem rx_undo (h : INV v w)  : rX l yX3_undo cX3_undo 2 [] v w (op_undo v w ) := by
  obtain ⟨n, mm, tm, nt, a, T, tt, hd, ent, hnt, hmo, hto, ea, ha, eT, hT, htp, ett, htt, hw⟩ := h.un
  obtain ⟨k1, k2, k3, k4, k5, k6⟩ := id hd
  exact (mc_undo l v w  a ea ha).rx (by decide) (by decide) ex3
theorem rx_stone (h : INV v w) (x : Int32) (y : Int32) : rX l yX3_stone cX3_stone 3 [.int x, .int y] v w (op_stone v w x y) := by
  obtain ⟨n, mm, tm, nt, a, T, tt, hd, ent, hnt, hmo, hto, ea, ha, eT, hT, htp, ett, htt, hw⟩ := h.un
  obtain ⟨k1, k2, k3, k4, k5, k6⟩ := id hd
  exact (mc_stone l v w x y n mm tm hd).rx (by decide) (by decide) ex3
theorem rx_carry (h : INV v w) (x : Int32) (y : Int32) (z : Int32) : rX l yX3_carry cX3_carry 4 [.int x, .int y, .int z] v w (op_carry v w x y z) := by
  obtain ⟨n, mm, tm, nt, a, T, tt, hd, ent, hnt, hmo, hto, ea, ha, eT, hT, htp, ett, htt, hw⟩ := h.un
  obtain ⟨k1, k2, k3, k4, k5, k6⟩ := id hd
  exact (mc_carry l v w x y z n mm tm hd).rx (by decide) (by decide) ex3
theorem rx_time (h : INV v w) (x : Int32) (y : Int32) (z : Int32) (u : Int32) : rX l yX3_time cX3_time 5 [.int x, .int y, .int z, .int u] v w (op_time v w x y z u) := by
  obtain ⟨n, mm, tm, nt, a, T, tt, hd, ent, hnt, hmo, hto, ea, ha, eT, hT, htp, ett, htt, hw⟩ := h.un
  obtain ⟨k1, k2, k3, k4, k5, k6⟩ := id hd
  exact (mc_time l v w x y z u n mm tm hd).rx (by decide) (by decide) ex3
theorem rx_times (h : INV v w) (x : Int32) (y : Int32) (z : Int32) : rX l yX3_times cX3_times 6 [.int x, .int y, .int z] v w (op_times v w x y z) := by
  obtain ⟨n, mm, tm, nt, a, T, tt, hd, ent, hnt, hmo, hto, ea, ha, eT, hT, htp, ett, htt, hw⟩ := h.un
  obtain ⟨k1, k2, k3, k4, k5, k6⟩ := id hd
  exact (mc_times l v w x y z n mm tm hd hw).rx (by decide) (by decide) ex3
theorem rx_forget (h : INV v w)  : rX l yX3_forget cX3_forget 2 [] v w (op_forget v w ) := by
  obtain ⟨n, mm, tm, nt, a, T, tt, hd, ent, hnt, hmo, hto, ea, ha, eT, hT, htp, ett, htt, hw⟩ := h.un
  obtain ⟨k1, k2, k3, k4, k5, k6⟩ := id hd
  exact (mc_forget l v w  ).rx (by decide) (by decide) ex3
theorem rx_moved (h : INV v w) (x : Int32) : rX l yX3_moved cX3_moved 10 [.int x] v w (op_moved v w x) := by
  obtain ⟨n, mm, tm, nt, a, T, tt, hd, ent, hnt, hmo, hto, ea, ha, eT, hT, htp, ett, htt, hw⟩ := h.un
  obtain ⟨k1, k2, k3, k4, k5, k6⟩ := id hd
  exact (mc_moved l v w x n k1 k2).rx (by decide) (by decide) ex3
theorem rx_dare (h : INV v w) (x : Int32) (y : Int32) : rX l yX3_dare cX3_dare 7 [.int x, .int y] v w (op_dare v w x y) := by
  obtain ⟨n, mm, tm, nt, a, T, tt, hd, ent, hnt, hmo, hto, ea, ha, eT, hT, htp, ett, htt, hw⟩ := h.un
  obtain ⟨k1, k2, k3, k4, k5, k6⟩ := id hd
  exact (mc_dare l v w x y h.hab).rx (by decide) (by decide) ex3
theorem rx_best (h : INV v w) (x : Int32) : rX l yX3_best cX3_best 3 [.int x] v w (op_best v w x) := by
  obtain ⟨n, mm, tm, nt, a, T, tt, hd, ent, hnt, hmo, hto, ea, ha, eT, hT, htp, ett, htt, hw⟩ := h.un
  obtain ⟨k1, k2, k3, k4, k5, k6⟩ := id hd
  exact (mc_best l v w x h.hb0).rx (by decide) (by decide) ex3
theorem rx_image (h : INV v w) (x : Int32) : rX l yX3_image cX3_image 3 [.int x] v w (op_image v w x) := by
  obtain ⟨n, mm, tm, nt, a, T, tt, hd, ent, hnt, hmo, hto, ea, ha, eT, hT, htp, ett, htt, hw⟩ := h.un
  obtain ⟨k1, k2, k3, k4, k5, k6⟩ := id hd
  exact (mc_image l v w x ).rx (by decide) (by decide) ex3
theorem rx_restore (h : INV v w) (x : Int32) : rX l yX3_restore cX3_restore 3 [.int x] v w (op_restore v w x) := by
  obtain ⟨n, mm, tm, nt, a, T, tt, hd, ent, hnt, hmo, hto, ea, ha, eT, hT, htp, ett, htt, hw⟩ := h.un
  obtain ⟨k1, k2, k3, k4, k5, k6⟩ := id hd
  exact (mc_restore l v w x ).rx (by decide) (by decide) ex3
theorem rx_kind (h : INV v w) (x : Int32) : rX l yX3_kind cX3_kind 2 [.int x] v w (op_kind v w x) := by
  obtain ⟨n, mm, tm, nt, a, T, tt, hd, ent, hnt, hmo, hto, ea, ha, eT, hT, htp, ett, htt, hw⟩ := h.un
  obtain ⟨k1, k2, k3, k4, k5, k6⟩ := id hd
  exact (mc_kind l v w x n mm tm hd).rx (by decide) (by decide) ex3
theorem rx_as (h : INV v w) (x : Int32) (y : Int32) : rX l yX3_as cX3_as 3 [.int x, .int y] v w (op_as v w x y) := by
  obtain ⟨n, mm, tm, nt, a, T, tt, hd, ent, hnt, hmo, hto, ea, ha, eT, hT, htp, ett, htt, hw⟩ := h.un
  obtain ⟨k1, k2, k3, k4, k5, k6⟩ := id hd
  exact (mc_as l v w x y n mm tm hd).rx (by decide) (by decide) ex3
theorem rx_ask (h : INV v w) (x : Int32) (y : Int32) : rX l yX3_ask cX3_ask 3 [.int x, .int y] v w (op_ask v w x y) := by
  obtain ⟨n, mm, tm, nt, a, T, tt, hd, ent, hnt, hmo, hto, ea, ha, eT, hT, htp, ett, htt, hw⟩ := h.un
  obtain ⟨k1, k2, k3, k4, k5, k6⟩ := id hd
  exact (mc_ask l v w x y n mm k2 k3 k4 hmo).rx (by decide) (by decide) ex3
theorem rx_trace (h : INV v w) (x : Int32) : rX l yX3_trace cX3_trace 2 [.int x] v w (op_trace v w x) := by
  obtain ⟨n, mm, tm, nt, a, T, tt, hd, ent, hnt, hmo, hto, ea, ha, eT, hT, htp, ett, htt, hw⟩ := h.un
  obtain ⟨k1, k2, k3, k4, k5, k6⟩ := id hd
  exact (mc_trace l v w x tt ett htt).rx (by decide) (by decide) ex3
theorem rx_count (h : INV v w) (x : Int32) : rX l yX3_count cX3_count 4 [.int x] v w (op_count v w x) := by
  obtain ⟨n, mm, tm, nt, a, T, tt, hd, ent, hnt, hmo, hto, ea, ha, eT, hT, htp, ett, htt, hw⟩ := h.un
  obtain ⟨k1, k2, k3, k4, k5, k6⟩ := id hd
  exact (mc_count l v w x ).rx (by decide) (by decide) ex3
theorem rx_feed (h : INV v w) (x : Int64) (y : Int32) : rX l yX3_feed cX3_feed 5 [.long x, .int y] v w (op_feed v w x y) := by
  obtain ⟨n, mm, tm, nt, a, T, tt, hd, ent, hnt, hmo, hto, ea, ha, eT, hT, htp, ett, htt, hw⟩ := h.un
  obtain ⟨k1, k2, k3, k4, k5, k6⟩ := id hd
  exact (mc_feed l v w x y T eT hT).rx (by decide) (by decide) ex3
theorem rx_fault : rX l yX3_fault cX3_fault 1 [] v w (v 11, upd v 0 0, w) :=
  (mc_fault l v w).rx (by decide) (by decide) (fun r v1 w1 hp => ⟨hp.1, hp.2.1 ▸ vA.rf, hp.2.2 ▸ wA.rf⟩)
theorem rx_status : rX l yX3_status cX3_status 1 [] v w (v 1, upd v 0 0, w) :=
  (mc_status l v w).rx (by decide) (by decide) (fun r v1 w1 hp => ⟨hp.1, hp.2.1 ▸ vA.rf, hp.2.2 ▸ wA.rf⟩)
theorem rx_rest (h : INV v w)  : rX l yX3_rest cX3_rest 3 [] v w (op_rest v w, upd v 0 0, w) := by
  obtain ⟨n, mm, tm, nt, a, T, tt, hd, ent, hnt, hmo, hto, ea, ha, eT, hT, htp, ett, htt, hw⟩ := h.un
  obtain ⟨k1, k2, k3, k4, k5, k6⟩ := id hd
  exact (mc_rest l v w  n mm k1 k2 k3 k4 hmo nt ent hnt).rx (by decide) (by decide) (fun r v1 w1 hp => ex3n (fun q => q ≠ 19 ∧ q ≠ 21) (fun q hq => by omega) ⟨hp.1, hp.2.1, fun q hq => hp.2.2 q hq.1 hq.2⟩)
theorem rx_who (h : INV v w) (x : Int32) (y : Int32) : rX l yX3_who cX3_who 6 [.int x, .int y] v w (op_who w x y, upd v 0 0, w) := by
  obtain ⟨n, mm, tm, nt, a, T, tt, hd, ent, hnt, hmo, hto, ea, ha, eT, hT, htp, ett, htt, hw⟩ := h.un
  obtain ⟨k1, k2, k3, k4, k5, k6⟩ := id hd
  exact (mc_who l v w x y n mm k1 k2 k3 k4 hmo).rx (by decide) (by decide) (fun r v1 w1 hp => ex3n (fun q => q ≠ 19) (fun q hq => by omega) ⟨hp.1, hp.2.1, hp.2.2⟩)
theorem rx_ends (h : INV v w) (x : Int32) (y : Int32) (z : Int32) : rX l yX3_ends cX3_ends 4 [.int x, .int y, .int z] v w (op_ends w x y z, upd v 0 0, w) := by
  obtain ⟨n, mm, tm, nt, a, T, tt, hd, ent, hnt, hmo, hto, ea, ha, eT, hT, htp, ett, htt, hw⟩ := h.un
  obtain ⟨k1, k2, k3, k4, k5, k6⟩ := id hd
  exact (mc_ends l v w x y z n k1 k2 tm k5 k6 hto).rx (by decide) (by decide) (fun r v1 w1 hp => ex3n (fun q => q ≠ 20) (fun q hq => by omega) ⟨hp.1, hp.2.1, hp.2.2⟩)
theorem rx_widest (h : INV v w)  : rX l yX3_widest cX3_widest 6 [] v w (op_widest w, upd v 0 0, w) := by
  obtain ⟨n, mm, tm, nt, a, T, tt, hd, ent, hnt, hmo, hto, ea, ha, eT, hT, htp, ett, htt, hw⟩ := h.un
  obtain ⟨k1, k2, k3, k4, k5, k6⟩ := id hd
  exact (mc_widest l v w  n k1 k2 tm k5 k6 hto).rx (by decide) (by decide) (fun r v1 w1 hp => ex3n (fun q => q ≠ 20) (fun q hq => by omega) ⟨hp.1, hp.2.1, hp.2.2⟩)
end RX
