/-! The picture of the heap: every cell that matters, by its address, with the object that owns it (t), its place there (j) and what it holds (e). -/
set_option maxRecDepth 100000
abbrev gC : Type := Nat × Nat × va_E
abbrev gG : Type := Nat → Option gC
def gup (G : gG) (a : Nat) (x : gC) : gG := fun q => if q = a then some x else G q
theorem gup_s (G : gG) (a : Nat) (x : gC) : gup G a x a = some x := if_pos rfl
theorem gup_n {G : gG} {a : Nat} {x : gC} {q : Nat} (h : q ≠ a) : gup G a x q = G q := if_neg h
theorem g_ne {G : gG} {a b t j t' j' : Nat} {e e' : va_E} (ha : G a = some (t, j, e)) (hb : G b = some (t', j', e')) (h : t ≠ t' ∨ j ≠ j') : a ≠ b := by
  intro q
  subst q
  rw [ha] at hb
  simp only [Option.some.injEq, Prod.mk.injEq] at hb
  omega
/-- the classes by number -/
abbrev vwCl : List vw_C := [(RX0, TX0, 12), (RX1, TX1, 13), (RX2, TX2, 2), (RX3, TX3, 26), (RX4, TX4, 7), (RX5, TX5, 2), (RX6, TX6, 8), (RX7, TX7, 8), (RJ2, TJ2, 3), (RX9, TX9, 4), (RX10, TX10, 4), (RX11, TX11, 4), (RX12, TX12, 4), (RX13, TX13, 4), (RJ10, TJ10, 4), (RJ8, TJ8, 4), (RJ7, TJ7, 6), (RJ19, TJ19, 6)]
/-- the array classes by number -/
abbrev acTy (ac : Nat → ClassId) : List (ClassId × FieldType) := [(ac 0, .int), (ac 1, .byte), (ac 2, .boolean), (ac 3, .object RX5), (ac 4, .object RX1), (ac 5, .object "java/lang/Object"), (ac 6, .object "java/lang/String")]
abbrev KW (D : va_G) (ac : Nat → ClassId) (U : State) : Prop := va_K D vwCl (acTy ac) U
def gq (D : va_G) (A : Nat → Prop) (G : gG) (H : Heap) : Prop := ∀ (a t j : Nat) (e : va_E), G a = some (t, j, e) → va_at D vwCl (a, e) H ∧ A a
/-- the heap holds the picture; nothing outside A has changed since H0; what is new is in A -/
def gS (D : va_G) (A : Nat → Prop) (H0 : Heap) (G : gG) (H : Heap) (locs : List Loc) : Prop := gq D A G H ∧ va_S A H0 H locs ∧ ∀ q, H.size ≤ q → A q
theorem gq.one {D : va_G} {A : Nat → Prop} {G : gG} {H : Heap} {a t j : Nat} {e : va_E} (h : gq D A G H) (ha : G a = some (t, j, e)) : va_P D vwCl [(a, e)] H := by
  intro k q hk
  match k, hk with
  | 0, hk => cases hk; exact (h a t j e ha).1
  | k + 1, hk => simp at hk
theorem gq.lt {D : va_G} {A : Nat → Prop} {G : gG} {H : Heap} {a t j : Nat} {e : va_E} (h : gq D A G H) (ha : G a = some (t, j, e)) : a < H.size := (h a t j e ha).1.lt
theorem gS.set {D : va_G} {A : Nat → Prop} {H0 : Heap} {G : gG} {H H1 : Heap} {locs : List Loc} {a t j i : Nat} {e0 e : va_E} (h : gS D A H0 G H locs) (ha : G a = some (t, j, e0)) (he : va_at D vwCl (a, e) H1) (z : H1.size = H.size) (oq : ∀ q : Nat, q ≠ a → H1[q]? = H[q]?) : gS D A H0 (gup G a (t, j, e)) H1 (locs ++ [⟨a, i⟩]) := by
  obtain ⟨h1, h2, h3⟩ := h
  have hA := (h1 a t j e0 ha).2
  refine ⟨fun b t' j' e' hb => ?_, h2.put z oq hA, fun q hq => h3 q (by omega)⟩
  by_cases hba : b = a
  · subst hba
    rw [gup_s] at hb
    cases hb
    exact ⟨he, hA⟩
  · rw [gup_n hba] at hb
    exact ⟨(h1 b t' j' e' hb).1.kept (oq b hba), (h1 b t' j' e' hb).2⟩
/-- what a method's own start is -/
theorem gS.start {D : va_G} {A : Nat → Prop} {G : gG} {H : Heap} (h : gq D A G H) (hA : ∀ q, H.size ≤ q → A q) : gS D A H G H [] := ⟨h, va_S.rf, hA⟩
section GR
variable {p : Program} {l : Launch} {e : Env} {R : Room} {s : State} {m : MethodId} {args : Array Value} {below : List Frame} {meth : Method} {c : Code} {H : Heap} {locs : List Loc} {cells slots : Nat} {Q : State → Prop}
variable {cc : ByteArray} {pc nL : Nat} {ls : Array Slot} {rest : List Value} {D : va_G} {ac : Nat → ClassId} {A : Nat → Prop} {a t j : Nat} {H0 : Heap} {G : gG} {own : String}
theorem g_get (S : CallFix p m c cc nL s args lw_all own) (hK : KW D ac s) (hS : gS D A H0 G H locs) {ci : Nat} {fs : List Value} (hG : G a = some (t, j, .inr (ci, fs))) {C ref : String} {T : u_T} {N index : Nat} (hin : ∀ w ∈ u_ws C T N, w ∈ lw_all) (hc : vwCl[ci]? = some (C, T, N)) (k : Nat) (hk : k < N) (hlink : Cond.fieldLink own index ref (T k).2.1 (T k).2.2.1 ∈ lw_all) (hsame : ∀ x, s.fieldFound? (T k).1 (T k).2.1 (T k).2.2.1 = some x → s.fieldFound? ref (T k).2.1 (T k).2.2.1 = some x) {v : Value} (hv : fs[k]? = some v) (hdg : decode cc pc = .ok (.getfield index, 3))
    (kk : W p l e R s m args below meth c H locs cells slots Q (F0 m (pc + 3) ls (v :: rest))) : W p l e R s m args below meth c H locs cells slots Q (F0 m pc ls (.ref a :: rest)) :=
  va_get (D := D) (tys := acTy ac) S.1 S.2.1 S.2.2.2.2 hin S.2.2.2.1 hK (hS.1.one hG) 0 rfl hc k hk (S.2.2.2.2 _ hlink) hsame hv hdg kk
theorem g_put (S : CallFix p m c cc nL s args lw_all own) (hK : KW D ac s) (hS : gS D A H0 G H locs) {ci : Nat} {fs : List Value} (hG : G a = some (t, j, .inr (ci, fs))) {C ref : String} {T : u_T} {N index : Nat} (hin : ∀ w ∈ u_ws C T N, w ∈ lw_all) (ty0 : Nat → FieldType) (hty : ∀ k, k < N → parseFieldDescriptor (T k).2.2.1 = some (ty0 k)) (hnm : ∀ a, a < N → ∀ b, b < N → a ≠ b → (T a).2.1 ≠ (T b).2.1) (hc : vwCl[ci]? = some (C, T, N)) (k : Nat) (hk : k < N) (hlink : Cond.fieldLink own index ref (T k).2.1 (T k).2.2.1 ∈ lw_all) (hsame : ∀ x, s.fieldFound? (T k).1 (T k).2.1 (T k).2.2.1 = some x → s.fieldFound? ref (T k).2.1 (T k).2.2.1 = some x) (hfin : (T k).2.2.2 = false) {v : Value} (hn : narrow (ty0 k) v = v) (hfit : fits (ty0 k) v = true) (hl : k < fs.length) (hdg : decode cc pc = .ok (.putfield index, 3))
    (kk : ∀ (H1 : Heap) (locs1 : List Loc), gS D A H0 (gup G a (t, j, .inr (ci, fs.set k v))) H1 locs1 → H1.size = H.size → W p l e R s m args below meth c H1 locs1 cells slots Q (F0 m (pc + 3) ls rest)) : W p l e R s m args below meth c H locs cells slots Q (F0 m pc ls (v :: .ref a :: rest)) := by
  obtain ⟨hx, hb, -, hown, hts⟩ := S
  have hap := va_apart (own := own) hts hin ty0 hty hnm hK hc
  obtain ⟨r, h1, cell, q1, q2, q3, q4⟩ := (hS.1 a t j _ hG).1
  have hr : r = (C, T, N) := Option.some.inj (h1.symm.trans hc)
  subst hr
  obtain ⟨hSl, hfc, kC, hkC, hkind⟩ := hK.1 ci _ hc
  obtain ⟨cf, kf, fi, f, hi, hsl⟩ := hSl k hk
  have hlay := hts _ (hin _ (u_in_lay hk))
  unfold u_lay at hlay
  rw [if_neg (by rw [hfin]; decide)] at hlay
  have hst := (u_facts hfc hkC (u_lays hts hin hk) hi).1
  have h6 := u_store hfc hkC hkind hlay hi (hty k hk) hn hfit
  refine W.putK hx hb (f := f) ⟨hown, hts _ hlink, ⟨_, _, _, hsame _ hi⟩, hst⟩ (by rw [q2]; exact h6) q1 q3 (by rw [hsl]; exact k2_hasslot (q4 k hk)) rfl rfl hdg fun H' e1 e2 e3 => ?_
  rw [hsl] at e1 ⊢
  exact kk H' _ (hS.set hG ⟨_, hc, t_OB.to (V := updV (vp_V fs) k v) ⟨_, e1, q2, q3, t_set q4 hap hk v⟩ (fun j _ => vp_updV_set hl v j)⟩ e2 e3) e2
theorem g_putF (S : CallFix p m c cc nL s args lw_all own) (hK : KW D ac s) (hS : gS D A H0 G H locs) {ci : Nat} {fs : List Value} (hG : G a = some (t, j, .inr (ci, fs))) {C ref : String} {T : u_T} {N index : Nat} (hin : ∀ w ∈ u_ws C T N, w ∈ lw_all) (ty0 : Nat → FieldType) (hty : ∀ k, k < N → parseFieldDescriptor (T k).2.2.1 = some (ty0 k)) (hnm : ∀ a, a < N → ∀ b, b < N → a ≠ b → (T a).2.1 ≠ (T b).2.1) (hc : vwCl[ci]? = some (C, T, N)) (k : Nat) (hk : k < N) (hlink : Cond.fieldLink own index ref (T k).2.1 (T k).2.2.1 ∈ lw_all) (hsame : ∀ x, s.fieldFound? (T k).1 (T k).2.1 (T k).2.2.1 = some x → s.fieldFound? ref (T k).2.1 (T k).2.2.1 = some x) (hfin : (T k).2.2.2 = true) (hin2 : meth.name = "<init>") (hdecl : (T k).1 = own) {v : Value} (hn : narrow (ty0 k) v = v) (hfit : fits (ty0 k) v = true) (hl : k < fs.length) (hdg : decode cc pc = .ok (.putfield index, 3))
    (kk : ∀ (H1 : Heap) (locs1 : List Loc), gS D A H0 (gup G a (t, j, .inr (ci, fs.set k v))) H1 locs1 → H1.size = H.size → W p l e R s m args below meth c H1 locs1 cells slots Q (F0 m (pc + 3) ls rest)) : W p l e R s m args below meth c H locs cells slots Q (F0 m pc ls (v :: .ref a :: rest)) := by
  obtain ⟨hx, hb, -, hown, hts⟩ := S
  have hap := va_apart (own := own) hts hin ty0 hty hnm hK hc
  obtain ⟨r, h1, cell, q1, q2, q3, q4⟩ := (hS.1 a t j _ hG).1
  have hr : r = (C, T, N) := Option.some.inj (h1.symm.trans hc)
  subst hr
  obtain ⟨hSl, hfc, kC, hkC, hkind⟩ := hK.1 ci _ hc
  obtain ⟨cf, kf, fi, f, hi, hsl⟩ := hSl k hk
  have hlay := hts _ (hin _ (u_in_lay hk))
  unfold u_lay at hlay
  rw [if_pos hfin] at hlay
  have hst := (u_facts hfc hkC (u_lays hts hin hk) hi).1
  have hcf : m.cls = cf := by
    obtain ⟨_, _, c', _, _, _, -, -, hf', -, -, -, hown2, -⟩ := Cond.laysFinal_spec hlay
    have e1 : c' = cf := by have := hi.symm.trans hf'; simp at this; exact this.1.symm
    rw [hdecl] at hown2
    rw [← e1]; exact Option.some.inj (hown.symm.trans hown2)
  have h6 := u_fits hfc hkC hkind (Or.inr hlay) hi (hty k hk) hn hfit
  refine W.putFinK hx hb hown (hts _ hlink) (hsame _ hi) hst hcf hin2 (by rw [q2]; exact h6) q1 q3 (by rw [hsl]; exact k2_hasslot (q4 k hk)) rfl rfl hdg fun H' e1 e2 e3 => ?_
  rw [hsl] at e1 ⊢
  exact kk H' _ (hS.set hG ⟨_, hc, t_OB.to (V := updV (vp_V fs) k v) ⟨_, e1, q2, q3, t_set q4 hap hk v⟩ (fun j _ => vp_updV_set hl v j)⟩ e2 e3) e2
theorem g_iald (S : CallFix p m c cc nL s args lw_all own) (hK : KW D ac s) (hS : gS D A H0 G H locs) {n N : Nat} {f : Nat → Int32} (hG : G a = some (t, j, .inl (ac 0, N, .inl f))) {i : Int32} (hi : i = nI n) (hn : n < N) (hN : N < 2 ^ 31) (hdg : decode cc pc = .ok (.iaload, 1))
    (kk : W p l e R s m args below meth c H locs cells slots Q (F0 m (pc + 1) ls (.int (f n) :: rest))) : W p l e R s m args below meth c H locs cells slots Q (F0 m pc ls (.int i :: .ref a :: rest)) := by
  subst hi
  refine va_iald S.1 S.2.1 hK (hS.1.one hG) 0 0 rfl rfl (vp_in_nI hn hN) hdg ?_
  rw [nI_clamp (by omega)]
  exact kk
theorem g_bald (S : CallFix p m c cc nL s args lw_all own) (hK : KW D ac s) (hS : gS D A H0 G H locs) {n N : Nat} {f : Nat → Int32} (hG : G a = some (t, j, .inl (ac 1, N, .inl f))) {i : Int32} (hi : i = nI n) (hn : n < N) (hN : N < 2 ^ 31) (hdg : decode cc pc = .ok (.baload, 1))
    (kk : W p l e R s m args below meth c H locs cells slots Q (F0 m (pc + 1) ls (.int (f n) :: rest))) : W p l e R s m args below meth c H locs cells slots Q (F0 m pc ls (.int i :: .ref a :: rest)) := by
  subst hi
  refine va_bald S.1 S.2.1 hK (hS.1.one hG) 0 1 rfl rfl (vp_in_nI hn hN) hdg ?_
  rw [nI_clamp (by omega)]
  exact kk
theorem g_zald (S : CallFix p m c cc nL s args lw_all own) (hK : KW D ac s) (hS : gS D A H0 G H locs) {n N : Nat} {f : Nat → Int32} (hG : G a = some (t, j, .inl (ac 2, N, .inl f))) {i : Int32} (hi : i = nI n) (hn : n < N) (hN : N < 2 ^ 31) (hdg : decode cc pc = .ok (.baload, 1))
    (kk : W p l e R s m args below meth c H locs cells slots Q (F0 m (pc + 1) ls (.int (f n) :: rest))) : W p l e R s m args below meth c H locs cells slots Q (F0 m pc ls (.int i :: .ref a :: rest)) := by
  subst hi
  refine va_zald S.1 S.2.1 hK (hS.1.one hG) 0 2 rfl rfl (vp_in_nI hn hN) hdg ?_
  rw [nI_clamp (by omega)]
  exact kk
theorem g_iast (S : CallFix p m c cc nL s args lw_all own) (hK : KW D ac s) (hS : gS D A H0 G H locs) {n N : Nat} {f : Nat → Int32} (hG : G a = some (t, j, .inl (ac 0, N, .inl f))) {i x : Int32} (hi : i = nI n) (hn : n < N) (hN : N < 2 ^ 31) (hdg : decode cc pc = .ok (.iastore, 1))
    (kk : ∀ (H1 : Heap) (locs1 : List Loc), gS D A H0 (gup G a (t, j, .inl (ac 0, N, .inl (upd f n x)))) H1 locs1 → H1.size = H.size → W p l e R s m args below meth c H1 locs1 cells slots Q (F0 m (pc + 1) ls rest)) : W p l e R s m args below meth c H locs cells slots Q (F0 m pc ls (.int x :: .int i :: .ref a :: rest)) := by
  subst hi
  refine W.iast S.1 S.2.1 (hS.1 a t j _ hG).1 ((hK.2 0 _ rfl).1 N (fun j => .int (f j))) (fun q => by cases q) (by show ¬ (nI n < 0 ∨ (arrV _ _ _).slots.size ≤ _); rw [arrV_size]; exact vp_in_nI hn hN) rfl rfl hdg fun H1 e z oq => ?_
  rw [nI_clamp (by omega)] at e ⊢
  refine kk H1 _ (hS.set hG ?_ z oq) z
  show H1[a]? = some (vp_cell _ _)
  rw [e]
  rw [vp_cell_i, vp_cell_i, arrV_store]
  congr 2
  funext q
  by_cases hq : q = n
  · subst hq
    simp [updV, upd]
  · simp [updV, upd, hq]
theorem g_bast (S : CallFix p m c cc nL s args lw_all own) (hK : KW D ac s) (hS : gS D A H0 G H locs) {n N : Nat} {f : Nat → Int32} (hG : G a = some (t, j, .inl (ac 1, N, .inl f))) {i x : Int32} (hi : i = nI n) (hn : n < N) (hN : N < 2 ^ 31) (hdg : decode cc pc = .ok (.bastore, 1))
    (kk : ∀ (H1 : Heap) (locs1 : List Loc), gS D A H0 (gup G a (t, j, .inl (ac 1, N, .inl (upd f n (vp_nar .byte x))))) H1 locs1 → H1.size = H.size → W p l e R s m args below meth c H1 locs1 cells slots Q (F0 m (pc + 1) ls rest)) : W p l e R s m args below meth c H locs cells slots Q (F0 m pc ls (.int x :: .int i :: .ref a :: rest)) := by
  subst hi
  refine W.bast S.1 S.2.1 (hS.1 a t j _ hG).1 ((hK.2 1 _ rfl).1 N (fun j => .int (f j))) (fun q => by cases q) (by show ¬ (nI n < 0 ∨ (arrV _ _ _).slots.size ≤ _); rw [arrV_size]; exact vp_in_nI hn hN) rfl rfl hdg fun H1 e z oq => ?_
  rw [nI_clamp (by omega)] at e ⊢
  refine kk H1 _ (hS.set hG ?_ z oq) z
  show H1[a]? = some (vp_cell _ _)
  rw [e]
  rw [vp_cell_i, vp_cell_i, arrV_store]
  congr 2
  funext q
  by_cases hq : q = n
  · subst hq
    simp [updV, upd, vp_nar]
    try rfl
  · simp [updV, upd, hq]
theorem g_zast (S : CallFix p m c cc nL s args lw_all own) (hK : KW D ac s) (hS : gS D A H0 G H locs) {n N : Nat} {f : Nat → Int32} (hG : G a = some (t, j, .inl (ac 2, N, .inl f))) {i x : Int32} (hi : i = nI n) (hn : n < N) (hN : N < 2 ^ 31) (hdg : decode cc pc = .ok (.bastore, 1))
    (kk : ∀ (H1 : Heap) (locs1 : List Loc), gS D A H0 (gup G a (t, j, .inl (ac 2, N, .inl (upd f n (vp_nar .boolean x))))) H1 locs1 → H1.size = H.size → W p l e R s m args below meth c H1 locs1 cells slots Q (F0 m (pc + 1) ls rest)) : W p l e R s m args below meth c H locs cells slots Q (F0 m pc ls (.int x :: .int i :: .ref a :: rest)) := by
  subst hi
  refine W.zast S.1 S.2.1 (hS.1 a t j _ hG).1 ((hK.2 2 _ rfl).1 N (fun j => .int (f j))) (fun q => by cases q) (by show ¬ (nI n < 0 ∨ (arrV _ _ _).slots.size ≤ _); rw [arrV_size]; exact vp_in_nI hn hN) rfl rfl hdg fun H1 e z oq => ?_
  rw [nI_clamp (by omega)] at e ⊢
  refine kk H1 _ (hS.set hG ?_ z oq) z
  show H1[a]? = some (vp_cell _ _)
  rw [e]
  rw [vp_cell_i, vp_cell_i, arrV_store]
  congr 2
  funext q
  by_cases hq : q = n
  · subst hq
    simp [updV, upd, vp_nar]
    try rfl
  · simp [updV, upd, hq]
end GR
