/-! Rows over the picture: nest mates' fields, lengths, arrays of references, arraycopy. (Proofs follow the kit's va_ rows.) -/
set_option maxRecDepth 100000
theorem gS.setL {D : va_G} {A : Nat → Prop} {H0 : Heap} {G : gG} {H H1 : Heap} {locs L : List Loc} {a t j : Nat} {e0 e : va_E} (h : gS D A H0 G H locs) (ha : G a = some (t, j, e0)) (he : va_at D vwCl (a, e) H1) (z : H1.size = H.size) (oq : ∀ q : Nat, q ≠ a → H1[q]? = H[q]?) (hL : ∀ q ∈ L, q.base = a) : gS D A H0 (gup G a (t, j, e)) H1 (locs ++ L) := by
  obtain ⟨h1, h2, h3⟩ := h
  have hA := (h1 a t j e0 ha).2
  refine ⟨fun b t' j' e' hb => ?_, ⟨by rw [z]; exact h2.1, fun q g1 g2 => ?_, fun q hq => ?_⟩, fun q hq => h3 q (by omega)⟩
  · by_cases hba : b = a
    · subst hba
      rw [gup_s] at hb
      cases hb
      exact ⟨he, hA⟩
    · rw [gup_n hba] at hb
      exact ⟨(h1 b t' j' e' hb).1.kept (oq b hba), (h1 b t' j' e' hb).2⟩
  · rw [oq q (fun e => g2 (by rw [e]; exact hA))]
    exact h2.2.1 q g1 g2
  · rcases List.mem_append.mp hq with h | h
    · exact h2.2.2 q h
    · rw [hL q h]; exact hA
section GR3
variable {p : Program} {l : Launch} {e : Env} {R : Room} {s : State} {m : MethodId} {args : Array Value} {below : List Frame} {meth : Method} {c : Code} {H : Heap} {locs : List Loc} {cells slots : Nat} {Q : State → Prop}
variable {cc : ByteArray} {pc nL : Nat} {ls : Array Slot} {rest : List Value} {D : va_G} {ac : Nat → ClassId} {A : Nat → Prop} {a t j : Nat} {H0 : Heap} {G : gG} {own : String}
theorem g_getN (S : CallFix p m c cc nL s args lw_all own) (hK : KW D ac s) (hS : gS D A H0 G H locs) {ci : Nat} {fs : List Value} (hG : G a = some (t, j, .inr (ci, fs))) {C ref host : String} {T : u_T} {N index : Nat} (hin : ∀ w ∈ u_ws C T N, w ∈ lw_all) (hc : vwCl[ci]? = some (C, T, N)) (k : Nat) (hk : k < N) (hlink : va_Nw (.fieldLinkNest own index ref (T k).2.1 (T k).2.2.1 host) s) (hsame : ∀ x, s.fieldFound? (T k).1 (T k).2.1 (T k).2.2.1 = some x → s.fieldFound? ref (T k).2.1 (T k).2.2.1 = some x) {v : Value} (hv : fs[k]? = some v) (hdg : decode cc pc = .ok (.getfield index, 3))
    (kk : W p l e R s m args below meth c H locs cells slots Q (F0 m (pc + 3) ls (v :: rest))) : W p l e R s m args below meth c H locs cells slots Q (F0 m pc ls (.ref a :: rest)) :=
  va_getN (D := D) (tys := acTy ac) S.1 S.2.1 S.2.2.2.2 hin S.2.2.2.1 hK (hS.1.one hG) 0 rfl hc k hk (va_Nw.use rfl hlink) hsame hv hdg kk
theorem g_putN (S : CallFix p m c cc nL s args lw_all own) (hK : KW D ac s) (hS : gS D A H0 G H locs) {ci : Nat} {fs : List Value} (hG : G a = some (t, j, .inr (ci, fs))) {C ref host : String} {T : u_T} {N index : Nat} (hin : ∀ w ∈ u_ws C T N, w ∈ lw_all) (ty0 : Nat → FieldType) (hty : ∀ k, k < N → parseFieldDescriptor (T k).2.2.1 = some (ty0 k)) (hnm : ∀ a, a < N → ∀ b, b < N → a ≠ b → (T a).2.1 ≠ (T b).2.1) (hc : vwCl[ci]? = some (C, T, N)) (k : Nat) (hk : k < N) (hlink : va_Nw (.fieldLinkNest own index ref (T k).2.1 (T k).2.2.1 host) s) (hsame : ∀ x, s.fieldFound? (T k).1 (T k).2.1 (T k).2.2.1 = some x → s.fieldFound? ref (T k).2.1 (T k).2.2.1 = some x) (hfin : (T k).2.2.2 = false) {v : Value} (hn : narrow (ty0 k) v = v) (hfit : fits (ty0 k) v = true) (hl : k < fs.length) (hdg : decode cc pc = .ok (.putfield index, 3))
    (kk : ∀ (H1 : Heap) (locs1 : List Loc), gS D A H0 (gup G a (t, j, .inr (ci, fs.set k v))) H1 locs1 → H1.size = H.size → W p l e R s m args below meth c H1 locs1 cells slots Q (F0 m (pc + 3) ls rest)) : W p l e R s m args below meth c H locs cells slots Q (F0 m pc ls (v :: .ref a :: rest)) := by
  obtain ⟨hx, hb, -, hown, hts⟩ := S
  have hap := va_apart (own := own) hts hin ty0 hty hnm hK hc
  obtain ⟨r, h1, cell, q1, q2, q3, q4⟩ := (hS.1 a t j _ hG).1
  have hr : r = (C, T, N) := Option.some.inj (h1.symm.trans hc)
  subst hr
  obtain ⟨hSl, hfc, kC, hkC, hkind⟩ := hK.1 ci _ hc
  obtain ⟨cf, kf, fi, f, hi, hsl⟩ := hSl k hk
  have hlay := hts _ (hin _ (u_in_lay hk))
  unfold u_lay at hlay
  rw [if_neg (by rw [hfin]; decide)] at hlay
  have hst := (u_facts hfc hkC (u_lays hts hin hk) hi).1
  have h6 := u_store hfc hkC hkind hlay hi (hty k hk) hn hfit
  refine va_WputK hx hb (f := f) hown (va_Nw.use rfl hlink) (hsame _ hi) hst (by rw [q2]; exact h6) q1 q3 (by rw [hsl]; exact k2_hasslot (q4 k hk)) rfl rfl hdg fun H' e1 e2 e3 => ?_
  rw [hsl] at e1 ⊢
  exact kk H' _ (hS.set hG ⟨_, hc, t_OB.to (V := updV (vp_V fs) k v) ⟨_, e1, q2, q3, t_set q4 hap hk v⟩ (fun j _ => vp_updV_set hl v j)⟩ e2 e3) e2
theorem g_alen (S : CallFix p m c cc nL s args lw_all own) (hK : KW D ac s) (hS : gS D A H0 G H locs) {n : Nat} {x : vp_A} (hG : G a = some (t, j, .inl (ac n, x))) (hn : n < 7) (hdg : decode cc pc = .ok (.arraylength, 1))
    (kk : W p l e R s m args below meth c H locs cells slots Q (F0 m (pc + 1) ls (.int (nI x.1) :: rest))) : W p l e R s m args below meth c H locs cells slots Q (F0 m pc ls (.ref a :: rest)) := by
  have ht : ∃ ty, (acTy ac)[n]? = some (ac n, ty) := by
    rcases (show n = 0 ∨ n = 1 ∨ n = 2 ∨ n = 3 ∨ n = 4 ∨ n = 5 ∨ n = 6 by omega) with rfl | rfl | rfl | rfl | rfl | rfl | rfl <;> exact ⟨_, rfl⟩
  obtain ⟨ty, ht⟩ := ht
  exact va_alen S.1 S.2.1 hK (hS.1.one hG) 0 n rfl ht rfl hdg kk
theorem g_aald (S : CallFix p m c cc nL s args lw_all own) (hK : KW D ac s) (hS : gS D A H0 G H locs) {n N k : Nat} {C : String} {f : Nat → Option Nat} (hG : G a = some (t, j, .inl (ac k, N, .inr (.inr (.inr (.inr f)))))) (hk : (acTy ac)[k]? = some (ac k, .object C)) {i : Int32} (hi : i = nI n) (hn : n < N) (hN : N < 2 ^ 31) (hdg : decode cc pc = .ok (.aaload, 1))
    (kk : W p l e R s m args below meth c H locs cells slots Q (F0 m (pc + 1) ls (va_rf (f n) :: rest))) : W p l e R s m args below meth c H locs cells slots Q (F0 m pc ls (.int i :: .ref a :: rest)) := by
  subst hi
  refine va_aldq S.1 S.2.1 hK (hS.1.one hG) 0 k rfl hk (vp_in_nI hn hN) hdg ?_
  rw [nI_clamp (by omega)]
  exact kk
theorem g_aastN (S : CallFix p m c cc nL s args lw_all own) (hK : KW D ac s) (hS : gS D A H0 G H locs) {n N k : Nat} {C : String} {f : Nat → Option Nat} (hG : G a = some (t, j, .inl (ac k, N, .inr (.inr (.inr (.inr f)))))) (hk : (acTy ac)[k]? = some (ac k, .object C)) {i : Int32} (hi : i = nI n) (hn : n < N) (hN : N < 2 ^ 31) (hdg : decode cc pc = .ok (.aastore, 1))
    (kk : ∀ (H1 : Heap) (locs1 : List Loc), gS D A H0 (gup G a (t, j, .inl (ac k, N, .inr (.inr (.inr (.inr (va_up f n none))))))) H1 locs1 → H1.size = H.size → W p l e R s m args below meth c H1 locs1 cells slots Q (F0 m (pc + 1) ls rest)) : W p l e R s m args below meth c H locs cells slots Q (F0 m pc ls (.null :: .int i :: .ref a :: rest)) := by
  subst hi
  refine va_WaastN (C := C) S.1 S.2.1 (hS.1 a t j _ hG).1 ((hK.2 k _ hk).1 N (fun j => va_rf (f j))) (fun h => by cases h) (by show ¬ (nI n < 0 ∨ (arrV _ _ _).slots.size ≤ _); rw [arrV_size]; exact vp_in_nI hn hN) rfl rfl hdg fun H1 e z oq => ?_
  rw [nI_clamp (by omega)] at e ⊢
  refine kk H1 _ (hS.set hG ?_ z oq) z
  show H1[a]? = some (vp_cell _ _)
  rw [e]
  rw [vp_cell_q, vp_cell_q, arrV_store]
  congr 2
  funext q
  by_cases hq : q = n
  · subst hq
    simp [updV, va_up, va_rf]
  · simp [updV, va_up, hq]
theorem g_aast (S : CallFix p m c cc nL s args lw_all own) (hK : KW D ac s) (hS : gS D A H0 G H locs) {n N k v ci : Nat} {C : String} {f : Nat → Option Nat} (hG : G a = some (t, j, .inl (ac k, N, .inr (.inr (.inr (.inr f)))))) (hk : (acTy ac)[k]? = some (ac k, .object C)) {t' j' : Nat} {vs : List Value} (hv : G v = some (t', j', .inr (ci, vs))) {r : vw_C} (hc : vwCl[ci]? = some r) (hasg : ∀ comp c0 : ClassId, s.vm.findClass C = some comp → s.vm.findClass r.1 = some c0 → s.vm.assignable c0 comp = true) {i : Int32} (hi : i = nI n) (hn : n < N) (hN : N < 2 ^ 31) (hdg : decode cc pc = .ok (.aastore, 1))
    (kk : ∀ (H1 : Heap) (locs1 : List Loc), gS D A H0 (gup G a (t, j, .inl (ac k, N, .inr (.inr (.inr (.inr (va_up f n (some v)))))))) H1 locs1 → H1.size = H.size → W p l e R s m args below meth c H1 locs1 cells slots Q (F0 m (pc + 1) ls rest)) : W p l e R s m args below meth c H locs cells slots Q (F0 m pc ls (.ref v :: .int i :: .ref a :: rest)) := by
  subst hi
  obtain ⟨cellV, g1, g3, ⟨kC, hkC⟩, hasg⟩ := va_rAny hK (hS.1.one hv) (q0 := 0) rfl hc hasg
  obtain ⟨kA, comp, k1, k2, k3, -⟩ := (hK.2 k _ hk).2
  obtain ⟨kE, hkE, -⟩ := Vm.findClass_spec k3
  refine W.aast S.1 S.2.1 (hS.1 a t j _ hG).1 (fun q h => by cases h) (fun h => by cases h) k1 k2 rfl hkE ⟨nI_pos (by omega), by show _ < (arrV _ _ _).slots.size; rw [arrV_size, nI_clamp (by omega)]; exact hn⟩ g1 (fun q h => by rw [h] at g3; cases g3) hkC (hasg _ k3) rfl rfl hdg fun H1 e z oq => ?_
  rw [nI_clamp (by omega)] at e ⊢
  refine kk H1 _ (hS.set hG ?_ z oq) z
  show H1[a]? = some (vp_cell _ _)
  rw [e]
  rw [vp_cell_q, vp_cell_q, arrV_store]
  congr 2
  funext q
  by_cases hq : q = n
  · subst hq
    simp [updV, va_up, va_rf]
  · simp [updV, va_up, hq]
end GR3
