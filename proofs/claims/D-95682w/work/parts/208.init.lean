/-! The component and the reference made; they tell the same. -/
set_option maxRecDepth 100000
theorem ci_start {κ : Nat → Nat} {O : gO} {no : Nat} {ad d4 d5 : Nat → Nat} {b : Nat} (hn : ([no, ad 4, d4 8, ad 5, d5 8, ad 9] : List Nat).Nodup) : CI κ (oups O [(no, nsU (fun _ => 0) ad (fun _ _ => none) (fun _ _ => 0)), (ad 4, rdU (fun _ => 0) d4 (fun _ _ => 0)), (d4 8, lsU 0 (κ 0) 0 aNo), (ad 5, rdU (fun _ => 0) d5 (fun _ _ => 0)), (d5 8, lsU 0 (κ 0) 0 aNo), (ad 9, cU 2 (fun _ => 0) (fun _ => b) (oar 0 0 16 (fun _ => 0)))]) no (fun _ => 0) wIni := by
  obtain ⟨L, eL⟩ : ∃ L : List (Nat × gU), L = [(no, nsU (fun _ => 0) ad (fun _ _ => none) (fun _ _ => 0)), (ad 4, rdU (fun _ => 0) d4 (fun _ _ => 0)), (d4 8, lsU 0 (κ 0) 0 aNo), (ad 5, rdU (fun _ => 0) d5 (fun _ _ => 0)), (d5 8, lsU 0 (κ 0) 0 aNo), (ad 9, cU 2 (fun _ => 0) (fun _ => b) (oar 0 0 16 (fun _ => 0)))] := ⟨_, rfl⟩
  rw [← eL]
  have hN : (oad L).Nodup := by rw [eL]; exact hn
  have o0 : oups O L no = some (nsU (fun _ => 0) ad (fun _ _ => none) (fun _ _ => 0)) := oups_at (i := 0) hN (by rw [eL]; rfl)
  have o1 : oups O L (ad 4) = some (rdU (fun _ => 0) d4 (fun _ _ => 0)) := oups_at (i := 1) hN (by rw [eL]; rfl)
  have o2 : oups O L (d4 8) = some (lsU 0 (κ 0) 0 aNo) := oups_at (i := 2) hN (by rw [eL]; rfl)
  have o3 : oups O L (ad 5) = some (rdU (fun _ => 0) d5 (fun _ _ => 0)) := oups_at (i := 3) hN (by rw [eL]; rfl)
  have o5 : oups O L (ad 9) = some (cU 2 (fun _ => 0) (fun _ => b) (oar 0 0 16 (fun _ => 0))) := oups_at (i := 5) hN (by rw [eL]; rfl)
  have hne : ad 4 ≠ ad 5 := by
    intro e
    simp [e] at hn
  refine CI.x.mpr ⟨fun _ => 0, ad, fun _ _ => none, fun _ _ => 0, CIx.iff.mpr ⟨o0, ⟨rfl, rfl, rfl, rfl⟩, ?_, ?_, ?_, ?_, ⟨_, _, _, o3⟩, ?_, ?_, ?_⟩⟩
  · intro T hT hT2 j hj
    have : T = 0 := neq_t (a := T) (b := 0) hT.symm
    omega
  · refine ⟨fun j hj => ⟨fun _ => ?_, fun q hq => by cases hq⟩, fun i j q _ _ h => by cases h⟩
    have : ∀ j : Fin 8, wIni 2 j < 0 := by decide
    exact this ⟨j, hj⟩
  · intro i j q hi hj
    unfold rol at hi hj
    split at hi
    · split at hj
      · omega
      · split at hj
        · exact absurd ((Option.some.inj hi).trans (Option.some.inj hj).symm) hne
        · split at hj <;> (try split at hj) <;> cases hj
    · split at hi
      · split at hj
        · exact absurd ((Option.some.inj hj).trans (Option.some.inj hi).symm) hne
        · split at hj
          · omega
          · split at hj <;> (try split at hj) <;> cases hj
      · split at hi <;> (try split at hi) <;> cases hi
  · refine ⟨fun _ => 0, d4, fun _ _ => 0, 0, fun _ => 0, fun _ _ => 0, o1, ⟨rfl, rfl, rfl, rfl, rfl, rfl, rfl, rfl, fun k hk => ⟨rfl, rfl, rfl⟩, fun j hj => by omega, fun q hq => rfl⟩, 0, κ 0, fun _ => none, aNo, o2, by omega, fun _ => ⟨rfl, rfl⟩, fun h => by omega, fun j hj => by omega⟩
  · intro a ha ha2 j hj
    have : a = 0 := neq_t (a := a) (b := 0) ha.symm
    exact ⟨fun _ => by omega, fun q hq => by cases hq⟩
  · intro j hj
    exact ⟨⟨fun _ => rfl, fun _ => rfl⟩, fun q hq => by cases hq⟩
  · refine ⟨fun _ => 0, fun _ => b, fun _ => 0, o5, rfl, fun t ht ht2 i hi => ?_⟩
    have : t = 0 := neq_t (a := t) (b := 0) ht.symm
    omega
theorem inv_start : INV (fun _ => 0) wIni := by
  refine INV.iff.mpr ⟨ivP.z rfl, ⟨0, rfl, by omega, fun k hk => by omega⟩, ⟨0, rfl, by omega⟩, fun j hj => ⟨0, by omega, rfl⟩, ⟨0, 0, 0, 0, rfl, by omega, rfl, by omega, rfl, by omega, rfl, by omega, ⟨0, 0, 0, 0, rfl, by omega, rfl, by omega, rfl, by omega, rfl, by omega⟩, fun j hj => by omega, fun q hq => by omega, fun k hk f hf => ⟨0, by omega, rfl⟩⟩, fun j hj h => absurd rfl h⟩
section LN
variable {p : Program} {l : Launch} {e : Env} {R : Room} {s : State} {m : MethodId} {args : Array Value} {below : List Frame} {meth : Method} {c : Code} {H : Heap} {locs : List Loc} {cells slots : Nat} {Q : State → Prop}
variable {cc : ByteArray} {pc nL : Nat} {ls : Array Slot} {rest st0 : List Value} {D : va_G} {ac : Nat → ClassId} {A : Nat → Prop} {κ : Nat → Nat} {O : gO} {own : String}
/-- the reference's constructor called -/
theorem r_init {index mo : Nat} (S : CallFix p m c cc nL s args lw_all own) (hK : KZ D ac A κ s) (hM : OS D ac A s.heap O H locs) (hO : O mo = some (.inr (3, mfsP (fun _ => 0) [], fun _ => none))) (cw : CallB R s args own index yX3_init cX3_init 1 none (ws_ yX3_init cX3_init 1 none) { frames := 1, cells := 13, slots := 1359, locals := 12 } 13 1359 0 ∧ yX3_init.name = "<init>" ∧ (Cond.instanceMethod yX3_init).before args s = true) (hls : ls.size = nL) (hst : st0 = .ref mo :: rest) (hW : 2 * (F0 m pc ls st0).monitorRoom + (rest.map fun v => v.category).sum ≤ 8) (hdg : decode cc pc = .ok (.invokespecial index, 3)) (hf : cells + 13 ≤ R.cells ∧ slots + 1359 ≤ R.slots)
    (kk : ∀ (ad : Nat → Nat) (H1 : Heap) (locs1 : List Loc), OS D ac A s.heap (oup O mo (m3U ad (fun _ => 0) wIni)) H1 locs1 → W p l e R s m args below meth c H1 locs1 (cells + 13) (slots + 1359) Q (F0 m (pc + 3) ls rest)) : W p l e R s m args below meth c H locs cells slots Q (F0 m pc ls st0) := by
  obtain ⟨G, h1, h2⟩ := hM
  have hG : G mo = some (mo, 0, .inr (3, mfsP (fun _ => 0) [])) := (h2 mo _ hO).1
  refine va_callv (va_runI (As := []) (rest := rest) S (mc_init l D ac A G mo hG) cw ⟨?_, fun U hU hW => ⟨rfl, va_K.moved hW.alike hK.1.1, by rw [hU]; exact h1.1, by rw [hU]; exact h1.2.2⟩⟩ rfl rfl hls hst hW hdg hf) h1.2.1 (fun _ _ h => h) (fun _ h => h) (fun u t H1 locs1 ht hvm _ hB hz hk hS => ?_)
  · intro a U g mk q
    obtain ⟨q1, q2, q3, q4⟩ := q
    exact ⟨q1, va_K.moved (u := U) (U := U.calling g mk a) (Vm.Alike.refl U.vm) q2, q3, q4⟩
  · obtain ⟨G1, ad, b1, b2, b3⟩ := hB
    exact kk ad H1 locs1 ⟨G1, ⟨by rw [← ht]; exact b1, hS, fun q hq => h1.2.2 q (Nat.le_trans hz hq)⟩, h2.one (fun q t j e ht hq => b3 q t j e ht hq) (m3U.mu.mpr b2)⟩
end LN
