/-! A unit made by what was called, laid behind the units in front. -/
set_option maxRecDepth 100000
theorem PS.app {D : va_G} {ac : Nat → ClassId} {A : Nat → Prop} {H0 H1 : Heap} {locs1 : List Loc} {O : gO} {L L' : List (Nat × gU)} (hN : (oad L).Nodup) {z : Nat} {u : gU} (hz : oups O L z = none) (hO : OS D ac A H0 (oup (oups O L) z u) H1 locs1) (hL : L ++ [(z, u)] = L') : O z = none ∧ z ∉ oad L ∧ PS D ac A H0 O L' H1 locs1 := by
  subst hL
  have hn : z ∉ oad L := by
    intro hm
    obtain ⟨x, hx, rfl⟩ := List.mem_map.mp hm
    obtain ⟨j, hj⟩ := List.getElem?_of_mem hx
    have := oups_at (O := O) hN (i := j) (a := x.1) (u := x.2) hj
    rw [hz] at this
    cases this
  refine ⟨by rw [← oups_off (O := O) hn]; exact hz, hn, by rw [oups_app _ hn]; exact hO, ?_⟩
  rw [oad, List.map_append, List.nodup_append]
  refine ⟨hN, by simp, fun x hx y hy => ?_⟩
  simp at hy
  rw [hy]
  exact fun e => hn (by rw [← e]; exact hx)
def hAtB (hh : List (Nat × Nat × Nat × Nat)) (i pc hpc ct : Nat) : Bool :=
  match hh[i]? with
  | some (a, b, h, c) => decide (a ≤ pc) && decide (pc < b) && decide (h = hpc) && decide (c = ct) && (hh.take i).all (fun q => !(decide (q.1 ≤ pc) && decide (pc < q.2.1)))
  | none => false
theorem hAt_of {hh : List (Nat × Nat × Nat × Nat)} {i pc hpc ct : Nat} (h : hAtB hh i pc hpc ct = true) : hAt hh i pc hpc ct := by
  unfold hAtB at h
  cases hi : hh[i]? with
  | none => rw [hi] at h; cases h
  | some q =>
    obtain ⟨a, b, x, c⟩ := q
    rw [hi] at h
    simp only [Bool.and_eq_true, decide_eq_true_eq, List.all_eq_true] at h
    obtain ⟨⟨⟨⟨h1, h2⟩, h3⟩, h4⟩, h5⟩ := h
    subst h3; subst h4
    refine ⟨⟨a, b, hi, h1, h2⟩, fun j q hj hq hc => ?_⟩
    have hm : q ∈ hh.take i := by
      rw [List.mem_take_iff_getElem]
      obtain ⟨hl, e⟩ := List.getElem?_eq_some_iff.mp hq
      exact ⟨j, by omega, e⟩
    have := h5 q hm
    simp [hc.1, hc.2] at this
