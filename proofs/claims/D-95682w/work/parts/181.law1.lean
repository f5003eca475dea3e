/-! The reference as a unit of the store; its methods called from the law. -/
set_option maxRecDepth 100000
def mar (w : Nat → Nat → Int32) : gA := fun k => if mln k = 0 then none else some (mac k, mln k, .inl (w k))
abbrev m3U (ad : Nat → Nat) (v : Nat → Int32) (w : Nat → Nat → Int32) : gU := .inr (3, mfs ad v, mar w)
theorem mln_26 {k : Nat} (h : mln k ≠ 0) : k < 26 := by
  rcases Nat.lt_or_ge k 26 with q | q
  · exact q
  · exfalso
    apply h
    unfold mln
    split <;> first | omega | rfl
theorem mfs_ref {ad : Nat → Nat} {v : Nat → Int32} : ∀ k, k < 26 → mln k ≠ 0 → (mfs ad v)[k]? = some (.ref (ad k)) := by
  intro k hk h
  rcases (show k = 0 ∨ k = 1 ∨ k = 2 ∨ k = 3 ∨ k = 4 ∨ k = 5 ∨ k = 6 ∨ k = 7 ∨ k = 8 ∨ k = 9 ∨ k = 10 ∨ k = 11 ∨ k = 12 ∨ k = 13 ∨ k = 14 ∨ k = 15 ∨ k = 16 ∨ k = 17 ∨ k = 18 ∨ k = 19 ∨ k = 20 ∨ k = 21 ∨ k = 22 ∨ k = 23 ∨ k = 24 ∨ k = 25 by omega) with rfl | rfl | rfl | rfl | rfl | rfl | rfl | rfl | rfl | rfl | rfl | rfl | rfl | rfl | rfl | rfl | rfl | rfl | rfl | rfl | rfl | rfl | rfl | rfl | rfl | rfl <;> first | rfl | (exfalso; exact h rfl)
theorem m3U.mu {ac : Nat → ClassId} {G : gG} {mo : Nat} {ad : Nat → Nat} {v : Nat → Int32} {w : Nat → Nat → Int32} : uIn ac G mo (m3U ad v w) ↔ MU ac G mo ad v w := by
  constructor
  · rintro ⟨h1, h2⟩
    refine ⟨h1, fun k hk => ?_⟩
    obtain ⟨q, g1, g2⟩ := h2 k (mac k) (mln k, .inl (w k)) (if_neg hk)
    rw [mfs_ref k (mln_26 hk) hk] at g1
    cases g1
    exact g2
  · rintro ⟨h1, h2⟩
    refine ⟨h1, fun k n x hx => ?_⟩
    unfold mar at hx
    split at hx
    · cases hx
    · rename_i hk
      cases hx
      exact ⟨ad k, mfs_ref k (mln_26 hk) hk, h2 k hk⟩
section LW
variable {p : Program} {l : Launch} {e : Env} {R : Room} {s : State} {m : MethodId} {args : Array Value} {below : List Frame} {meth : Method} {c : Code} {H : Heap} {locs : List Loc} {cells slots : Nat} {Q : State → Prop}
variable {cc : ByteArray} {pc nL : Nat} {ls : Array Slot} {rest st0 : List Value} {D : va_G} {ac : Nat → ClassId} {A : Nat → Prop} {κ : Nat → Nat} {O : gO} {L : List (Nat × gU)} {own : String}
theorem r_ci {y : MethodName} {bytes : ByteArray} {maxL n index mo : Nat} {ret : Option FieldType} {rm : Room} {As : List Value} {ad : Nat → Nat} {v : Nat → Int32} {w : Nat → Nat → Int32} (S : CallFix p m c cc nL s args lw_all own) (hK : KZ D ac A κ s) (hM : PS D ac A s.heap O L H locs) (i : Nat) (hi : L[i]? = some (mo, m3U ad v w)) {post : Int32 → (Nat → Int32) → (Nat → Nat → Int32) → Prop} (hMet : mMi l y bytes maxL ret rm As v w post) (cw : CallW R s args own RX3 index y bytes maxL ret (ws_ y bytes maxL ret) rm 0 0 n) (hn : As.length = n) (hls : ls.size = nL) (hst : st0 = As.reverse ++ .ref mo :: rest) (hW : 2 * (F0 m pc ls st0).monitorRoom + (rest.map fun v => v.category).sum ≤ 8) (hdg : decode cc pc = .ok (.invokevirtual index, 3)) (hc : cells ≤ R.cells ∧ slots ≤ R.slots)
    (kk : ∀ (r : Int32) (v1 : Nat → Int32) (w1 : Nat → Nat → Int32) (H1 : Heap) (locs1 : List Loc), post r v1 w1 → PS D ac A s.heap O (L.set i (mo, m3U ad v1 w1)) H1 locs1 → W p l e R s m args below meth c H1 locs1 cells slots Q (F0 m (pc + 3) ls (.int r :: rest))) : W p l e R s m args below meth c H locs cells slots Q (F0 m pc ls st0) := by
  obtain ⟨G, h1, h2⟩ := hM.1
  have hu : MU ac G mo ad v w := m3U.mu.mp (h2 mo _ (hM.at i hi))
  exact va_calli (va_runV (As := As) (rest := rest) S (hMet D ac A G mo ad) cw ⟨mPre.blind, MS.recv hK.1.1 h1 hu, fun U hU hW => ⟨rfl, va_K.moved hW.alike hK.1.1, by rw [hU]; exact h1.1, by rw [hU]; exact h1.2.2, hu⟩⟩ rfl hn hls hst hW hdg hc) h1.2.1 (fun _ _ h => h) (fun _ h => h)
    (fun r u t H1 locs1 ht hvm hp hB hz hk hS => kk r u.1 u.2 H1 locs1 hp (by
      obtain ⟨G1, k1, k2, k3⟩ := MS.after h1 KP.rf hB ht hz hS
      exact hM.set hi ⟨G1, k1, h2.one (fun q t j e ht hq => k3 q t j e ht hq) (m3U.mu.mpr k2)⟩ rfl))
end LW
