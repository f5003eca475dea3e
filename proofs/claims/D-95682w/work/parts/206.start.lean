/-! What the start gives: all that stands through a run (KZ). -/
set_option maxRecDepth 100000
theorem arr_p {args : Array Value} {s : State} {ty : FieldType} (hty : ∀ C, ty ≠ .object C) (h : (Cond.arrayClass ty).before args s = true) : ∃ cA, ArrOfT s cA ty ∧ va_RA s cA ty := by
  obtain ⟨c, k, comp, h1, h2, h3⟩ := Cond.arrayClass_spec h
  refine ⟨c, fun N z => ⟨(fun k h => by cases h), k, h2, comp, h3⟩, ?_⟩
  cases ty with
  | object C => exact absurd rfl (hty C)
  | _ => exact h1
theorem arr_q {args : Array Value} {s : State} {C : String} (h : (Cond.arrayOver (.object C)).before args s = true) : ∃ cA, ArrOfT s cA (.object C) ∧ va_RA s cA (.object C) := by
  obtain ⟨comp, c, k, h1, -, h2, h3, h4⟩ := Cond.arrayOver_spec h
  exact ⟨c, fun N z => ⟨(fun k h => by cases h), k, h2, comp, h3⟩, k, comp, h2, h3, h1, h4⟩
theorem nAO_w : ∀ C ∈ nAO, Cond.arrayOver (.object C) ∈ lw_tbl := by decide +kernel
theorem nFw_w : ∀ q ∈ nFw, Cond.declares q.2.1 ∈ lw_tbl ∧ Cond.interfaceMethod q.2.1.cls q.2.1.cls q.2.1.name q.2.1.desc ∈ lw_tbl ∧ Cond.publicMethod q.2.2 ∈ lw_tbl ∧ Cond.unhidden q.1 q.2.1.name q.2.1.desc ∈ lw_tbl ∧ Cond.castable q.1 q.2.1.cls ∈ lw_tbl := by decide +kernel
theorem nNc_w : ∀ q ∈ nNc, Cond.not (.castable q.1 q.2) ∈ flatC (Jvm.Cond.and given_1 narrow_1) := by decide +kernel
theorem dfl_w : ∀ w ∈ defaultWords_1, w ∈ flatC (Jvm.Cond.and given_1 narrow_1) := by decide +kernel
def zTm : List Term := [.string "NightStones$Reader" 9, .string "NightStones$Reader" 90, .string "NightStones$Reader" 115, .string "NightStones$Reader" 130, .string "NightStones" 319, .string "NightStones" 321, .string "NightStones" 323, .string "NightStones" 325, .string "NightStones" 327]
def zT (i : Nat) : Term := zTm.getD i (.int 0)
theorem str_w : ∀ i : Fin 9, Cond.exactly (zT i) "java/lang/String" ∈ flatC (Jvm.Cond.and given_1 narrow_1) ∧ Cond.eq (.field (zT i) "java/lang/String" "coder" "B") (.int 0) ∈ flatC (Jvm.Cond.and given_1 narrow_1) ∧ Cond.arrayOf (.field (zT i) "java/lang/String" "value" "[B") .byte ∈ flatC (Jvm.Cond.and given_1 narrow_1) ∧ Cond.eq (.length (.field (zT i) "java/lang/String" "value" "[B")) (.int (Int32.ofNat (zLen.getD i 0))) ∈ flatC (Jvm.Cond.and given_1 narrow_1) := by decide +kernel
theorem str_e : ∀ i : Fin 9, ∀ j : Fin 6, (j : Nat) < zLen.getD i 0 → Cond.eq (.elem (.field (zT i) "java/lang/String" "value" "[B") (.int (Int32.ofNat j))) (.int ((zByt.getD i []).getD j 0)) ∈ flatC (Jvm.Cond.and given_1 narrow_1) := by decide +kernel
theorem str_n0 : ∀ j ∈ [1, 2, 3, 4, 5, 6, 7, 8], Cond.not (Cond.eq (zT 0) (zT j)) ∈ flatC (Jvm.Cond.and given_1 narrow_1) := by decide +kernel
theorem str_n1 : ∀ j ∈ [2, 3, 4, 5, 6, 7, 8], Cond.not (Cond.eq (zT 1) (zT j)) ∈ flatC (Jvm.Cond.and given_1 narrow_1) := by decide +kernel
theorem str_n2 : ∀ j ∈ [3, 4, 5, 6, 7, 8], Cond.not (Cond.eq (zT 2) (zT j)) ∈ flatC (Jvm.Cond.and given_1 narrow_1) := by decide +kernel
theorem str_n3 : ∀ j ∈ [4, 5, 6, 7, 8], Cond.not (Cond.eq (zT 3) (zT j)) ∈ flatC (Jvm.Cond.and given_1 narrow_1) := by decide +kernel
theorem str_n4 : ∀ j ∈ [5, 6, 7, 8], Cond.not (Cond.eq (zT 4) (zT j)) ∈ flatC (Jvm.Cond.and given_1 narrow_1) := by decide +kernel
theorem str_n5 : ∀ j ∈ [6, 7, 8], Cond.not (Cond.eq (zT 5) (zT j)) ∈ flatC (Jvm.Cond.and given_1 narrow_1) := by decide +kernel
theorem str_n6 : ∀ j ∈ [7, 8], Cond.not (Cond.eq (zT 6) (zT j)) ∈ flatC (Jvm.Cond.and given_1 narrow_1) := by decide +kernel
theorem str_n7 : ∀ j ∈ [8], Cond.not (Cond.eq (zT 7) (zT j)) ∈ flatC (Jvm.Cond.and given_1 narrow_1) := by decide +kernel
theorem str_n : ∀ i j : Nat, i < j → j < 9 → Cond.not (Cond.eq (zT i) (zT j)) ∈ flatC (Jvm.Cond.and given_1 narrow_1) := by
  intro i j h1 h2
  have hm : ∀ k, k < 9 → ∀ a, a < k → k ∈ (List.range 9).drop (a + 1) := by decide
  have hj := hm j h2 i h1
  rcases (show i = 0 ∨ i = 1 ∨ i = 2 ∨ i = 3 ∨ i = 4 ∨ i = 5 ∨ i = 6 ∨ i = 7 by omega) with rfl | rfl | rfl | rfl | rfl | rfl | rfl | rfl
  · exact str_n0 j hj
  · exact str_n1 j hj
  · exact str_n2 j hj
  · exact str_n3 j hj
  · exact str_n4 j hj
  · exact str_n5 j hj
  · exact str_n6 j hj
  · exact str_n7 j hj
theorem zLen_6 : ∀ i : Fin 9, zLen.getD i 0 ≤ 6 := by decide
abbrev tSort : Term := .static "NightStones" "SORT" "[Ljava/lang/String;"
abbrev tDef : Term := .static "java/util/ArrayList" "DEFAULTCAPACITY_EMPTY_ELEMENTDATA" "[Ljava/lang/Object;"
theorem sort_w : ∀ j : Fin 5, Cond.eq (.elem tSort (.int (Int32.ofNat j))) (zT (4 + j)) ∈ flatC (Jvm.Cond.and given_1 narrow_1) := by decide +kernel
theorem st_w : (Cond.arrayOf tSort (.object "java/lang/String") ∈ flatC (Jvm.Cond.and given_1 narrow_1) ∧ Cond.eq (.length tSort) (.int 5) ∈ flatC (Jvm.Cond.and given_1 narrow_1)) ∧ (Cond.arrayOf tDef (.object "java/lang/Object") ∈ flatC (Jvm.Cond.and given_1 narrow_1) ∧ Cond.eq (.length tDef) (.int 0) ∈ flatC (Jvm.Cond.and given_1 narrow_1)) ∧ Cond.eq (.static "java/lang/String" "COMPACT_STRINGS" "Z") (.int 1) ∈ flatC (Jvm.Cond.and given_1 narrow_1) ∧ Cond.isRef (.static "java/lang/Throwable" "UNASSIGNED_STACK" dSte) ∈ flatC (Jvm.Cond.and given_1 narrow_1) ∧ Cond.isRef (.static "java/lang/Throwable" "SUPPRESSED_SENTINEL" dLst) ∈ flatC (Jvm.Cond.and given_1 narrow_1) ∧ Cond.landsInDefault RX8 ⟨RX8, "mark", "(LNightStones$Trail;LNightStones$Road;)I"⟩ ⟨RX14, "mark", "(LNightStones$Trail;LNightStones$Road;)I"⟩ ∈ flatC (Jvm.Cond.and given_1 narrow_1) := by decide +kernel
theorem tb_w : (Cond.laysStatic "java/lang/String" "COMPACT_STRINGS" "Z" ∈ lw_tbl ∧ Cond.initialized "java/lang/String" ∈ lw_tbl) ∧ (Cond.laysStatic "java/util/ArrayList" "DEFAULTCAPACITY_EMPTY_ELEMENTDATA" "[Ljava/lang/Object;" ∈ lw_tbl ∧ Cond.initialized "java/util/ArrayList" ∈ lw_tbl) ∧ (wUn ∈ lw_tbl ∧ wSe ∈ lw_tbl ∧ Cond.initialized "java/lang/Throwable" ∈ lw_tbl) ∧ (Cond.laysStatic "NightStones" "SORT" "[Ljava/lang/String;" ∈ lw_tbl ∧ Cond.initialized "NightStones" ∈ lw_tbl) ∧ Cond.stringRef "NightStones$Reader" 9 "" ∈ lw_tbl ∧ Cond.stringRef "NightStones$Reader" 90 "law" ∈ lw_tbl ∧ Cond.stringRef "NightStones$Reader" 115 "stone" ∈ lw_tbl ∧ Cond.stringRef "NightStones$Reader" 130 "mover" ∈ lw_tbl ∧ Cond.instanceMethod ⟨RX14, "mark", "(LNightStones$Trail;LNightStones$Road;)I"⟩ ∈ lw_tbl := by decide +kernel
theorem eq_ref {args : Array Value} {s : State} {t u : Term} {a : Nat} (h : (Cond.eq t u).before args s = true) (hu : u.eval args s none [] s = some (.ref a)) : t.eval args s none [] s = some (.ref a) := by
  cases hv : t.eval args s none [] s with
  | none => simp [Cond.before, Cond.holds, Cond.value, hv] at h
  | some w =>
    simp only [Cond.before, Cond.holds, Cond.value, hv, hu] at h
    cases w <;> simp_all
theorem LY_of {args : Array Value} {s : State} {C n d : String} {A : Nat → Prop} (hl : (Cond.laysStatic C n d).before args s = true) (h : (Cond.isRef (.static C n d)).before args s = true) (hA : ∀ a : Nat, a < s.heap.size → ¬ A a) : va_LY C n d A s s.heap := by
  obtain ⟨c, k, i, f, a, cell, hc, hi, hst, ha, hcell, hs, hcls, hlt, hty⟩ := Cond.laysStatic_spec hl
  cases hv : (Term.static C n d).eval args s none [] s with
  | none => simp [Cond.before, Cond.holds, Cond.value, hv] at h
  | some w =>
    obtain ⟨hst', a', cell', ha', hcell', -, hslot⟩ := Term.static_spec hi hv
    cases ha.symm.trans ha'
    cases hcell.symm.trans hcell'
    refine ⟨c, k, i, f, a, cell, w, hc, hi, hst, ha, hcell, hs, hcls, hlt, hty, hslot, ?_, hA a (Array.getElem?_eq_some_iff.mp hcell).1⟩
    simp only [Cond.before, Cond.holds, Cond.value, hv] at h
    cases w with
    | null => exact Or.inl rfl
    | ref t => exact Or.inr ⟨t, rfl⟩
    | _ => simp at h
theorem kw_cls {args : Array Value} {s : State} (hts : ∀ w ∈ lw_all, w.before args s = true) : ∀ q ∈ vwCl, ∃ (cC : ClassId) (iS : Nat → Nat), u_Kn s q.1 q.2.1 q.2.2 cC iS := by
  intro q hq
  simp only [vwCl, List.mem_cons, List.not_mem_nil, or_false] at hq
  rcases hq with rfl | rfl | rfl | rfl | rfl | rfl | rfl | rfl | rfl | rfl | rfl | rfl | rfl | rfl | rfl | rfl | rfl | rfl
  · exact u_known hts in_X0 (hts _ q99)
  · exact u_known hts in_X1 (hts _ q109)
  · exact u_known hts in_X2 (hts _ q205)
  · exact u_known hts in_X3 (hts _ q1257)
  · exact u_known hts in_X4 (hts _ q273)
  · exact u_known hts in_X5 (hts _ q338)
  · exact u_known hts in_X6 (hts _ q430)
  · exact u_known hts in_X7 (hts _ q680)
  · exact u_known hts in_J2 (hts _ q115)
  · exact u_known hts in_X9 (hts _ q736)
  · exact u_known hts in_X10 (hts _ q765)
  · exact u_known hts in_X11 (hts _ q776)
  · exact u_known hts in_X12 (hts _ q787)
  · exact u_known hts in_X13 (hts _ q798)
  · exact u_known hts in_J10 (hts _ q481)
  · exact u_known hts in_J8 (hts _ q406)
  · exact u_known hts in_J7 (hts _ q378)
  · exact u_known hts in_J19 (hts _ q1141)
theorem kw_start {args : Array Value} {s : State} (hts : ∀ w ∈ lw_tbl, w.before args s = true) : ∃ (D : va_G) (ac : Nat → ClassId), KW D ac s := by
  have hta : ∀ w ∈ lw_all, w.before args s = true := fun w hw => hts w (lw_all_tbl hw)
  have h0 : ∀ c : Nat, ∃ x : ClassId × (Nat → Nat), ∀ q, vwCl[c]? = some q → u_Kn s q.1 q.2.1 q.2.2 x.1 x.2 := by
    intro c
    cases hc : vwCl[c]? with
    | none => exact ⟨(0, fun _ => 0), fun q hq => by cases hq⟩
    | some q =>
      obtain ⟨cC, iS, h⟩ := kw_cls hta q (List.mem_of_getElem? hc)
      exact ⟨(cC, iS), fun q' hq => by cases hq; exact h⟩
  obtain ⟨F, hF⟩ := Classical.axiomOfChoice h0
  obtain ⟨c0, a0, b0⟩ := arr_p (ty := .int) (fun C h => by cases h) (hta _ q141)
  obtain ⟨c1, a1, b1⟩ := arr_p (ty := .byte) (fun C h => by cases h) (hta _ q140)
  obtain ⟨c2, a2, b2⟩ := arr_p (ty := .boolean) (fun C h => by cases h) (hta _ q1341)
  obtain ⟨c3, a3, b3⟩ := arr_q (hts _ (nAO_w "NightStones$Row" (by decide)))
  obtain ⟨c4, a4, b4⟩ := arr_q (hts _ (nAO_w "NightStones$Road" (by decide)))
  obtain ⟨c5, a5, b5⟩ := arr_q (hts _ (nAO_w "java/lang/Object" (by decide)))
  obtain ⟨c6, a6, b6⟩ := arr_q (hts _ (nAO_w "java/lang/String" (by decide)))
  refine ⟨(fun c => (F c).1, fun c => (F c).2), fun k => match k with | 0 => c0 | 1 => c1 | 2 => c2 | 3 => c3 | 4 => c4 | 5 => c5 | _ => c6, fun c q hq => hF c q hq, fun k q hk => ?_⟩
  rcases k with _ | _ | _ | _ | _ | _ | _ | k
  · cases hk; exact ⟨a0, b0⟩
  · cases hk; exact ⟨a1, b1⟩
  · cases hk; exact ⟨a2, b2⟩
  · cases hk; exact ⟨a3, b3⟩
  · cases hk; exact ⟨a4, b4⟩
  · cases hk; exact ⟨a5, b5⟩
  · cases hk; exact ⟨a6, b6⟩
  · cases hk
