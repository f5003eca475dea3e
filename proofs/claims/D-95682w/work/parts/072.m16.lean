set_option maxRecDepth 100000
theorem mln_mem {k : Nat} (h : mln k ≠ 0) : k ∈ [24, 23, 22, 21, 20, 19, 9, 7, 6, 5, 4, 3, 2] := by
  by_cases hk : k < 25
  · revert h; revert hk; revert k; decide
  · exfalso
    apply h
    unfold mln
    split <;> first | rfl | omega

/-- what its arrays hold at first -/
def wIni : Nat → Nat → Int32 := wup (wup (wup (wup (wup (wup (wup (wup (fun _ _ => 0) 2 0 (-1)) 2 1 (-1)) 2 2 (-1)) 2 3 (-1)) 2 4 (-1)) 2 5 (-1)) 2 6 (-1)) 2 7 (-1)
set_option maxHeartbeats 2000000 in
set_option maxRecDepth 100000 in
/-- the reference's constructor: 13 arrays, all numbers 0 but the lanes -/
theorem mc_init (l : Launch) (D : va_G) (ac : Nat → ClassId) (A : Nat → Prop) (G : gG) (mo : Nat) (hG : G mo = some (mo, 0, .inr (3, mfsP (fun _ => 0) []))) : Met l yX3_init (ws_ yX3_init cX3_init 1 none) ({ frames := 1, cells := 13, slots := 1359, locals := 12 }) (va_Pc [.ref mo] (fun U => KW D ac U ∧ gq D A G U.heap ∧ (∀ q, U.heap.size ≤ q → A q))) (va_Qv (fun (_ : Unit) => True) (fun _ t => ∃ (G1 : gG) (ad : Nat → Nat), gq D A G1 t.heap ∧ MU ac G1 mo ad (fun _ => 0) wIni ∧ KP mo G G1) A) 13 1359 A := by
  refine Met.ofW (cc := cX3_init) (maxL := 1) (ret := none) (by decide) rfl ?_
  intro p e s m args below meth c s₁ B hml hv
  obtain ⟨rfl, hK, hq, hA⟩ := hv
  have hts := atoms_spec (ws := ws_ yX3_init cX3_init 1 none) B.pre
  have hts : ∀ w ∈ lw_all, w.before _ s = true := fun w h => hts w (List.mem_cons_of_mem _ h)
  have hown : s.vm.findClass RX3 = some m.cls := findClass_of_methodNamed B.named
  have hC : CallFix p m c cX3_init 1 s _ lw_all RX3 := ⟨B.exec, B.bytes, hml, hown, hts⟩
  have hin2 : meth.name = "<init>" := (name_of_methodNamed B.named B.method).1
  have hr := B.returns
  have hlocks := B.notSynchronized
  have hI : IS D ac A G s.heap mo (fun _ => 0) [] [] (fun _ _ => 0) s.heap [] := ⟨G, gS.start hq hA, ⟨hG, fun k hk => absurd hk List.not_mem_nil⟩, KP.rf⟩
  have hl := lv_entry [.ref mo] (n := 1) (Nat.le_of_ble_eq_true rfl)
  rw [lg_entry_eq]
  generalize (lg_sl [.ref mo] ++ List.replicate (1 - (lg_sl [.ref mo]).length) Slot.unset).toArray = ls at hl ⊢
  have hl : lv_has ls 1 [(0, .ref mo)] := hl

  refine lv_aload_n hC.1 hC.2.1 dX3_init_0 rfl (lv_at hl 0 rfl) ?_
  refine W.objInit hC.1 hC.2.1 hown (hts _ q1261) (hts _ q104) (hts _ q105) rfl (by rw [hml]; exact hl.1) rfl dX3_init_1 (Nat.le_of_ble_eq_true rfl) (Nat.le_of_ble_eq_true rfl) ?_
  refine W.eq (g2 := F0 m 4 ls []) rfl ?_
  refine lv_aload_n hC.1 hC.2.1 dX3_init_4 rfl (lv_at hl 0 rfl) ?_
  refine lv_bipush (v := 8) hC.1 hC.2.1 dX3_init_5 (by decide) ?_
  refine i_newi hC hK hI 2 (by decide) rfl rfl rfl (by decide) (Nat.le_of_ble_eq_true rfl) (Nat.le_of_ble_eq_true rfl) dX3_init_7 (fun ad H hI => ?_)
  refine lv_dup hC.1 hC.2.1 dX3_init_9 rfl ?_
  refine lv_iconst (v := 0) hC.1 hC.2.1 dX3_init_10 (by decide) ?_
  refine lv_iconst (v := (-1)) hC.1 hC.2.1 dX3_init_11 (by decide) ?_
  refine i_iast hC hK hI 2 (by decide) rfl (n := 0) rfl (by decide) dX3_init_12 (fun H locs hI => ?_)
  refine lv_dup hC.1 hC.2.1 dX3_init_13 rfl ?_
  refine lv_iconst (v := 1) hC.1 hC.2.1 dX3_init_14 (by decide) ?_
  refine lv_iconst (v := (-1)) hC.1 hC.2.1 dX3_init_15 (by decide) ?_
  refine i_iast hC hK hI 2 (by decide) rfl (n := 1) rfl (by decide) dX3_init_16 (fun H locs hI => ?_)
  refine lv_dup hC.1 hC.2.1 dX3_init_17 rfl ?_
  refine lv_iconst (v := 2) hC.1 hC.2.1 dX3_init_18 (by decide) ?_
  refine lv_iconst (v := (-1)) hC.1 hC.2.1 dX3_init_19 (by decide) ?_
  refine i_iast hC hK hI 2 (by decide) rfl (n := 2) rfl (by decide) dX3_init_20 (fun H locs hI => ?_)
  refine lv_dup hC.1 hC.2.1 dX3_init_21 rfl ?_
  refine lv_iconst (v := 3) hC.1 hC.2.1 dX3_init_22 (by decide) ?_
  refine lv_iconst (v := (-1)) hC.1 hC.2.1 dX3_init_23 (by decide) ?_
  refine i_iast hC hK hI 2 (by decide) rfl (n := 3) rfl (by decide) dX3_init_24 (fun H locs hI => ?_)
  refine lv_dup hC.1 hC.2.1 dX3_init_25 rfl ?_
  refine lv_iconst (v := 4) hC.1 hC.2.1 dX3_init_26 (by decide) ?_
  refine lv_iconst (v := (-1)) hC.1 hC.2.1 dX3_init_27 (by decide) ?_
  refine i_iast hC hK hI 2 (by decide) rfl (n := 4) rfl (by decide) dX3_init_28 (fun H locs hI => ?_)
  refine lv_dup hC.1 hC.2.1 dX3_init_29 rfl ?_
  refine lv_iconst (v := 5) hC.1 hC.2.1 dX3_init_30 (by decide) ?_
  refine lv_iconst (v := (-1)) hC.1 hC.2.1 dX3_init_31 (by decide) ?_
  refine i_iast hC hK hI 2 (by decide) rfl (n := 5) rfl (by decide) dX3_init_32 (fun H locs hI => ?_)
  refine lv_dup hC.1 hC.2.1 dX3_init_33 rfl ?_
  refine lv_bipush (v := 6) hC.1 hC.2.1 dX3_init_34 (by decide) ?_
  refine lv_iconst (v := (-1)) hC.1 hC.2.1 dX3_init_36 (by decide) ?_
  refine i_iast hC hK hI 2 (by decide) rfl (n := 6) rfl (by decide) dX3_init_37 (fun H locs hI => ?_)
  refine lv_dup hC.1 hC.2.1 dX3_init_38 rfl ?_
  refine lv_bipush (v := 7) hC.1 hC.2.1 dX3_init_39 (by decide) ?_
  refine lv_iconst (v := (-1)) hC.1 hC.2.1 dX3_init_41 (by decide) ?_
  refine i_iast hC hK hI 2 (by decide) rfl (n := 7) rfl (by decide) dX3_init_42 (fun H locs hI => ?_)
  refine i_put hC hK hI (by decide) q1264 rfl rfl hin2 rfl rfl rfl dX3_init_43 (fun H locs hI => ?_)
  refine lv_aload_n hC.1 hC.2.1 dX3_init_46 rfl (lv_at hl 0 rfl) ?_
  refine lv_bipush (v := 8) hC.1 hC.2.1 dX3_init_47 (by decide) ?_
  refine i_newi hC hK hI 3 (by decide) rfl rfl rfl (by decide) (Nat.le_of_ble_eq_true rfl) (Nat.le_of_ble_eq_true rfl) dX3_init_49 (fun ad H hI => ?_)
  refine i_put hC hK hI (by decide) q1265 rfl rfl hin2 rfl rfl rfl dX3_init_51 (fun H locs hI => ?_)
  refine lv_aload_n hC.1 hC.2.1 dX3_init_54 rfl (lv_at hl 0 rfl) ?_
  refine lv_sipush (v := 320) hC.1 hC.2.1 dX3_init_55 (by decide) ?_
  refine i_newi hC hK hI 4 (by decide) rfl rfl rfl (by decide) (Nat.le_of_ble_eq_true rfl) (Nat.le_of_ble_eq_true rfl) dX3_init_58 (fun ad H hI => ?_)
  refine i_put hC hK hI (by decide) q1266 rfl rfl hin2 rfl rfl rfl dX3_init_60 (fun H locs hI => ?_)
  refine lv_aload_n hC.1 hC.2.1 dX3_init_63 rfl (lv_at hl 0 rfl) ?_
  refine lv_bipush (v := 94) hC.1 hC.2.1 dX3_init_64 (by decide) ?_
  refine i_newi hC hK hI 5 (by decide) rfl rfl rfl (by decide) (Nat.le_of_ble_eq_true rfl) (Nat.le_of_ble_eq_true rfl) dX3_init_66 (fun ad H hI => ?_)
  refine i_put hC hK hI (by decide) q1267 rfl rfl hin2 rfl rfl rfl dX3_init_68 (fun H locs hI => ?_)
  refine lv_aload_n hC.1 hC.2.1 dX3_init_71 rfl (lv_at hl 0 rfl) ?_
  refine lv_bipush (v := 94) hC.1 hC.2.1 dX3_init_72 (by decide) ?_
  refine i_newi hC hK hI 6 (by decide) rfl rfl rfl (by decide) (Nat.le_of_ble_eq_true rfl) (Nat.le_of_ble_eq_true rfl) dX3_init_74 (fun ad H hI => ?_)
  refine i_put hC hK hI (by decide) q1268 rfl rfl hin2 rfl rfl rfl dX3_init_76 (fun H locs hI => ?_)
  refine lv_aload_n hC.1 hC.2.1 dX3_init_79 rfl (lv_at hl 0 rfl) ?_
  refine lv_sipush (v := 168) hC.1 hC.2.1 dX3_init_80 (by decide) ?_
  refine i_newi hC hK hI 7 (by decide) rfl rfl rfl (by decide) (Nat.le_of_ble_eq_true rfl) (Nat.le_of_ble_eq_true rfl) dX3_init_83 (fun ad H hI => ?_)
  refine i_put hC hK hI (by decide) q1269 rfl rfl hin2 rfl rfl rfl dX3_init_85 (fun H locs hI => ?_)
  refine lv_aload_n hC.1 hC.2.1 dX3_init_88 rfl (lv_at hl 0 rfl) ?_
  refine lv_sipush (v := 400) hC.1 hC.2.1 dX3_init_89 (by decide) ?_
  refine i_newi hC hK hI 9 (by decide) rfl rfl rfl (by decide) (Nat.le_of_ble_eq_true rfl) (Nat.le_of_ble_eq_true rfl) dX3_init_92 (fun ad H hI => ?_)
  refine i_put hC hK hI (by decide) q1271 rfl rfl hin2 rfl rfl rfl dX3_init_94 (fun H locs hI => ?_)
  refine lv_aload_n hC.1 hC.2.1 dX3_init_97 rfl (lv_at hl 0 rfl) ?_
  refine lv_bipush (v := 6) hC.1 hC.2.1 dX3_init_98 (by decide) ?_
  refine i_newi hC hK hI 19 (by decide) rfl rfl rfl (by decide) (Nat.le_of_ble_eq_true rfl) (Nat.le_of_ble_eq_true rfl) dX3_init_100 (fun ad H hI => ?_)
  refine i_put hC hK hI (by decide) q1281 rfl rfl hin2 rfl rfl rfl dX3_init_102 (fun H locs hI => ?_)
  refine lv_aload_n hC.1 hC.2.1 dX3_init_105 rfl (lv_at hl 0 rfl) ?_
  refine lv_bipush (v := 49) hC.1 hC.2.1 dX3_init_106 (by decide) ?_
  refine i_newi hC hK hI 20 (by decide) rfl rfl rfl (by decide) (Nat.le_of_ble_eq_true rfl) (Nat.le_of_ble_eq_true rfl) dX3_init_108 (fun ad H hI => ?_)
  refine i_put hC hK hI (by decide) q1282 rfl rfl hin2 rfl rfl rfl dX3_init_110 (fun H locs hI => ?_)
  refine lv_aload_n hC.1 hC.2.1 dX3_init_113 rfl (lv_at hl 0 rfl) ?_
  refine lv_bipush (v := 6) hC.1 hC.2.1 dX3_init_114 (by decide) ?_
  refine i_newi hC hK hI 21 (by decide) rfl rfl rfl (by decide) (Nat.le_of_ble_eq_true rfl) (Nat.le_of_ble_eq_true rfl) dX3_init_116 (fun ad H hI => ?_)
  refine i_put hC hK hI (by decide) q1283 rfl rfl hin2 rfl rfl rfl dX3_init_118 (fun H locs hI => ?_)
  refine lv_aload_n hC.1 hC.2.1 dX3_init_121 rfl (lv_at hl 0 rfl) ?_
  refine lv_iconst (v := 2) hC.1 hC.2.1 dX3_init_122 (by decide) ?_
  refine i_newz hC hK hI 22 (by decide) rfl rfl rfl (by decide) (Nat.le_of_ble_eq_true rfl) (Nat.le_of_ble_eq_true rfl) dX3_init_123 (fun ad H hI => ?_)
  refine i_put hC hK hI (by decide) q1284 rfl rfl hin2 rfl rfl rfl dX3_init_125 (fun H locs hI => ?_)
  refine lv_aload_n hC.1 hC.2.1 dX3_init_128 rfl (lv_at hl 0 rfl) ?_
  refine lv_sipush (v := 188) hC.1 hC.2.1 dX3_init_129 (by decide) ?_
  refine i_newi hC hK hI 23 (by decide) rfl rfl rfl (by decide) (Nat.le_of_ble_eq_true rfl) (Nat.le_of_ble_eq_true rfl) dX3_init_132 (fun ad H hI => ?_)
  refine i_put hC hK hI (by decide) q1285 rfl rfl hin2 rfl rfl rfl dX3_init_134 (fun H locs hI => ?_)
  refine lv_aload_n hC.1 hC.2.1 dX3_init_137 rfl (lv_at hl 0 rfl) ?_
  refine lv_bipush (v := 16) hC.1 hC.2.1 dX3_init_138 (by decide) ?_
  refine i_newi hC hK hI 24 (by decide) rfl rfl rfl (by decide) (Nat.le_of_ble_eq_true rfl) (Nat.le_of_ble_eq_true rfl) dX3_init_140 (fun ad H hI => ?_)
  refine i_put hC hK hI (by decide) q1286 rfl rfl hin2 rfl rfl rfl dX3_init_142 (fun H locs hI => ?_)
  refine W.widen (k := 13) (n := 1359) (Nat.le_of_ble_eq_true rfl) (Nat.le_of_ble_eq_true rfl) ?_
  obtain ⟨G1, h1, h2, h3⟩ := hI
  exact W.vret hC.1 hC.2.1 hr (fun t ht hW => ⟨⟨(), rfl, trivial, G1, ad, by rw [ht]; exact h1.1, ⟨h2.1, fun k hk => h2.2 k (mln_mem hk)⟩, h3⟩, h1.2.1.F ht⟩) h1.2.1.2.2 dX3_init_145 hlocks
