/-! All that stands through a run, at the start. -/
set_option maxRecDepth 100000
abbrev dMark : String := "(LNightStones$Trail;LNightStones$Road;)I"
theorem named_nm {s : State} {x : MethodName} {m : MethodId} {meth : Method} (h : s.methodNamed? x = some m) (hm : s.vm.method? m = some meth) : meth.name = x.name ∧ meth.desc = x.desc := by
  unfold State.methodNamed? at h
  cases hc : s.vm.findClass x.cls with
  | none => simp [hc] at h
  | some c =>
    simp only [hc, Option.bind_eq_bind, Option.bind_some] at h
    cases hk : s.vm.classes[c]? with
    | none => simp [hk] at h
    | some k =>
      simp only [hk, Option.bind_some] at h
      cases hf : k.findMethod x.name x.desc with
      | none => simp [hf] at h
      | some i =>
        simp only [hf, Option.bind_some, Option.pure_def, Option.some.injEq] at h
        subst h
        unfold Class.findMethod at hf
        obtain ⟨hlt, hp, -⟩ := Array.findIdx?_eq_some_iff_getElem.mp hf
        simp only [Vm.method?, hk, Option.bind_some, Array.getElem?_eq_getElem hlt, Option.bind_eq_bind, Option.some.injEq] at hm
        subst hm
        simpa using hp
theorem ls_start {args : Array Value} {s : State} (h1 : (Cond.landsInDefault RX8 ⟨RX8, "mark", dMark⟩ ⟨RX14, "mark", dMark⟩).before args s = true) (h2 : (Cond.sameMethod RX8 RX14 "mark" dMark).before args s = true) (h3 : (Cond.instanceMethod ⟨RX14, "mark", dMark⟩).before args s = true) : LSd s := by
  obtain ⟨mi, meth, n1, n2, n3, n4⟩ := Cond.instanceMethod_spec h3
  have h1 : (Cond.landsInDefault RX8 ⟨RX8, "mark", dMark⟩ ⟨RX14, "mark", dMark⟩).holds args s none s [] = true := h1
  simp only [Cond.holds, Cond.value] at h1
  cases hc : s.vm.findClass RX8 with
  | none => simp [hc] at h1
  | some c =>
  cases hr : s.methodFound? RX8 "mark" dMark with
  | none => simp [hc, hr] at h1
  | some r =>
  obtain ⟨g1, k, hk, hni⟩ := Cond.sameMethod_spec hc hr h2
  cases n1.symm.trans g1
  cases hrm : s.vm.method? mi with
  | none => simp [hc, hr, n1, hrm] at h1
  | some rm =>
  cases n2.symm.trans hrm
  simp only [hc, hr, n1, hrm, Option.map_some, beq_iff_eq, Option.some.injEq] at h1
  split at h1
  · next m' hsel =>
    simp only [Bool.and_eq_true, decide_eq_true_eq, Bool.not_eq_true'] at h1
    obtain ⟨⟨⟨⟨rfl, -⟩, hpr⟩, -⟩, -⟩ := h1
    have hnm := fc_more hc hk
    have hpoly : ∀ y, signaturePolymorphic k y = false := by
      intro y
      unfold signaturePolymorphic
      rw [hnm.1]
      rfl
    obtain ⟨hup, -⟩ := (State.methodFound?_class hc hk hni hpoly m').mp hr
    obtain ⟨e1, e2⟩ := named_nm n1 n2
    exact ⟨c, m', hc, n1, special_of hk hni hup n2 e1 e2 n3 hpr hsel⟩
  · cases h1
theorem same_w : Cond.sameMethod RX8 RX14 "mark" dMark ∈ defaultWords_1 := by decide +kernel
def kAd (t0 t1 : Nat) (adK adV : Nat → Nat) (n : Nat) : Nat := if n = 0 then t0 else if n = 1 then t1 else if n < 20 then adK (n - 10) else adV (n - 20)
theorem kAd_k {t0 t1 : Nat} {adK adV : Nat → Nat} {i : Nat} (h : i < 9) : kAd t0 t1 adK adV (10 + i) = adK i := by
  unfold kAd
  rw [if_neg (by omega), if_neg (by omega), if_pos (by omega)]
  congr 1
  omega
theorem kAd_v {t0 t1 : Nat} {adK adV : Nat → Nat} {i : Nat} : kAd t0 t1 adK adV (20 + i) = adV i := by
  unfold kAd
  rw [if_neg (by omega), if_neg (by omega), if_neg (by omega)]
  congr 1
  omega
theorem kz_start {s : State} {b : Nat} (hts : ∀ w ∈ lw_tbl, w.before #[Value.ref b] s = true) (hgv : (Jvm.Cond.and given_1 narrow_1).before #[Value.ref b] s = true) (hmr : modulesRight_1 s = true) : ∃ (D : va_G) (ac : Nat → ClassId) (κ : Nat → Nat), KZ D ac (fun q => s.heap.size ≤ q) κ s := by
  have hs := flat_of_before _ hgv
  have hA : ∀ a : Nat, a < s.heap.size → ¬ (fun q : Nat => s.heap.size ≤ q) a := fun a h h2 => absurd h (Nat.not_lt.mpr h2)
  generalize (fun q : Nat => s.heap.size ≤ q) = A at hA ⊢
  obtain ⟨D, ac, hKW⟩ := kw_start hts
  have zl : ∀ i, i < 9 → zLen.getD i 0 ≤ 6 := fun i hi => zLen_6 ⟨i, hi⟩
  obtain ⟨adK, adV, hS, hE⟩ := vk_Sof (args := #[Value.ref b]) (s := s) (N := 9) (tm := zT) (len := zLen) (byt := zByt) (A := A) (fun i hi => by have := zl i hi; omega) (fun i hi => hs _ (str_w ⟨i, hi⟩).1) (fun i hi => hs _ (str_w ⟨i, hi⟩).2.1) (fun i hi => hs _ (str_w ⟨i, hi⟩).2.2.1) (fun i hi => hs _ (str_w ⟨i, hi⟩).2.2.2) (fun i hi j hj => hs _ (str_e ⟨i, hi⟩ ⟨j, by have := zl i hi; omega⟩ hj)) (fun i j hi hj hij => (Nat.lt_or_gt_of_ne hij).imp (fun h => hs _ (str_n i j h hj)) (fun h => hs _ (str_n j i h hi))) hA
  obtain ⟨t0, e0, T0⟩ := va_Tof (tm := tDef) (ty := .object "java/lang/Object") (N := 0) (f := fun _ => .null) (A := A) (by omega) (hs _ st_w.2.1.1) (va_eqt (hs _ st_w.2.1.2)) (fun j hj => by omega) hA
  obtain ⟨t1, e1, T1⟩ := va_Tof (tm := tSort) (ty := .object "java/lang/String") (N := 5) (f := fun j => .ref (adK (4 + j))) (A := A) (by omega) (hs _ st_w.1.1) (va_eqt (hs _ st_w.1.2)) (fun j hj => eq_ref (hs _ (sort_w ⟨j, hj⟩)) (hE (4 + j) (by omega))) hA
  obtain ⟨w1, w2, w3, w4, w5, w6, w7, w8, w9⟩ := tb_w
  refine ⟨D, ac, kAd t0 t1 adK adV, ⟨hKW, fun w hw hn => va_Nw.of (nk_on hn) (hts w hw), fun C hC => va_AO.of (hts _ (nAO_w C hC)), fun q hq => ?_⟩, ⟨fun q hq => va_Nc.of (hs _ (nNc_w q hq)), fun w hw => va_Nw.of ?_ (hs _ (dfl_w w hw)), ls_start (hs _ st_w.2.2.2.2.2) (hs _ (dfl_w _ same_w)) (hts _ w9), hmr⟩, ?_⟩
  · obtain ⟨z1, z2, z3, z4, z5⟩ := nFw_w q hq
    exact va_Fw.of (hts _ z1) (hts _ z2) (hts _ z3) (hts _ z4) (hts _ z5)
  · have := kd_ok w hw
    simp only [Bool.and_eq_true] at this
    exact this.1
  · refine ⟨va_Zof (hts _ w1.1) (hts _ w1.2) (va_eqt (hs _ st_w.2.2.1)) hA, ⟨va_Zref (hts _ w2.1) (hts _ w2.2) e0 hA, T0⟩, ⟨va_Zqof (hts _ w3.1) (hts _ w3.2.2) (hs _ st_w.2.2.2.1) hA, va_Zqof (hts _ w3.2.1) (hts _ w3.2.2) (hs _ st_w.2.2.2.2.1) hA⟩, ⟨va_Zref (hts _ w4.1) (hts _ w4.2) e1 hA, ?_⟩, ?_, ?_, ?_, ?_, ?_, LY_of (hts _ w3.1) (hs _ st_w.2.2.2.1) hA, LY_of (hts _ w3.2.1) (hs _ st_w.2.2.2.2.1) hA⟩
    · obtain ⟨cell, y1, y2, y3, y4, y5, y6, y7⟩ := T1
      refine ⟨cell, y1, y2, y3, y4, y5, fun j hj => ?_, y7⟩
      rw [y6 j hj]
      show some (Value.ref (adK (4 + j))) = some (Value.ref (kAd t0 t1 adK adV (14 + j)))
      rw [show 14 + j = 10 + (4 + j) by omega, kAd_k (by omega)]
    · refine ⟨fun i hi => ?_, fun i j hi hj e => ?_⟩
      · show va_O _ (kAd t0 t1 adK adV (10 + i)) A s s.heap ∧ va_OF _ _ _ _ (kAd t0 t1 adK adV (10 + i)) A s s.heap ∧ va_OF _ _ _ (.ref (kAd t0 t1 adK adV (20 + i))) (kAd t0 t1 adK adV (10 + i)) A s s.heap ∧ va_T _ (kAd t0 t1 adK adV (20 + i)) _ _ A s s.heap
        rw [kAd_k hi, kAd_v]
        exact hS.1 i hi
      · have e : kAd t0 t1 adK adV (10 + i) = kAd t0 t1 adK adV (10 + j) := e
        rw [kAd_k hi, kAd_k hj] at e
        exact hS.2 i j hi hj e
    · exact vk_R.of (hts _ w5) (hE 0 (by omega))
    · exact vk_R.of (hts _ w6) (hE 1 (by omega))
    · exact vk_R.of (hts _ w7) (hE 2 (by omega))
    · exact vk_R.of (hts _ w8) (hE 3 (by omega))
