/-! A private method called on an object of a class below. -/
set_option maxRecDepth 100000
theorem sel_priv {args : Array Value} {s : State} {C : String} {y : MethodName} {c : ClassId} (hc : s.vm.findClass C = some c) (hsame : (Cond.sameMethod y.cls y.cls y.name y.desc).before args s = true) (hinst : (Cond.instanceMethod y).before args s = true) (hpriv : (Cond.privateMethod y).before args s = true) (hy : y.cls ≠ "java/lang/invoke/MethodHandle" ∧ y.cls ≠ "java/lang/invoke/VarHandle") : (Cond.selects C y y).before args s = true := by
  obtain ⟨mk, methM, hnamed, hmethM, -, -⟩ := Cond.instanceMethod_spec hinst
  have hfound : s.methodFound? y.cls y.name y.desc = some mk := State.methodFound?_of_named hnamed hy
  obtain ⟨cn, ck, r1, hcn, hck, hni, hf, hn1⟩ := Cond.sameMethod_found hsame
  have hcls : mk.cls = cn := Option.some.inj ((findClass_of_methodNamed hnamed).symm.trans hcn)
  have hsel : selectMethod {} s.vm c mk = .method mk := selectMethod_private hmethM (Cond.privateMethod_at hpriv mk methM hnamed hmethM)
  simp only [Cond.before, Cond.holds, Cond.value, hc, hfound, hnamed, hsel, hcls, hck]
  simp; exact hni
