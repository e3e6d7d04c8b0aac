/-! a call of a private method on an object of a lower class: what 'selects' says of it -/
set_option maxRecDepth 100000
theorem GX.pv {s0 s : State} {wd av : Nat → Nat} {ed mi : Nat} {D : va_G} {cl : List vw_C} {h : Hp} (hG : GX s0 wd av ed mi) (hPB : PB s0 D cl h s) {y : MethodName} (hw : Cond.privateMethod y ∈ lw_tbl) : s.PrivateAt y := by
  have h0 : s0.PrivateAt y := Cond.privateMethod_at (hG.2.1.choose_spec _ hw)
  intro mk meth h1 h2
  have e1 : s0.methodNamed? y = some mk := by
    have q : (s0.setVm s.vm).methodNamed? y = some mk := h1
    rw [State.methodNamed?_setVm hPB.1.alike] at q
    exact q
  have e2 : s0.vm.method? mk = some meth := by rw [← hPB.1.alike.method?]; exact h2
  exact h0 mk meth e1 e2
theorem sel_priv {s : State} {args : Array Value} {C : String} {x2 y2 y : MethodName} (h2 : (Cond.selects C x2 y2).before args s = true) (hcls : y2.cls = y.cls) (hinst : (Cond.instanceMethod y).before args s = true) (hpriv : s.PrivateAt y) (hy : y.cls ≠ "java/lang/invoke/MethodHandle" ∧ y.cls ≠ "java/lang/invoke/VarHandle") : (Cond.selects C y y).before args s = true := by
  obtain ⟨c2, r2, m2, q1, -, q3, -, k, hk, hni⟩ := Cond.selects_spec h2
  obtain ⟨mk, methM, hnamed, hmethM, -, -⟩ := Cond.instanceMethod_spec hinst
  have hfound : s.methodFound? y.cls y.name y.desc = some mk := State.methodFound?_of_named hnamed hy
  have e1 := findClass_of_methodNamed hnamed
  have e2 := findClass_of_methodNamed q3
  rw [hcls] at e2
  have hc : m2.cls = mk.cls := Option.some.inj (e2.symm.trans e1)
  rw [hc] at hk
  have hsel : selectMethod {} s.vm c2 mk = .method mk := selectMethod_private hmethM (hpriv mk methM hnamed hmethM)
  simp only [Cond.before, Cond.holds, Cond.value, q1, hfound, hnamed, hsel, hk]
  simp; exact hni
theorem va_cwPr {R : Room} {s : State} {args : Array Value} {own C : String} {index maxL mc ms : Nat} {y : MethodName} {bytes : ByteArray} {ret : Option FieldType} {rm : Room} (n : Nat) (ht : ∀ w ∈ lw_all, w.before args s = true) (h1 : Cond.methodLink own index y ∈ lw_all) (h2 : Cond.sameMethod y.cls y.cls y.name y.desc ∈ lw_all) (h3 : Cond.instanceMethod y ∈ lw_all) (h4 : Cond.initialized y.cls ∈ lw_all) (h5 : Cond.code y bytes maxL ret ∈ lw_all) (hsel : (Cond.selects C y y).before args s = true) (hrc : rm.cells = mc) (hrs : rm.slots = ms)
    (hd : y.cls ≠ "java/lang/invoke/MethodHandle" ∧ y.cls ≠ "java/lang/invoke/VarHandle" ∧ (parseMethodDescriptor y.desc).map (fun d => d.parameters.length) = some n) (hR : rm.frames + 1 ≤ R.frames ∧ 8 + (maxL + 11) + rm.locals ≤ R.locals) : va_CU R s args own C y.cls index y y bytes maxL ret (ws_ y bytes maxL ret) rm mc ms n := by
  have hG : GoodIn lw_all (ws_ y bytes maxL ret) := lw_meth h5
  have hc : Cond.code y bytes maxL ret ∈ ws_ y bytes maxL ret := List.mem_cons_self
  refine ⟨⟨hrc, hrs, hR.1, hR.2, pay_in ht hG, hc⟩, ht _ h5, ht _ h4, ⟨hd.1, hd.2.1⟩, fun sig h => ?_, ht _ h1, ht _ h2, va_Decl.of (ht _ h3) (ht _ h5), hsel, ht _ h3⟩
  have h2 := hd.2.2
  rw [h] at h2
  exact (Option.some.inj h2).symm
