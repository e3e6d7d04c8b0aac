/-! the start of a contract of a method that may throw -/
set_option maxRecDepth 100000
section STARTT
variable {l : Launch} {s0 : State} {D : va_G} {cl : List vw_C} {tys : List (ClassId × FieldType)} {h : Hp}
theorem hpT_met {y : MethodName} {cc : ByteArray} {maxL : Nat} {ret : Option FieldType} {rm : Room} {av : List Value} {post : Option Value → Hp → Prop} {postT : Nat → Hp → Prop} {mc ms : Nat} (hy : plainName y.cls = true) (hlen : (lg_sl av).length ≤ maxL) (hK0 : va_K D cl tys s0)
    (body : ∀ (p : Program) (e : Env) (s : State) (m : MethodId) (below : List Frame) (meth : Method) (c : Code) (ls : Array Slot), p.tables.exec = Jvm.exec → c.code = cc → meth.sig.returnType = ret → meth.locks = false → c.maxLocals = maxL → s.vm.findClass y.cls = some m.cls → meth.name = y.name → (∀ w ∈ lw_all, w.before av.toArray s = true) → va_K D cl tys s → PB s0 D cl h s → lv_has ls maxL (lv_args 0 av) → va_S (zA s0) s.heap s.heap [] → HP D cl (zA s0) h s.heap → (∀ q, s.heap.size ≤ q → zA s0 q) → (∀ pc, ∀ x ∈ c.exceptionTable.toList, covers x pc = false) →
      W p l e rm s m av.toArray below meth c s.heap [] 0 0 (MQT below (QT s0 D cl post postT) av.toArray s mc ms (zA s0)) (F0 m 0 ls [])) : MetT l y (ws_ y cc maxL ret) rm (va_Pc av (PB s0 D cl h)) (QT s0 D cl post postT) mc ms (zA s0) := by
  refine MetT.ofW (cc := cc) (maxL := maxL) (ret := ret) hy rfl ?_
  intro p e s m args below meth c s₁ B hml hv
  obtain ⟨rfl, hPB⟩ := hv
  have hts := atoms_spec (ws := ws_ y cc maxL ret) B.pre
  obtain ⟨meth', c', k1, k2, -, -, -, -, k7, -⟩ := Cond.code_spec B.named (hts _ List.mem_cons_self)
  have hm : meth' = meth := Option.some.inj (k1.symm.trans B.method)
  have hcc : c' = c := Option.some.inj ((hm ▸ k2).symm.trans (Stand.of_body B).code)
  have hout : ∀ pc, ∀ x ∈ c.exceptionTable.toList, covers x pc = false := by
    intro pc x hx
    rw [hcc] at k7
    rw [Array.isEmpty_iff.mp k7] at hx
    cases hx
  have hts : ∀ w ∈ lw_all, w.before _ s = true := fun w h => hts w (List.mem_cons_of_mem _ h)
  have hl := lv_entry av (n := maxL) hlen
  rw [lg_entry_eq]
  exact body p e s m below meth c _ B.exec B.bytes B.returns B.notSynchronized hml (findClass_of_methodNamed B.named) (name_of_methodNamed B.named B.method).1 hts (va_K.moved hPB.1.alike hK0) hPB hl va_S.rf hPB.2.2.2 (fun q h => Nat.le_trans hPB.2.1 h) hout
end STARTT
