/-! methods that may throw: their contracts -/
set_option maxRecDepth 100000
/-- a contract of a method that returns or throws -/
def MetT (l : Launch) (y : MethodName) (ws : List Cond) (rm : Room) (Pc : Array Value → State → Prop) (Qc : Array Value → State → Outcome → State → Prop) (mc ms : Nat) (free : Addr → Prop) : Prop :=
  MetFree l y (headSpec ws rm) Pc (fun _ _ _ _ _ => True) (fun a st o t => Qc a st o t ∧ ∃ L, (st.WarmedH t.vm ∧ st.sameButNew ({ t with vm := st.vm } : State) L mc ms) ∧ ∀ q ∈ L, free q.base)
def MQT (below : List Frame) (Qc : Array Value → State → Outcome → State → Prop) (a : Array Value) (s : State) (mc ms : Nat) (free : Addr → Prop) : State → Prop := fun t =>
  ∃ o, t.status = .running ∧ Ended t below o ∧ Qc a s o t ∧ ∃ L, (s.WarmedH t.vm ∧ s.sameButNew ({ t with vm := s.vm } : State) L mc ms) ∧ ∀ q ∈ L, free q.base
/-- it returns with post, or throws what lies at a with postT -/
def QT (s0 : State) (D : va_G) (cl : List vw_C) (post : Option Value → Hp → Prop) (postT : Nat → Hp → Prop) : Array Value → State → Outcome → State → Prop := fun _ st oc t => ((∃ (v : Option Value) (h : Hp), oc = .returned v ∧ post v h ∧ HP D cl (zA s0) h t.heap) ∨ (∃ (a : Nat) (h : Hp), oc = .threw a ∧ postT a h ∧ HP D cl (zA s0) h t.heap)) ∧ va_F (zA s0) st t
section THROWN
variable {p : Program} {l : Launch} {e : Env} {R : Room} {s s0 : State} {m : MethodId} {args : Array Value} {below : List Frame} {meth : Method} {c : Code} {H H0 : Heap} {locs : List Loc} {cells slots : Nat} {Q Q' : State → Prop}
variable {cc : ByteArray} {pc : Nat} {ls : Array Slot} {rest st0 : List Value} {D : va_G} {cl : List vw_C} {A : Nat → Prop} {a b t : Nat} {tys : List (ClassId × FieldType)} {h h0 : Hp}
theorem w_mono {g : JFrame} (hq : ∀ t, Q t → Q' t) (k : W p l e R s m args below meth c H locs cells slots Q g) : W p l e R s m args below meth c H locs cells slots Q' g := by
  intro T hT X
  obtain ⟨t, a1, b1⟩ := k T hT X
  exact ⟨t, a1, hq t b1⟩
theorem mq_t {av : Array Value} {post : Option Value → Hp → Prop} {postT : Nat → Hp → Prop} {mc ms : Nat} {free : Addr → Prop} (t : State) (q : MQ below (QR s0 D cl post) av s mc ms free t) : MQT below (QT s0 D cl post postT) av s mc ms free t := by
  obtain ⟨o, h1, h2, h3, L, h4, h5⟩ := q
  exact ⟨o, h1, h2, ⟨Or.inl h3.1, h3.2⟩, L, h4.2, h5⟩
theorem MetT.ofW {y : MethodName} {ws ws' : List Cond} {rm : Room} {Pc : Array Value → State → Prop} {Qc : Array Value → State → Outcome → State → Prop} {mc ms : Nat} {free : Addr → Prop} {maxL : Nat} {ret : Option FieldType}
    (hy : plainName y.cls = true) (hw : ws = Cond.code y cc maxL ret :: ws')
    (body : ∀ p e s m args below meth c s₁, BodyLoose p l y (headSpec ws rm) cc maxL ret e s m args below meth c s₁ → c.maxLocals = maxL → Pc args s →
      W p l e (headSpec ws rm).room s m args below meth c s.heap [] 0 0 (MQT below Qc args s mc ms free) (entryFrame m args maxL)) : MetT l y ws rm Pc Qc mc ms free := by
  refine MetFree.of_bodyS (code := cc) (maxLocals := maxL) (ret := ret) hy ?_ ?_
  · intro args s m h hn
    obtain ⟨meth, c, h1, h2, h3, h4, h5, h6, -, -⟩ := Cond.code_spec hn (atoms_spec (ws := ws) h _ (by rw [hw]; exact List.mem_cons_self))
    exact ⟨meth, c, h1, h2, h3, h4, h5, h6⟩
  · intro p e s m args below meth c s₁ B hml hP _
    have hh0 : s₁.heap = s.heap := by rw [B.state]; rfl
    obtain ⟨t, a1, o, b1, b2, b3⟩ := body p e s m args below meth c s₁ B hml hP s₁ hh0 (Stand.of_body B)
    exact ⟨t, o, a1, b1, b2, ⟨b3.1, b3.2⟩⟩
/-- athrow out of the method -/
theorem hp_throw {post : Option Value → Hp → Prop} {postT : Nat → Hp → Prop} {mc ms : Nat} (hx : p.tables.exec = Jvm.exec) (hb : c.code = cc) (hlocks : meth.locks = false) (hout : ∀ x ∈ c.exceptionTable.toList, covers x pc = false) (hH : HP D cl (zA s0) h H) (hS : va_S (zA s0) s.heap H locs) (hc : cells ≤ mc) (hs : slots ≤ ms) (hdg : decode cc pc = .ok (.athrow, 1)) (hp : postT a h) : W p l e R s m args below meth c H locs cells slots (MQT below (QT s0 D cl post postT) args s mc ms (zA s0)) (F0 m pc ls (.ref a :: rest)) := by
  refine W.widen hc hs ?_
  intro T hT X
  obtain ⟨st, hrun, hend, hW, hsame⟩ := X.athrowLeaves hx (g := F0 m pc ls (.ref a :: rest)) rfl rfl rfl hout rfl (by rw [hb]; exact hdg) hlocks
  exact ⟨_, st, .threw a, hrun, hend, ⟨Or.inr ⟨a, h, rfl, hp, by show HP D cl (zA s0) h T.heap; rw [hT]; exact hH⟩, hS.F hT⟩, locs, ⟨hW, hsame⟩, hS.2.2⟩
end THROWN
