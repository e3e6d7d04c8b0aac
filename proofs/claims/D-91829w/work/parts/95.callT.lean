/-! a call of a method that may throw, where no handler stands: it goes on, or throws on -/
set_option maxRecDepth 100000
section CALLT
variable {p : Program} {l : Launch} {e : Env} {R : Room} {s s0 : State} {m : MethodId} {args : Array Value} {below : List Frame} {meth : Method} {c : Code} {H H0 : Heap} {locs : List Loc} {cells slots : Nat}
variable {cc : ByteArray} {pc : Nat} {ls : Array Slot} {rest st0 : List Value} {D : va_G} {cl : List vw_C} {A : Nat → Prop} {a b t : Nat} {tys : List (ClassId × FieldType)} {h h0 : Hp}
theorem hp_callVT {own C : String} {index nL maxL mc ms mc2 ms2 : Nat} {y : MethodName} {bytes : ByteArray} {ret : Option FieldType} {rm : Room} {As : List Value} {post post2 : Option Value → Hp → Prop} {postT postT2 : Nat → Hp → Prop} (hx : p.tables.exec = Jvm.exec) (hb : c.code = cc) (hml : c.maxLocals = nL) (hown : s.vm.findClass own = some m.cls) (hts : ∀ w ∈ lw_all, w.before args s = true) (hPB : PB s0 D cl h0 s) (hK : va_K D cl tys s) (hH : HP D cl (zA s0) h H) (hS : va_S (zA s0) s.heap H locs)
    (hM : MetT l y (ws_ y bytes maxL ret) rm (va_Pc (.ref b :: As) (PB s0 D cl h)) (QT s0 D cl post postT) mc ms (zA s0)) {ci : Nat} {q : vw_C} {fs : List Value} (he : h b = some (.inr (ci, fs), t)) (hc : cl[ci]? = some q) (hC : q.1 = C)
    (n : Nat) (lw : GoodIn lw_all (wsV own index C y (ws_ y bytes maxL ret))) (hd : y.cls = C ∧ y.cls ≠ "java/lang/invoke/MethodHandle" ∧ y.cls ≠ "java/lang/invoke/VarHandle" ∧ (parseMethodDescriptor y.desc).map (fun d => d.parameters.length) = some n) (hrm : rm.cells = mc ∧ rm.slots = ms) (hR : rm.frames + 1 ≤ R.frames ∧ 8 + (maxL + 11) + rm.locals ≤ R.locals)
    (hn : As.length = n) (hsize : ls.size = nL) (hstack : st0 = As.reverse ++ .ref b :: rest) (hroom : (rest.map fun v => v.category).sum ≤ 8) (hf : cells + mc ≤ R.cells ∧ slots + ms ≤ R.slots) (hlocks : meth.locks = false) (hout : ∀ x ∈ c.exceptionTable.toList, covers x pc = false) (hc2 : cells + mc ≤ mc2 ∧ slots + ms ≤ ms2) (hdg : decode cc pc = .ok (.invokevirtual index, 3))
    (kt : ∀ (x : Nat) (h1 : Hp), postT x h1 → postT2 x h1)
    (kk : ∀ (v : Option Value) (h1 : Hp) (H1 : Heap) (locs1 : List Loc), post v h1 → H.size ≤ H1.size → HP D cl (zA s0) h1 H1 → va_S (zA s0) s.heap H1 locs1 → W p l e R s m args below meth c H1 locs1 (cells + mc) (slots + ms) (MQT below (QT s0 D cl post2 postT2) args s mc2 ms2 (zA s0)) (F0 m (pc + 3) ls (v.toList ++ rest))) : W p l e R s m args below meth c H locs cells slots (MQT below (QT s0 D cl post2 postT2) args s mc2 ms2 (zA s0)) (F0 m pc ls st0) := by
  subst hC
  obtain ⟨⟨hrc, hrs, hfr, hlo, hws, hcw, hcode, hini, hy, hlen, hl⟩, hin, hse⟩ := cwV (R := R) n hts lw rfl hrm.1 hrm.2 hd hR
  obtain ⟨cellB, hcB, hoB, hclB⟩ := hp_rec hK hH he hc
  intro T hT X
  obtain ⟨mk, methM, hnamed, hmethM, hstM, habM⟩ := Cond.instanceMethod_spec hin
  obtain ⟨methM', cM, hmethM', -, -, -, -, -, -, hsigM⟩ := Cond.code_spec hnamed hcode
  cases hmethM.symm.trans hmethM'
  obtain ⟨c2, r2, m2, q1, q2, q3, q4, kP, hkP, hkPi⟩ := Cond.selects_spec hse
  cases hclB.symm.trans q1
  cases (State.methodFound?_of_named hnamed hy).symm.trans q2
  cases hnamed.symm.trans q3
  have hselP : selectMethod e.platform s.vm cellB.cls mk = .method mk := by rw [Launch.admits_selectMethod X.admits]; exact q4
  obtain ⟨vm₁, X₁, hstep₁⟩ := X.invokevirtual hx hown hl hnamed hmethM hstM hkP hkPi hy (a := b) (cell := cellB) (by rw [hT]; exact hcB)
    (fun z h => by rw [h] at hoB; cases hoB) hselP hmethM habM hkP hkPi (g := F0 m pc ls st0) rfl (argsL := As) (rest := rest) (hn.trans (hlen _ hsigM)) hstack (by rw [hb]; exact hdg)
  obtain ⟨o, t1, B, L, XB, hL, eh, ev, ⟨hq, hz, hk⟩, hor⟩ := backT (Wd := 8) (len := 3) (bytes := bytes) (maxL := maxL) (ret := ret) hM PB.blind hrc hrs hfr hlo hws hcw (fun a' U hW => word_at hW (Or.inl (by first | rfl | simp [Cond.onTables, Cond.keeps, Cond.steady])) hini) X₁ (g := F0 m pc ls rest) (ig := .invokevirtual index) (a := (Value.ref b :: As).toArray) rfl (by rw [hml]; exact hsize) (by rw [hb]; exact hdg) (by show 2 * 0 + (rest.map fun v => v.category).sum ≤ 8; omega) (X₁.named hnamed) ⟨hf.1, hf.2, rfl, hPB.at hH hS (show (T.setVm vm₁).heap = H from hT) X₁.warmed⟩
  have h00 : ((T.setVm vm₁).calling (F0 m pc ls rest) mk (Value.ref b :: As).toArray).heap = H := hT
  rw [h00] at hz hk
  have hS1 : va_S (zA s0) s.heap B.heap (locs ++ L) := ⟨Nat.le_trans hS.1 (by rw [eh]; exact hz), fun q h1 h2 => by rw [eh, hk q (Nat.lt_of_lt_of_le h1 hS.1) h2]; exact hS.2.1 q h1 h2, fun q hq => by
      rcases List.mem_append.mp hq with h | h
      · exact hS.2.2 q h
      · exact hL q h⟩
  rcases hor with ⟨v, rfl, hst⟩ | ⟨x, rfl, hst⟩
  · rcases hq with ⟨v', h1, hv, hp, hh⟩ | ⟨x', h1, hv, -⟩
    · cases hv
      obtain ⟨t2, a1, b1⟩ := kk v h1 B.heap (locs ++ L) hp (by rw [eh]; exact hz) (by rw [eh]; exact hh) hS1 B rfl XB
      exact ⟨t2, hstep₁ _ fun acts => by rw [doInvoke_state]; exact hst.trans a1, b1⟩
    · cases hv
  · rcases hq with ⟨v', h1, hv, -⟩ | ⟨x', h1, hv, hp, hh⟩
    · cases hv
    · cases hv
      obtain ⟨st, hrun, hend, hW2, hsame⟩ := (stand_widen XB hc2.1 hc2.2).leaveThrown x (g := F0 m pc ls rest) rfl rfl rfl hout hlocks
      exact ⟨_, hstep₁ _ fun acts => by rw [doInvoke_state]; exact hst.trans st, .threw x, hrun, hend, ⟨Or.inr ⟨x, h1, rfl, kt x h1 hp, by show HP D cl (zA s0) h1 B.heap; rw [eh]; exact hh⟩, hS1.F rfl⟩, locs ++ L, ⟨hW2, hsame⟩, hS1.2.2⟩
end CALLT
