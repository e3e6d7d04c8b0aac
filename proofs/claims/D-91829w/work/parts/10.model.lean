/-! THE MODEL's OBJECT: its 66 cells, one behind another; start and call rows -/
set_option maxRecDepth 100000
def CL : List vw_C := [(RX0, TX0, 14), (RX1, TX1, 7), (RX2, TX2, 64), (RX3, TX3, 7), (RX5, TX5, 6), (RX6, TX6, 3), (RX8, TX8, 7), (RX9, TX9, 2), (RX11, TX11, 7), (RX12, TX12, 7), (RX14, TX14, 1), (RX15, TX15, 1), (RX16, TX16, 1), (RX17, TX17, 1), (RX18, TX18, 1), (RX19, TX19, 5), (RX21, TX21, 9), (RX22, TX22, 3), (RX23, TX23, 8), (RX24, TX24, 9), (RJ2, TJ2, 3)]
def TYS (K : Nat → ClassId) : List (ClassId × FieldType) := [(K 0, .int), (K 1, .byte), (K 2, .boolean), (K 3, .long), (K 4, .object "java/lang/Object"), (K 5, .object "java/lang/String"), (K 6, .array .int), (K 7, .array .long)]
/-- level k of calls: so much room -/
def rmk (k mc ms : Nat) : Room := { frames := k, cells := mc, slots := ms, locals := 200 * k }
/-- kind (1 int, 2 byte, 3 boolean, 4 long, 5 rows of ints, 6 rows of longs, 7 Strings, 0 the object) and length of each cell -/
def mtab : List (Nat × Nat) := [(0, 0), (2, 700), (6, 2), (4, 10), (4, 10), (6, 2), (4, 5), (4, 5), (5, 2), (1, 5), (1, 5), (5, 2), (1, 12), (1, 12), (5, 2), (1, 12), (1, 12), (5, 2), (1, 12), (1, 12), (5, 2), (1, 12), (1, 12), (5, 2), (1, 12), (1, 12), (5, 2), (1, 12), (1, 12), (1, 2), (1, 2), (1, 2), (7, 9), (3, 12), (3, 10), (3, 10), (1, 10), (1, 10), (1, 4), (1, 4), (1, 1200), (1, 1200), (1, 1200), (1, 10), (3, 100), (3, 100), (1, 10), (1, 10), (1, 10), (1, 10), (1, 1024), (1, 10), (1, 10), (1, 10), (3, 1024), (1, 6400), (1, 6400), (1, 10), (1, 10), (1, 10), (1, 10), (1, 10), (1, 8), (1, 80), (1, 3), (1, 3)]
/-- the place of each field's array; 0: a number -/
def mfp : List Nat := [1, 0, 0, 0, 0, 0, 2, 5, 8, 11, 14, 17, 20, 23, 26, 29, 30, 31, 32, 33, 34, 35, 36, 37, 38, 39, 0, 40, 41, 42, 43, 0, 44, 45, 46, 47, 48, 49, 50, 51, 52, 53, 54, 0, 55, 56, 57, 58, 59, 60, 61, 62, 0, 0, 0, 0, 0, 0, 0, 0, 0, 63, 64, 65]
def mfld (o : Nat) (I : Nat → Int32) (k : Nat) : Value := match mfp.getD k 0 with
  | 0 => .int (I k)
  | q + 1 => .ref (o + (q + 1))
def mflds (o : Nat) (I : Nat → Int32) : List Value := (List.range 64).map (mfld o I)
theorem mflds_get (o : Nat) (I : Nat → Int32) {k : Nat} (hk : k < 64) : (mflds o I)[k]? = some (mfld o I k) := by simp [mflds, hk]
theorem mflds_len (o : Nat) (I : Nat → Int32) : (mflds o I).length = 64 := by simp [mflds]
theorem mflds_set (o : Nat) (I : Nat → Int32) {k : Nat} (hk : k < 64) (h0 : mfp.getD k 0 = 0) (x : Int32) : (mflds o I).set k (.int x) = mflds o (va_up I k x) := by
  apply List.ext_getElem?
  intro j
  by_cases hj : j = k
  · subst hj
    rw [List.getElem?_set_self (by rw [mflds_len]; exact hk), mflds_get _ _ hk]
    simp only [mfld, h0, va_up_self]
  · rw [List.getElem?_set_ne (Ne.symm hj)]
    by_cases h6 : j < 64
    · rw [mflds_get _ _ h6, mflds_get _ _ h6]
      unfold mfld
      rw [va_up_ne _ _ hj]
    · rw [List.getElem?_eq_none (by rw [mflds_len]; omega), List.getElem?_eq_none (by rw [mflds_len]; omega)]
def mcell (K : Nat → ClassId) (wd : Nat → Nat) (o : Nat) (I : Nat → Int32) (V : Nat → Nat → Int32) (J : Nat → Nat → Int64) (k : Nat) : va_E := match mtab.getD k (0, 0) with
  | (1, n) => .inl (K 0, n, .inl (V k))
  | (2, n) => .inl (K 1, n, .inl (V k))
  | (3, n) => .inl (K 2, n, .inl (V k))
  | (4, n) => .inl (K 3, n, .inr (.inl (J k)))
  | (5, n) => .inl (K 6, n, .inr (.inr (.inr (.inr (fun i => some (o + k + 1 + i))))))
  | (6, n) => .inl (K 7, n, .inr (.inr (.inr (.inr (fun i => some (o + k + 1 + i))))))
  | (7, n) => .inl (K 5, n, .inr (.inr (.inr (.inr (fun i => some (wd i))))))
  | _ => .inr (2, mflds o I)
def mset (h : Hp) (K : Nat → ClassId) (wd : Nat → Nat) (o : Nat) (I : Nat → Int32) (V : Nat → Nat → Int32) (J : Nat → Nat → Int64) : Hp := fun a => if o ≤ a ∧ a < o + 66 then some (mcell K wd o I V J (a - o), 0) else h a
theorem mset_at {h : Hp} {K : Nat → ClassId} {wd : Nat → Nat} {o : Nat} {I : Nat → Int32} {V : Nat → Nat → Int32} {J : Nat → Nat → Int64} {k : Nat} (hk : k < 66) : mset h K wd o I V J (o + k) = some (mcell K wd o I V J k, 0) := by
  unfold mset
  rw [if_pos ⟨by omega, by omega⟩, Nat.add_sub_cancel_left]
theorem mset_o {h : Hp} {K : Nat → ClassId} {wd : Nat → Nat} {o : Nat} {I : Nat → Int32} {V : Nat → Nat → Int32} {J : Nat → Nat → Int64} : mset h K wd o I V J o = some (.inr (2, mflds o I), 0) := mset_at (k := 0) (by omega)
theorem mset_out {h : Hp} {K : Nat → ClassId} {wd : Nat → Nat} {o : Nat} {I : Nat → Int32} {V : Nat → Nat → Int32} {J : Nat → Nat → Int64} {a : Nat} (ha : a < o ∨ o + 66 ≤ a) : mset h K wd o I V J a = h a := by
  unfold mset
  rw [if_neg (by omega)]
theorem mset_up {h : Hp} {K : Nat → ClassId} {wd : Nat → Nat} {o : Nat} {I I' : Nat → Int32} {V V' : Nat → Nat → Int32} {J J' : Nat → Nat → Int64} {k : Nat} {e : va_E} (hk : k < 66) (he : e = mcell K wd o I' V' J' k) (hj : ∀ j, j < 66 → j ≠ k → mcell K wd o I V J j = mcell K wd o I' V' J' j) : hset (mset h K wd o I V J) (o + k) e 0 = mset h K wd o I' V' J' := by
  funext a
  by_cases ha : a = o + k
  · subst ha
    rw [hset_self, mset_at hk, he]
  · rw [hset_ne _ _ _ ha]
    by_cases hr : o ≤ a ∧ a < o + 66
    · obtain ⟨j, rfl⟩ : ∃ j, a = o + j := ⟨a - o, by omega⟩
      rw [mset_at (by omega), mset_at (by omega), hj j (by omega) (by omega)]
    · rw [mset_out (by omega), mset_out (by omega)]
theorem mcell_V {K : Nat → ClassId} {wd : Nat → Nat} {o : Nat} {I : Nat → Int32} {V V' : Nat → Nat → Int32} {J : Nat → Nat → Int64} {k : Nat} (h : V k = V' k) : mcell K wd o I V J k = mcell K wd o I V' J k := by
  unfold mcell
  rw [h]
theorem mcell_J {K : Nat → ClassId} {wd : Nat → Nat} {o : Nat} {I : Nat → Int32} {V : Nat → Nat → Int32} {J J' : Nat → Nat → Int64} {k : Nat} (h : J k = J' k) : mcell K wd o I V J k = mcell K wd o I V J' k := by
  unfold mcell
  rw [h]
theorem mtab_k : ∀ k, k < 66 → k ≠ 0 → (mtab.getD k (0, 0)).1 ≠ 0 ∧ (mtab.getD k (0, 0)).1 < 8 := by decide +kernel
theorem mcell_I {K : Nat → ClassId} {wd : Nat → Nat} {o : Nat} {I I' : Nat → Int32} {V : Nat → Nat → Int32} {J : Nat → Nat → Int64} : ∀ k, k < 66 → k ≠ 0 → mcell K wd o I V J k = mcell K wd o I' V J k := by
  intro k h1 h0
  have hq := mtab_k k h1 h0
  unfold mcell
  generalize mtab.getD k (0, 0) = q at hq
  obtain ⟨a, n⟩ := q
  match a, hq with
  | 1, _ => rfl
  | 2, _ => rfl
  | 3, _ => rfl
  | 4, _ => rfl
  | 5, _ => rfl
  | 6, _ => rfl
  | 7, _ => rfl
  | 0, hq => exact absurd rfl hq.1
  | a + 8, hq => exact absurd hq.2 (by show ¬ a + 8 < 8; omega)
/-- one element of one array -/
def vset (V : Nat → Nat → Int32) (k i : Nat) (x : Int32) : Nat → Nat → Int32 := va_up V k (upd (V k) i x)
def jset (J : Nat → Nat → Int64) (k i : Nat) (x : Int64) : Nat → Nat → Int64 := va_up J k (vp_updL (J k) i x)
theorem vset_self (V : Nat → Nat → Int32) (k i : Nat) (x : Int32) : vset V k i x k i = x := by simp [vset, va_up, upd]
theorem vset_in (V : Nat → Nat → Int32) (k i j : Nat) (x : Int32) : vset V k i x k j = if j = i then x else V k j := by simp [vset, va_up, upd]
theorem vset_ne (V : Nat → Nat → Int32) {k i j : Nat} (x : Int32) (h : j ≠ i) : vset V k i x k j = V k j := by simp [vset, va_up, upd, h]
theorem vset_off (V : Nat → Nat → Int32) {k i k' : Nat} (x : Int32) (h : k' ≠ k) : vset V k i x k' = V k' := by simp [vset, va_up, h]
section START
variable {l : Launch} {s0 : State} {D : va_G} {cl : List vw_C} {tys : List (ClassId × FieldType)} {h : Hp}
theorem hp_met {y : MethodName} {cc : ByteArray} {maxL : Nat} {ret : Option FieldType} {rm : Room} {av : List Value} {post : Option Value → Hp → Prop} {mc ms : Nat} (hy : plainName y.cls = true) (hlen : (lg_sl av).length ≤ maxL) (hK0 : va_K D cl tys s0)
    (body : ∀ (p : Program) (e : Env) (s : State) (m : MethodId) (below : List Frame) (meth : Method) (c : Code) (ls : Array Slot), p.tables.exec = Jvm.exec → c.code = cc → meth.sig.returnType = ret → meth.locks = false → c.maxLocals = maxL → s.vm.findClass y.cls = some m.cls → meth.name = y.name → (∀ w ∈ lw_all, w.before av.toArray s = true) → va_K D cl tys s → PB s0 D cl h s → lv_has ls maxL (lv_args 0 av) → va_S (zA s0) s.heap s.heap [] → HP D cl (zA s0) h s.heap → (∀ q, s.heap.size ≤ q → zA s0 q) →
      W p l e rm s m av.toArray below meth c s.heap [] 0 0 (MQ below (QR s0 D cl post) av.toArray s mc ms (zA s0)) (F0 m 0 ls [])) : Met l y (ws_ y cc maxL ret) rm (va_Pc av (PB s0 D cl h)) (QR s0 D cl post) mc ms (zA s0) := by
  refine Met.ofW (cc := cc) (maxL := maxL) (ret := ret) hy rfl ?_
  intro p e s m args below meth c s₁ B hml hv
  obtain ⟨rfl, hPB⟩ := hv
  have hts := atoms_spec (ws := ws_ y cc maxL ret) B.pre
  have hts : ∀ w ∈ lw_all, w.before _ s = true := fun w h => hts w (List.mem_cons_of_mem _ h)
  have hl := lv_entry av (n := maxL) hlen
  rw [lg_entry_eq]
  exact body p e s m below meth c _ B.exec B.bytes B.returns B.notSynchronized hml (findClass_of_methodNamed B.named) (name_of_methodNamed B.named B.method).1 hts (va_K.moved hPB.1.alike hK0) hPB hl va_S.rf hPB.2.2.2 (fun q h => Nat.le_trans hPB.2.1 h)
end START
section CALLS
variable {p : Program} {l : Launch} {e : Env} {R : Room} {s s0 : State} {m : MethodId} {args : Array Value} {below : List Frame} {meth : Method} {c : Code} {H H0 : Heap} {locs : List Loc} {cells slots : Nat} {Q : State → Prop}
variable {cc : ByteArray} {pc : Nat} {ls : Array Slot} {rest st0 : List Value} {D : va_G} {cl : List vw_C} {A : Nat → Prop} {b t : Nat} {tys : List (ClassId × FieldType)} {h h0 : Hp}
variable {y : MethodName} {bytes : ByteArray} {maxL nL mc ms n index : Nat} {ret : Option FieldType} {rm : Room} {post : Option Value → Hp → Prop} {own C : String} {As : List Value}
theorem hp_callV (hx : p.tables.exec = Jvm.exec) (hb : c.code = cc) (hml : c.maxLocals = nL) (hown : s.vm.findClass own = some m.cls) (hts : ∀ w ∈ lw_all, w.before args s = true) (hPB : PB s0 D cl h0 s) (hK : va_K D cl tys s) (hH : HP D cl (zA s0) h H) (hS : va_S (zA s0) s.heap H locs)
    (hM : Met l y (ws_ y bytes maxL ret) rm (va_Pc (.ref b :: As) (PB s0 D cl h)) (QR s0 D cl post) mc ms (zA s0)) {ci : Nat} {q : vw_C} {fs : List Value} (he : h b = some (.inr (ci, fs), t)) (hc : cl[ci]? = some q) (hC : q.1 = C)
    (n : Nat) (lw : GoodIn lw_all (wsV own index C y (ws_ y bytes maxL ret))) (hd : y.cls = C ∧ y.cls ≠ "java/lang/invoke/MethodHandle" ∧ y.cls ≠ "java/lang/invoke/VarHandle" ∧ (parseMethodDescriptor y.desc).map (fun d => d.parameters.length) = some n) (hrm : rm.cells = mc ∧ rm.slots = ms) (hR : rm.frames + 1 ≤ R.frames ∧ 8 + (maxL + 11) + rm.locals ≤ R.locals)
    (hn : As.length = n) (hsize : ls.size = nL) (hstack : st0 = As.reverse ++ .ref b :: rest) (hroom : (rest.map fun v => v.category).sum ≤ 8) (hf : cells + mc ≤ R.cells ∧ slots + ms ≤ R.slots) (hdg : decode cc pc = .ok (.invokevirtual index, 3))
    (kk : ∀ (v : Option Value) (h1 : Hp) (H1 : Heap) (locs1 : List Loc), post v h1 → H.size ≤ H1.size → HP D cl (zA s0) h1 H1 → va_S (zA s0) s.heap H1 locs1 → W p l e R s m args below meth c H1 locs1 (cells + mc) (slots + ms) Q (F0 m (pc + 3) ls (v.toList ++ rest))) : W p l e R s m args below meth c H locs cells slots Q (F0 m pc ls st0) := by
  subst hC
  refine hp_call (va_runV (As := As) (rest := rest) ⟨hx, hb, hml, hown, hts⟩ hM (cwV n hts lw rfl hrm.1 hrm.2 hd hR) ⟨PB.blind, va_recv hK (hH.one he) hc (q0 := 0) rfl, fun U hU hW => ⟨rfl, hPB.at hH hS hU hW⟩⟩ rfl hn hsize hstack (lv_room (rest := st0) hroom) hdg hf) hS kk
theorem hp_callS (hx : p.tables.exec = Jvm.exec) (hb : c.code = cc) (hml : c.maxLocals = nL) (hown : s.vm.findClass own = some m.cls) (hts : ∀ w ∈ lw_all, w.before args s = true) (hPB : PB s0 D cl h0 s) (hH : HP D cl (zA s0) h H) (hS : va_S (zA s0) s.heap H locs)
    (hM : Met l y (ws_ y bytes maxL ret) rm (va_Pc As (PB s0 D cl h)) (QR s0 D cl post) mc ms (zA s0))
    (n : Nat) (lw : GoodIn lw_all (va_wsS own index y (ws_ y bytes maxL ret))) (hd : y.cls ≠ "java/lang/invoke/MethodHandle" ∧ y.cls ≠ "java/lang/invoke/VarHandle" ∧ (parseMethodDescriptor y.desc).map (fun d => d.parameters.length) = some n) (hrm : rm.cells = mc ∧ rm.slots = ms) (hR : rm.frames + 1 ≤ R.frames ∧ 8 + (maxL + 11) + rm.locals ≤ R.locals)
    (hn : As.length = n) (hsize : ls.size = nL) (hstack : st0 = As.reverse ++ rest) (hroom : (rest.map fun v => v.category).sum ≤ 8) (hf : cells + mc ≤ R.cells ∧ slots + ms ≤ R.slots) (hdg : decode cc pc = .ok (.invokestatic index, 3))
    (kk : ∀ (v : Option Value) (h1 : Hp) (H1 : Heap) (locs1 : List Loc), post v h1 → H.size ≤ H1.size → HP D cl (zA s0) h1 H1 → va_S (zA s0) s.heap H1 locs1 → W p l e R s m args below meth c H1 locs1 (cells + mc) (slots + ms) Q (F0 m (pc + 3) ls (v.toList ++ rest))) : W p l e R s m args below meth c H locs cells slots Q (F0 m pc ls st0) :=
  hp_call (va_runS (As := As) (rest := rest) ⟨hx, hb, hml, hown, hts⟩ hM (va_cwS n hts lw rfl hrm.1 hrm.2 hd hR) ⟨PB.blind, fun U hU hW => ⟨rfl, hPB.at hH hS hU hW⟩⟩ rfl hn hsize hstack (lv_room (rest := st0) hroom) hdg hf) hS kk
end CALLS
section MROWS
variable {p : Program} {l : Launch} {e : Env} {R : Room} {s s0 : State} {m : MethodId} {args : Array Value} {below : List Frame} {meth : Method} {c : Code} {H H0 : Heap} {locs : List Loc} {cells slots : Nat} {Q : State → Prop}
variable {cc : ByteArray} {pc : Nat} {ls : Array Slot} {rest : List Value} {D : va_G} {A : Nat → Prop} {h : Hp} {K : Nat → ClassId} {wd : Nat → Nat} {o : Nat} {I : Nat → Int32} {V : Nat → Nat → Int32} {J : Nat → Nat → Int64}
/-- a field of the model's object, read in the model's own code -/
theorem m_get (hx : p.tables.exec = Jvm.exec) (hb : c.code = cc) (hts : ∀ w ∈ lw_all, w.before args s = true) (hown : s.vm.findClass RX2 = some m.cls) (hK : va_K D CL (TYS K) s) (hH : HP D CL A (mset h K wd o I V J) H) (k : Nat) {index : Nat} (hk : k < 64) (hlink : Cond.fieldLink RX2 index "FirstInModel" (TX2 k).2.1 (TX2 k).2.2.1 ∈ lw_all) (hc : (TX2 k).1 = "FirstInModel") {v : Value} (hv : mfld o I k = v) (hdg : decode cc pc = .ok (.getfield index, 3))
    (kk : W p l e R s m args below meth c H locs cells slots Q (F0 m (pc + 3) ls (v :: rest))) : W p l e R s m args below meth c H locs cells slots Q (F0 m pc ls (.ref o :: rest)) :=
  hp_get (C := RX2) (T := TX2) (N := 64) hx hb hts in_X2 hown hK hH mset_o rfl k hk (hts _ hlink) (fun x hx => by rw [hc] at hx; exact hx) (by rw [mflds_get _ _ hk, hv]) hdg kk
/-- a number of the model's object is set -/
theorem m_put (hx : p.tables.exec = Jvm.exec) (hb : c.code = cc) (hts : ∀ w ∈ lw_all, w.before args s = true) (hown : s.vm.findClass RX2 = some m.cls) (hK : va_K D CL (TYS K) s) (hH : HP D CL A (mset h K wd o I V J) H) (hS : va_S A H0 H locs) (k : Nat) {index : Nat} (hk : k < 64) (hlink : Cond.fieldLink RX2 index "FirstInModel" (TX2 k).2.1 (TX2 k).2.2.1 ∈ lw_all) (hc : (TX2 k).1 = "FirstInModel") (hfin : (TX2 k).2.2.2 = false) (h0 : mfp.getD k 0 = 0) {ty : FieldType} {x : Int32} (hd : parseFieldDescriptor (TX2 k).2.2.1 = some ty) (hn : narrow ty (.int x) = .int x) (hfit : fits ty (.int x) = true) (hdg : decode cc pc = .ok (.putfield index, 3))
    (kk : ∀ (H1 : Heap) (locs1 : List Loc), HP D CL A (mset h K wd o (va_up I k x) V J) H1 → va_S A H0 H1 locs1 → W p l e R s m args below meth c H1 locs1 cells slots Q (F0 m (pc + 3) ls rest)) : W p l e R s m args below meth c H locs cells slots Q (F0 m pc ls (.int x :: .ref o :: rest)) := by
  refine hp_put (C := RX2) (T := TX2) (N := 64) hx hb hts in_X2 tyX2 tyX2_ok nmX2 hown hK hH hS mset_o rfl k hk (hts _ hlink) (fun x hx => by rw [hc] at hx; exact hx) hfin hd hn hfit (by rw [mflds_len]; exact hk) hdg (fun H1 locs1 _ h1 h2 => kk H1 locs1 (h1.to ?_) h2)
  rw [mflds_set _ _ hk h0]
  exact mset_up (k := 0) (by omega) rfl (fun j h1 h2 => mcell_I j h1 h2)
theorem m_iald (hx : p.tables.exec = Jvm.exec) (hb : c.code = cc) (hK : va_K D CL (TYS K) s) (hH : HP D CL A (mset h K wd o I V J) H) {k n j : Nat} (hk : k < 66) (hty : mtab.getD k (0, 0) = (1, n)) (hj : j < n) (hn : n < 2 ^ 31) {v : Int32} (hv : V k j = v) (hdg : decode cc pc = .ok (.iaload, 1))
    (kk : W p l e R s m args below meth c H locs cells slots Q (F0 m (pc + 1) ls (.int v :: rest))) : W p l e R s m args below meth c H locs cells slots Q (F0 m pc ls (.int (nI j) :: .ref (o + k) :: rest)) := by
  refine hp_iald (n := n) (t := 0) (f := V k) hx hb hK hH 0 (by rw [mset_at hk]; simp only [mcell, hty]) rfl (vp_in_nI hj hn) hdg ?_
  rw [nI_clamp (by omega), hv]
  exact kk
theorem m_bald (hx : p.tables.exec = Jvm.exec) (hb : c.code = cc) (hK : va_K D CL (TYS K) s) (hH : HP D CL A (mset h K wd o I V J) H) {k n j : Nat} (hk : k < 66) (hty : mtab.getD k (0, 0) = (2, n)) (hj : j < n) (hn : n < 2 ^ 31) {v : Int32} (hv : V k j = v) (hdg : decode cc pc = .ok (.baload, 1))
    (kk : W p l e R s m args below meth c H locs cells slots Q (F0 m (pc + 1) ls (.int v :: rest))) : W p l e R s m args below meth c H locs cells slots Q (F0 m pc ls (.int (nI j) :: .ref (o + k) :: rest)) := by
  refine hp_bald (n := n) (t := 0) (f := V k) hx hb hK hH 1 (by rw [mset_at hk]; simp only [mcell, hty]) rfl (vp_in_nI hj hn) hdg ?_
  rw [nI_clamp (by omega), hv]
  exact kk
theorem m_zald (hx : p.tables.exec = Jvm.exec) (hb : c.code = cc) (hK : va_K D CL (TYS K) s) (hH : HP D CL A (mset h K wd o I V J) H) {k n j : Nat} (hk : k < 66) (hty : mtab.getD k (0, 0) = (3, n)) (hj : j < n) (hn : n < 2 ^ 31) {v : Int32} (hv : V k j = v) (hdg : decode cc pc = .ok (.baload, 1))
    (kk : W p l e R s m args below meth c H locs cells slots Q (F0 m (pc + 1) ls (.int v :: rest))) : W p l e R s m args below meth c H locs cells slots Q (F0 m pc ls (.int (nI j) :: .ref (o + k) :: rest)) := by
  refine hp_zald (n := n) (t := 0) (f := V k) hx hb hK hH 2 (by rw [mset_at hk]; simp only [mcell, hty]) rfl (vp_in_nI hj hn) hdg ?_
  rw [nI_clamp (by omega), hv]
  exact kk
theorem m_lald (hx : p.tables.exec = Jvm.exec) (hb : c.code = cc) (hK : va_K D CL (TYS K) s) (hH : HP D CL A (mset h K wd o I V J) H) {k n j : Nat} (hk : k < 66) (hty : mtab.getD k (0, 0) = (4, n)) (hj : j < n) (hn : n < 2 ^ 31) {v : Int64} (hv : J k j = v) (hdg : decode cc pc = .ok (.laload, 1))
    (kk : W p l e R s m args below meth c H locs cells slots Q (F0 m (pc + 1) ls (.long v :: rest))) : W p l e R s m args below meth c H locs cells slots Q (F0 m pc ls (.int (nI j) :: .ref (o + k) :: rest)) := by
  refine hp_lald (n := n) (t := 0) (f := J k) hx hb hK hH 3 (by rw [mset_at hk]; simp only [mcell, hty]) rfl (vp_in_nI hj hn) hdg ?_
  rw [nI_clamp (by omega), hv]
  exact kk
/-- a row of a grid of ints -/
theorem m_rowI (hx : p.tables.exec = Jvm.exec) (hb : c.code = cc) (hK : va_K D CL (TYS K) s) (hH : HP D CL A (mset h K wd o I V J) H) {k n j k' : Nat} (hk : k < 66) (hty : mtab.getD k (0, 0) = (5, n)) (hj : j < n) (hn : n < 2 ^ 31) (hk' : k + 1 + j = k') (hdg : decode cc pc = .ok (.aaload, 1))
    (kk : W p l e R s m args below meth c H locs cells slots Q (F0 m (pc + 1) ls (.ref (o + k') :: rest))) : W p l e R s m args below meth c H locs cells slots Q (F0 m pc ls (.int (nI j) :: .ref (o + k) :: rest)) := by
  refine hp_aald (n := n) (t := 0) (f := fun i => some (o + k + 1 + i)) hx hb hK hH 6 (by rw [mset_at hk]; simp only [mcell, hty]) rfl rfl (vp_in_nI hj hn) hdg ?_
  rw [nI_clamp (by omega)]
  subst hk'
  rw [show o + k + 1 + j = o + (k + 1 + j) by omega]
  exact kk
/-- a row of a grid of longs -/
theorem m_rowJ (hx : p.tables.exec = Jvm.exec) (hb : c.code = cc) (hK : va_K D CL (TYS K) s) (hH : HP D CL A (mset h K wd o I V J) H) {k n j k' : Nat} (hk : k < 66) (hty : mtab.getD k (0, 0) = (6, n)) (hj : j < n) (hn : n < 2 ^ 31) (hk' : k + 1 + j = k') (hdg : decode cc pc = .ok (.aaload, 1))
    (kk : W p l e R s m args below meth c H locs cells slots Q (F0 m (pc + 1) ls (.ref (o + k') :: rest))) : W p l e R s m args below meth c H locs cells slots Q (F0 m pc ls (.int (nI j) :: .ref (o + k) :: rest)) := by
  refine hp_aald (n := n) (t := 0) (f := fun i => some (o + k + 1 + i)) hx hb hK hH 7 (by rw [mset_at hk]; simp only [mcell, hty]) rfl rfl (vp_in_nI hj hn) hdg ?_
  rw [nI_clamp (by omega)]
  subst hk'
  rw [show o + k + 1 + j = o + (k + 1 + j) by omega]
  exact kk
theorem m_word (hx : p.tables.exec = Jvm.exec) (hb : c.code = cc) (hK : va_K D CL (TYS K) s) (hH : HP D CL A (mset h K wd o I V J) H) {j : Nat} (hj : j < 9) (hdg : decode cc pc = .ok (.aaload, 1))
    (kk : W p l e R s m args below meth c H locs cells slots Q (F0 m (pc + 1) ls (.ref (wd j) :: rest))) : W p l e R s m args below meth c H locs cells slots Q (F0 m pc ls (.int (nI j) :: .ref (o + 32) :: rest)) := by
  refine hp_aald (n := 9) (t := 0) (f := fun i => some (wd i)) hx hb hK hH 5 (by rw [mset_at (by omega)]; rfl) rfl rfl (vp_in_nI hj (by omega)) hdg ?_
  rw [nI_clamp (by omega)]
  exact kk
theorem m_iast (hx : p.tables.exec = Jvm.exec) (hb : c.code = cc) (hK : va_K D CL (TYS K) s) (hH : HP D CL A (mset h K wd o I V J) H) (hS : va_S A H0 H locs) {k n j : Nat} (hk : k < 66) (hty : mtab.getD k (0, 0) = (1, n)) (hj : j < n) (hn : n < 2 ^ 31) {x : Int32} (hdg : decode cc pc = .ok (.iastore, 1))
    (kk : ∀ (H1 : Heap) (locs1 : List Loc), HP D CL A (mset h K wd o I (vset V k j x) J) H1 → va_S A H0 H1 locs1 → W p l e R s m args below meth c H1 locs1 cells slots Q (F0 m (pc + 1) ls rest)) : W p l e R s m args below meth c H locs cells slots Q (F0 m pc ls (.int x :: .int (nI j) :: .ref (o + k) :: rest)) := by
  refine hp_iast (n := n) (f := V k) (t := 0) hx hb hK hH hS 0 (by rw [mset_at hk]; simp only [mcell, hty]) rfl (vp_in_nI hj hn) hdg (fun H1 locs1 _ h1 h2 => kk H1 locs1 (h1.to ?_) h2)
  rw [nI_clamp (by omega)]
  exact mset_up hk (by simp only [mcell, hty, vset, va_up_self]) (fun i _ hi => mcell_V (by rw [vset_off _ _ hi]))
theorem m_bast (hx : p.tables.exec = Jvm.exec) (hb : c.code = cc) (hK : va_K D CL (TYS K) s) (hH : HP D CL A (mset h K wd o I V J) H) (hS : va_S A H0 H locs) {k n j : Nat} (hk : k < 66) (hty : mtab.getD k (0, 0) = (2, n)) (hj : j < n) (hn : n < 2 ^ 31) {x x' : Int32} (hx' : vp_nar .byte x = x') (hdg : decode cc pc = .ok (.bastore, 1))
    (kk : ∀ (H1 : Heap) (locs1 : List Loc), HP D CL A (mset h K wd o I (vset V k j x') J) H1 → va_S A H0 H1 locs1 → W p l e R s m args below meth c H1 locs1 cells slots Q (F0 m (pc + 1) ls rest)) : W p l e R s m args below meth c H locs cells slots Q (F0 m pc ls (.int x :: .int (nI j) :: .ref (o + k) :: rest)) := by
  refine hp_bast (n := n) (f := V k) (t := 0) hx hb hK hH hS 1 (by rw [mset_at hk]; simp only [mcell, hty]) rfl (vp_in_nI hj hn) hdg (fun H1 locs1 _ h1 h2 => kk H1 locs1 (h1.to ?_) h2)
  rw [nI_clamp (by omega), hx']
  exact mset_up hk (by simp only [mcell, hty, vset, va_up_self]) (fun i _ hi => mcell_V (by rw [vset_off _ _ hi]))
theorem m_zast (hx : p.tables.exec = Jvm.exec) (hb : c.code = cc) (hK : va_K D CL (TYS K) s) (hH : HP D CL A (mset h K wd o I V J) H) (hS : va_S A H0 H locs) {k n j : Nat} (hk : k < 66) (hty : mtab.getD k (0, 0) = (3, n)) (hj : j < n) (hn : n < 2 ^ 31) {x x' : Int32} (hx' : vp_nar .boolean x = x') (hdg : decode cc pc = .ok (.bastore, 1))
    (kk : ∀ (H1 : Heap) (locs1 : List Loc), HP D CL A (mset h K wd o I (vset V k j x') J) H1 → va_S A H0 H1 locs1 → W p l e R s m args below meth c H1 locs1 cells slots Q (F0 m (pc + 1) ls rest)) : W p l e R s m args below meth c H locs cells slots Q (F0 m pc ls (.int x :: .int (nI j) :: .ref (o + k) :: rest)) := by
  refine hp_zast (n := n) (f := V k) (t := 0) hx hb hK hH hS 2 (by rw [mset_at hk]; simp only [mcell, hty]) rfl (vp_in_nI hj hn) hdg (fun H1 locs1 _ h1 h2 => kk H1 locs1 (h1.to ?_) h2)
  rw [nI_clamp (by omega), hx']
  exact mset_up hk (by simp only [mcell, hty, vset, va_up_self]) (fun i _ hi => mcell_V (by rw [vset_off _ _ hi]))
theorem m_last (hx : p.tables.exec = Jvm.exec) (hb : c.code = cc) (hK : va_K D CL (TYS K) s) (hH : HP D CL A (mset h K wd o I V J) H) (hS : va_S A H0 H locs) {k n j : Nat} (hk : k < 66) (hty : mtab.getD k (0, 0) = (4, n)) (hj : j < n) (hn : n < 2 ^ 31) {x : Int64} (hdg : decode cc pc = .ok (.lastore, 1))
    (kk : ∀ (H1 : Heap) (locs1 : List Loc), HP D CL A (mset h K wd o I V (jset J k j x)) H1 → va_S A H0 H1 locs1 → W p l e R s m args below meth c H1 locs1 cells slots Q (F0 m (pc + 1) ls rest)) : W p l e R s m args below meth c H locs cells slots Q (F0 m pc ls (.long x :: .int (nI j) :: .ref (o + k) :: rest)) := by
  refine hp_last (n := n) (f := J k) (t := 0) hx hb hK hH hS 3 (by rw [mset_at hk]; simp only [mcell, hty]) rfl (vp_in_nI hj hn) hdg (fun H1 locs1 _ h1 h2 => kk H1 locs1 (h1.to ?_) h2)
  rw [nI_clamp (by omega)]
  exact mset_up hk (by simp only [mcell, hty, jset, va_up_self]) (fun i _ hi => mcell_J (by simp only [jset, va_up_ne _ _ hi]))
/-- the top of the stack by another name -/
theorem lv_top {x y : Int32} (hxy : x = y) (kk : W p l e R s m args below meth c H locs cells slots Q (F0 m pc ls (.int y :: rest))) : W p l e R s m args below meth c H locs cells slots Q (F0 m pc ls (.int x :: rest)) := by rw [hxy]; exact kk
theorem lv_topJ {x y : Int64} (hxy : x = y) (kk : W p l e R s m args below meth c H locs cells slots Q (F0 m pc ls (.long y :: rest))) : W p l e R s m args below meth c H locs cells slots Q (F0 m pc ls (.long x :: rest)) := by rw [hxy]; exact kk
end MROWS
