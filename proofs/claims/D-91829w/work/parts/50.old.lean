/-! what the start holds and nobody writes: the JDK's switch of Strings, its formatter, the words -/
set_option maxRecDepth 100000
def WLEN : List Nat := [5, 4, 2, 5, 4, 5, 2, 2, 6, 44]
def WBYT : List (List Int32) := [[103, 117, 101, 115, 116], [109, 97, 114, 107], [105, 115], [97, 98, 111, 118, 101], [101, 118, 101, 110], [97, 112, 97, 114, 116], [98, 121], [105, 110], [117, 110, 108, 101, 115, 115],
  [103, 117, 101, 115, 116, 32, 109, 97, 114, 107, 32, 97, 98, 111, 118, 101, 32, 101, 118, 101, 110, 32, 97, 112, 97, 114, 116, 32, 105, 115, 32, 98, 121, 32, 105, 110, 32, 117, 110, 108, 101, 115, 115, 32]]
theorem w_bytes : ∀ i, i < 10 → WLEN.getD i 0 ≤ 44 ∧ WLEN.getD i 0 = (WBYT.getD i []).length ∧ ∀ k, k < 44 → ((Int32.toUInt32 ((WBYT.getD i []).getD k 0 &&& nI 255)) % 65536).toInt32 = (WBYT.getD i []).getD k 0 ∧ ((WBYT.getD i []).getD k 0).toUInt32.toUInt16.toUInt32.toInt32 = (WBYT.getD i []).getD k 0 := by decide +kernel
/-- ad: the Strings, av: their bytes; the words in the model's order, then all words in one -/
def OX (ad av : Nat → Nat) (A : Nat → Prop) (U : State) (H : Heap) : Prop := va_Z "java/lang/String" "COMPACT_STRINGS" "Z" (.int (zI true)) A U H ∧ va_Zq "jdk/internal/util/Preconditions" "SIOOBE_FORMATTER" "Ljava/util/function/BiFunction;" A U H ∧ vk_S 10 WLEN WBYT ad av A U H
theorem OX.at {ad av : Nat → Nat} {s0 s : State} {D : va_G} {cl : List vw_C} {h : Hp} (hX : OX ad av (zA s0) s0 s0.heap) (hPB : PB s0 D cl h s) : OX ad av (zA s0) s s.heap := by
  have hq : ∀ a : Nat, a < s0.heap.size → ¬ zA s0 a → s.heap[a]? = s0.heap[a]? := fun a h1 _ => hPB.2.2.1 a h1
  exact ⟨(va_Z.moved hPB.1.alike hX.1).kept hq, (va_Zq.moved hPB.1.alike hX.2.1).kept hq, (vk_S.moved hPB.1.alike hX.2.2).kept hq⟩
section OLDX
variable {ad av : Nat → Nat} {A : Nat → Prop} {U : State} {H : Heap} {i : Nat}
theorem OX.cd (h : OX ad av A U H) (hi : i < 10) : va_OF "java/lang/String" "coder" "B" (.int (nI 0)) (ad i) A U H := (h.2.2.1 i hi).2.1
theorem OX.vl (h : OX ad av A U H) (hi : i < 10) : va_OF "java/lang/String" "value" "[B" (.ref (av i)) (ad i) A U H := (h.2.2.1 i hi).2.2.1
theorem OX.ar (h : OX ad av A U H) (hi : i < 10) : va_T .byte (av i) (WLEN.getD i 0) (fun j => .int ((WBYT.getD i []).getD j 0)) A U H := (h.2.2.1 i hi).2.2.2
end OLDX
section CALLO
variable {p : Program} {l : Launch} {e : Env} {R : Room} {s s0 : State} {m : MethodId} {args : Array Value} {below : List Frame} {meth : Method} {c : Code} {H H0 : Heap} {locs : List Loc} {cells slots : Nat} {Q : State → Prop}
variable {cc : ByteArray} {pc : Nat} {ls : Array Slot} {rest st0 : List Value} {D : va_G} {cl : List vw_C} {b : Nat} {h h0 : Hp}
/-- a call on one of the start's objects -/
theorem hp_callO {own C : String} {index nL maxL mc ms : Nat} {y : MethodName} {bytes : ByteArray} {ret : Option FieldType} {rm : Room} {As : List Value} {post : Option Value → Hp → Prop} (hx : p.tables.exec = Jvm.exec) (hb : c.code = cc) (hml : c.maxLocals = nL) (hown : s.vm.findClass own = some m.cls) (hts : ∀ w ∈ lw_all, w.before args s = true) (hPB : PB s0 D cl h0 s) (hH : HP D cl (zA s0) h H) (hS : va_S (zA s0) s.heap H locs)
    (hM : Met l y (ws_ y bytes maxL ret) rm (va_Pc (.ref b :: As) (PB s0 D cl h)) (QR s0 D cl post) mc ms (zA s0)) (he : ∃ cell : Cell, H[b]? = some cell ∧ cell.vm.isStatics = false ∧ s.vm.findClass C = some cell.cls)
    (n : Nat) (lw : GoodIn lw_all (wsV own index C y (ws_ y bytes maxL ret))) (hd : y.cls = C ∧ y.cls ≠ "java/lang/invoke/MethodHandle" ∧ y.cls ≠ "java/lang/invoke/VarHandle" ∧ (parseMethodDescriptor y.desc).map (fun d => d.parameters.length) = some n) (hrm : rm.cells = mc ∧ rm.slots = ms) (hR : rm.frames + 1 ≤ R.frames ∧ 8 + (maxL + 11) + rm.locals ≤ R.locals)
    (hn : As.length = n) (hsize : ls.size = nL) (hstack : st0 = As.reverse ++ .ref b :: rest) (hroom : (rest.map fun v => v.category).sum ≤ 8) (hf : cells + mc ≤ R.cells ∧ slots + ms ≤ R.slots) (hdg : decode cc pc = .ok (.invokevirtual index, 3))
    (kk : ∀ (v : Option Value) (h1 : Hp) (H1 : Heap) (locs1 : List Loc), post v h1 → H.size ≤ H1.size → HP D cl (zA s0) h1 H1 → va_S (zA s0) s.heap H1 locs1 → W p l e R s m args below meth c H1 locs1 (cells + mc) (slots + ms) Q (F0 m (pc + 3) ls (v.toList ++ rest))) : W p l e R s m args below meth c H locs cells slots Q (F0 m pc ls st0) :=
  hp_call (va_runV (As := As) (rest := rest) ⟨hx, hb, hml, hown, hts⟩ hM (cwV n hts lw rfl hrm.1 hrm.2 hd hR) ⟨PB.blind, he, fun U hU hW => ⟨rfl, hPB.at hH hS hU hW⟩⟩ rfl hn hsize hstack (lv_room (rest := st0) hroom) hdg hf) hS kk
end CALLO
