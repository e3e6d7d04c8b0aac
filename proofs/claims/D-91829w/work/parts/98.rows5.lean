/-! by gen/mspec.py -/
set_option maxRecDepth 100000
section MODEL
variable {l : Launch} {s0 : State} {D : va_G} {K : Nat → ClassId} {wd : Nat → Nat} {o : Nat} {h : Hp} {I : Nat → Int32} {V : Nat → Nat → Int32} {J : Nat → Nat → Int64}
theorem hp_siz {p : Program} {e : Env} {R : Room} {s : State} {m : MethodId} {args : Array Value} {below : List Frame} {meth : Method} {c : Code} {H : Heap} {locs : List Loc} {cells slots : Nat} {Q : State → Prop} {cc : ByteArray} {pc : Nat} {ls : Array Slot} {rest st0 : List Value} {h0 : Hp} {own : String} {index nL : Nat} (hx : p.tables.exec = Jvm.exec) (hb : c.code = cc) (hml : c.maxLocals = nL) (hown : s.vm.findClass own = some m.cls) (hts : ∀ w ∈ lw_all, w.before args s = true) (hPB : PB s0 D CL h0 s) (hK0 : va_K D CL (TYS K) s0) (hK : va_K D CL (TYS K) s) (hH : HP D CL (zA s0) h H) (hS : va_S (zA s0) s.heap H locs) {av : Nat → Nat} {ed mi : Nat} (hG : GX s0 wd av ed mi)
    {a t j : Nat} {L : List Nat} (hA0 : AL (K 4) ed h a t L j) {n9 : Nat} (hn9 : L.length = n9) (hq : Cond.methodLink own index ⟨"java/util/ArrayList", "size", "()I"⟩ ∈ lw_all) (hR : 1 ≤ R.frames ∧ 8 + (4 + 11) + 200 * 0 ≤ R.locals) (hsize : ls.size = nL) (hstack : st0 = .ref a :: rest) (hroom : (rest.map fun v => v.category).sum ≤ 8) (hf : cells ≤ R.cells ∧ slots ≤ R.slots) (hdg : decode cc pc = .ok (.invokevirtual index, 3))
    (kk : ∀ (H1 : Heap) (locs1 : List Loc), HP D CL (zA s0) h H1 → va_S (zA s0) s.heap H1 locs1 → W p l e R s m args below meth c H1 locs1 cells slots Q (F0 m (pc + 3) ls (.int (nI n9) :: rest))) : W p l e R s m args below meth c H locs cells slots Q (F0 m pc ls st0) := by
  have hA := hA0
  obtain ⟨mcn, d, he, hob, hlen, hdd⟩ := hA
  refine hp_callV (As := []) (rest := rest) hx hb hml hown hts hPB hK hH hS (mj_size hK0 hA0) he rfl rfl 0 (lw_V hq q487 q488 q106 q489) (by decide +kernel) ⟨rfl, rfl⟩ (by simp only [rmk]; omega) rfl hsize hstack hroom (by simpa using hf) hdg (fun v h1 H1 locs1 hp _ hH1 hS1 => ?_)
  obtain ⟨rfl, hq2⟩ := hp
  rw [hq2] at hH1
  rw [← hn9] at kk
  exact kk H1 locs1 hH1 hS1
theorem hp_lget {p : Program} {e : Env} {R : Room} {s : State} {m : MethodId} {args : Array Value} {below : List Frame} {meth : Method} {c : Code} {H : Heap} {locs : List Loc} {cells slots : Nat} {Q : State → Prop} {cc : ByteArray} {pc : Nat} {ls : Array Slot} {rest st0 : List Value} {h0 : Hp} {own : String} {index nL : Nat} (hx : p.tables.exec = Jvm.exec) (hb : c.code = cc) (hml : c.maxLocals = nL) (hown : s.vm.findClass own = some m.cls) (hts : ∀ w ∈ lw_all, w.before args s = true) (hPB : PB s0 D CL h0 s) (hK0 : va_K D CL (TYS K) s0) (hK : va_K D CL (TYS K) s) (hH : HP D CL (zA s0) h H) (hS : va_S (zA s0) s.heap H locs) {av : Nat → Nat} {ed mi : Nat} (hG : GX s0 wd av ed mi)
    {a t j : Nat} {L : List Nat} (hA0 : AL (K 4) ed h a t L j) {k9 : Nat} (hk9 : k9 < L.length) (hq : Cond.methodLink own index ⟨"java/util/ArrayList", "get", "(I)Ljava/lang/Object;"⟩ ∈ lw_all) (hR : 3 ≤ R.frames ∧ 8 + (4 + 11) + 200 * 2 ≤ R.locals) (hsize : ls.size = nL) (hstack : st0 = .int (nI k9) :: .ref a :: rest) (hroom : (rest.map fun v => v.category).sum ≤ 8) (hf : cells ≤ R.cells ∧ slots ≤ R.slots) (hdg : decode cc pc = .ok (.invokevirtual index, 3))
    (kk : ∀ (H1 : Heap) (locs1 : List Loc), HP D CL (zA s0) h H1 → va_S (zA s0) s.heap H1 locs1 → W p l e R s m args below meth c H1 locs1 cells slots Q (F0 m (pc + 3) ls (.ref (L.getD k9 0) :: rest))) : W p l e R s m args below meth c H locs cells slots Q (F0 m pc ls st0) := by
  have hA := hA0
  obtain ⟨mcn, d, he, hob, hlen, hdd⟩ := hA
  refine hp_callV (As := [.int (nI k9)]) (rest := rest) hx hb hml hown hts hPB hK hH hS (mj_get hK0 hA0 hk9) he rfl rfl 1 (lw_V hq q506 q507 q106 q508) (by decide +kernel) ⟨rfl, rfl⟩ (by simp only [rmk]; omega) rfl hsize hstack hroom (by simpa using hf) hdg (fun v h1 H1 locs1 hp _ hH1 hS1 => ?_)
  obtain ⟨rfl, hq2⟩ := hp
  rw [hq2] at hH1
  exact kk H1 locs1 hH1 hS1
theorem hp_isE {p : Program} {e : Env} {R : Room} {s : State} {m : MethodId} {args : Array Value} {below : List Frame} {meth : Method} {c : Code} {H : Heap} {locs : List Loc} {cells slots : Nat} {Q : State → Prop} {cc : ByteArray} {pc : Nat} {ls : Array Slot} {rest st0 : List Value} {h0 : Hp} {own : String} {index nL : Nat} (hx : p.tables.exec = Jvm.exec) (hb : c.code = cc) (hml : c.maxLocals = nL) (hown : s.vm.findClass own = some m.cls) (hts : ∀ w ∈ lw_all, w.before args s = true) (hPB : PB s0 D CL h0 s) (hK0 : va_K D CL (TYS K) s0) (hK : va_K D CL (TYS K) s) (hH : HP D CL (zA s0) h H) (hS : va_S (zA s0) s.heap H locs) {av : Nat → Nat} {ed mi : Nat} (hG : GX s0 wd av ed mi)
    {a t j : Nat} {L : List Nat} (hA0 : AL (K 4) ed h a t L j) {n9 : Nat} (hn9 : L.length = n9) (hq : Cond.methodLink own index ⟨"java/util/ArrayList", "isEmpty", "()Z"⟩ ∈ lw_all) (hR : 1 ≤ R.frames ∧ 8 + (4 + 11) + 200 * 0 ≤ R.locals) (hsize : ls.size = nL) (hstack : st0 = .ref a :: rest) (hroom : (rest.map fun v => v.category).sum ≤ 8) (hf : cells ≤ R.cells ∧ slots ≤ R.slots) (hdg : decode cc pc = .ok (.invokevirtual index, 3))
    (kk : ∀ (H1 : Heap) (locs1 : List Loc), HP D CL (zA s0) h H1 → va_S (zA s0) s.heap H1 locs1 → W p l e R s m args below meth c H1 locs1 cells slots Q (F0 m (pc + 3) ls (.int (zI (decide (n9 = 0))) :: rest))) : W p l e R s m args below meth c H locs cells slots Q (F0 m pc ls st0) := by
  have hA := hA0
  obtain ⟨mcn, d, he, hob, hlen, hdd⟩ := hA
  refine hp_callV (As := []) (rest := rest) hx hb hml hown hts hPB hK hH hS (mj_isEmpty hK0 hA0) he rfl rfl 0 (lw_V hq q798 q799 q106 q800) (by decide +kernel) ⟨rfl, rfl⟩ (by simp only [rmk]; omega) rfl hsize hstack hroom (by simpa using hf) hdg (fun v h1 H1 locs1 hp _ hH1 hS1 => ?_)
  obtain ⟨rfl, hq2⟩ := hp
  rw [hq2] at hH1
  rw [← hn9] at kk
  exact kk H1 locs1 hH1 hS1
theorem hp_rmv {p : Program} {e : Env} {R : Room} {s : State} {m : MethodId} {args : Array Value} {below : List Frame} {meth : Method} {c : Code} {H : Heap} {locs : List Loc} {cells slots : Nat} {Q : State → Prop} {cc : ByteArray} {pc : Nat} {ls : Array Slot} {rest st0 : List Value} {h0 : Hp} {own : String} {index nL : Nat} (hx : p.tables.exec = Jvm.exec) (hb : c.code = cc) (hml : c.maxLocals = nL) (hown : s.vm.findClass own = some m.cls) (hts : ∀ w ∈ lw_all, w.before args s = true) (hPB : PB s0 D CL h0 s) (hK0 : va_K D CL (TYS K) s0) (hK : va_K D CL (TYS K) s) (hH : HP D CL (zA s0) h H) (hS : va_S (zA s0) s.heap H locs) {av : Nat → Nat} {ed mi : Nat} (hG : GX s0 wd av ed mi)
    {a t j : Nat} {L : List Nat} (hA0 : AL (K 4) ed h a t L j) {k9 : Nat} (hk9 : k9 < L.length) (hq : Cond.methodLink own index ⟨"java/util/ArrayList", "remove", "(I)Ljava/lang/Object;"⟩ ∈ lw_all) (hR : 4 ≤ R.frames ∧ 8 + (4 + 11) + 200 * 3 ≤ R.locals) (hsize : ls.size = nL) (hstack : st0 = .int (nI k9) :: .ref a :: rest) (hroom : (rest.map fun v => v.category).sum ≤ 8) (hf : cells ≤ R.cells ∧ slots ≤ R.slots) (hdg : decode cc pc = .ok (.invokevirtual index, 3))
    (kk : ∀ (h1 : Hp) (H1 : Heap) (locs1 : List Loc), AL (K 4) ed h1 a t (L.eraseIdx k9) j → frT t h h1 → obK h h1 → HP D CL (zA s0) h1 H1 → va_S (zA s0) s.heap H1 locs1 → W p l e R s m args below meth c H1 locs1 cells slots Q (F0 m (pc + 3) ls (.ref (L.getD k9 0) :: rest))) : W p l e R s m args below meth c H locs cells slots Q (F0 m pc ls st0) := by
  have hA := hA0
  obtain ⟨mcn, d, he, hob, hlen, hdd⟩ := hA
  refine hp_callV (As := [.int (nI k9)]) (rest := rest) hx hb hml hown hts hPB hK hH hS (mj_rem hK0 hG hA0 hk9) he rfl rfl 1 (lw_V hq q1150 q1151 q106 q1152) (by decide +kernel) ⟨rfl, rfl⟩ (by simp only [rmk]; omega) rfl hsize hstack hroom (by simpa using hf) hdg (fun v h1 H1 locs1 hp _ hH1 hS1 => ?_)
  obtain ⟨rfl, q1, q2, q3⟩ := hp
  exact kk h1 H1 locs1 q1 q2 q3 hH1 hS1
theorem hp_clr {p : Program} {e : Env} {R : Room} {s : State} {m : MethodId} {args : Array Value} {below : List Frame} {meth : Method} {c : Code} {H : Heap} {locs : List Loc} {cells slots : Nat} {Q : State → Prop} {cc : ByteArray} {pc : Nat} {ls : Array Slot} {rest st0 : List Value} {h0 : Hp} {own : String} {index nL : Nat} (hx : p.tables.exec = Jvm.exec) (hb : c.code = cc) (hml : c.maxLocals = nL) (hown : s.vm.findClass own = some m.cls) (hts : ∀ w ∈ lw_all, w.before args s = true) (hPB : PB s0 D CL h0 s) (hK0 : va_K D CL (TYS K) s0) (hK : va_K D CL (TYS K) s) (hH : HP D CL (zA s0) h H) (hS : va_S (zA s0) s.heap H locs) {av : Nat → Nat} {ed mi : Nat} (hG : GX s0 wd av ed mi)
    {a t j : Nat} {L : List Nat} (hA0 : AL (K 4) ed h a t L j) (hq : Cond.methodLink own index ⟨"java/util/ArrayList", "clear", "()V"⟩ ∈ lw_all) (hR : 1 ≤ R.frames ∧ 8 + (4 + 11) + 200 * 0 ≤ R.locals) (hsize : ls.size = nL) (hstack : st0 = .ref a :: rest) (hroom : (rest.map fun v => v.category).sum ≤ 8) (hf : cells ≤ R.cells ∧ slots ≤ R.slots) (hdg : decode cc pc = .ok (.invokevirtual index, 3))
    (kk : ∀ (h1 : Hp) (H1 : Heap) (locs1 : List Loc), AL (K 4) ed h1 a t [] j → frT t h h1 → obK h h1 → HP D CL (zA s0) h1 H1 → va_S (zA s0) s.heap H1 locs1 → W p l e R s m args below meth c H1 locs1 cells slots Q (F0 m (pc + 3) ls rest)) : W p l e R s m args below meth c H locs cells slots Q (F0 m pc ls st0) := by
  have hA := hA0
  obtain ⟨mcn, d, he, hob, hlen, hdd⟩ := hA
  rcases Nat.eq_zero_or_pos j with q | q
  · subst q
    refine hp_callV (As := []) (rest := rest) hx hb hml hown hts hPB hK hH hS (mj_clear0 hK0 hG (j := 0) hA0) he rfl rfl 0 (lw_V hq q281 q282 q106 q283) (by decide +kernel) ⟨rfl, rfl⟩ (by simp only [rmk]; omega) rfl hsize hstack hroom (by simpa using hf) hdg (fun v h1 H1 locs1 hp _ hH1 hS1 => ?_)
    obtain ⟨rfl, q1, q2, q3⟩ := hp
    exact kk h1 H1 locs1 q1 q2 q3 hH1 hS1
  · skip
    refine hp_callV (As := []) (rest := rest) hx hb hml hown hts hPB hK hH hS (mj_clearN hK0 hG hA0 q) he rfl rfl 0 (lw_V hq q281 q282 q106 q283) (by decide +kernel) ⟨rfl, rfl⟩ (by simp only [rmk]; omega) rfl hsize hstack hroom (by simpa using hf) hdg (fun v h1 H1 locs1 hp _ hH1 hS1 => ?_)
    obtain ⟨rfl, q1, q2, q3⟩ := hp
    exact kk h1 H1 locs1 q1 q2 q3 hH1 hS1
theorem hp_castR {p : Program} {e : Env} {R : Room} {s : State} {m : MethodId} {args : Array Value} {below : List Frame} {meth : Method} {c : Code} {H : Heap} {locs : List Loc} {cells slots : Nat} {Q : State → Prop} {cc : ByteArray} {pc : Nat} {ls : Array Slot} {rest : List Value} {A : Nat → Prop} {h0 : Hp} {own : String} {index : Nat} {av : Nat → Nat} {ed mi : Nat} (hx : p.tables.exec = Jvm.exec) (hb : c.code = cc) (hown : s.vm.findClass own = some m.cls) (hlink : (Cond.classLink own index "FirstIn$Rule").before args s = true) (hG : GX s0 wd av ed mi) (hPB : PB s0 D CL h0 s) (hK : va_K D CL (TYS K) s) (hH : HP D CL A h H) {a t kd : Nat} {fs : List Value} (he : h a = some (.inr (cRl kd, fs), t)) (hv : kd < 3) (hdg : decode cc pc = .ok (.checkcast index, 3))
    (kk : W p l e R s m args below meth c H locs cells slots Q (F0 m (pc + 3) ls (.ref a :: rest))) : W p l e R s m args below meth c H locs cells slots Q (F0 m pc ls (.ref a :: rest)) := by
  have h3 : kd = 0 ∨ kd = 1 ∨ kd = 2 := by omega
  rcases h3 with rfl | rfl | rfl
  · exact va_castY hx hb hown hlink (hG.nc hPB q1999) (hp_rec hK hH he rfl) hdg kk
  · exact va_castY hx hb hown hlink (hG.nc hPB q2001) (hp_rec hK hH he rfl) hdg kk
  · exact va_castY hx hb hown hlink (hG.nc hPB q2000) (hp_rec hK hH he rfl) hdg kk
theorem hp_castQ {p : Program} {e : Env} {R : Room} {s : State} {m : MethodId} {args : Array Value} {below : List Frame} {meth : Method} {c : Code} {H : Heap} {locs : List Loc} {cells slots : Nat} {Q : State → Prop} {cc : ByteArray} {pc : Nat} {ls : Array Slot} {rest : List Value} {A : Nat → Prop} {h0 : Hp} {own : String} {index : Nat} {av : Nat → Nat} {ed mi : Nat} (hx : p.tables.exec = Jvm.exec) (hb : c.code = cc) (hown : s.vm.findClass own = some m.cls) (hlink : (Cond.classLink own index "FirstIn$Room").before args s = true) (hG : GX s0 wd av ed mi) (hPB : PB s0 D CL h0 s) (hK : va_K D CL (TYS K) s) (hH : HP D CL A h H) {a t k9 : Nat} {fs : List Value} (he : h a = some (.inr (10 + k9, fs), t)) (hv : k9 < 5) (hdg : decode cc pc = .ok (.checkcast index, 3))
    (kk : W p l e R s m args below meth c H locs cells slots Q (F0 m (pc + 3) ls (.ref a :: rest))) : W p l e R s m args below meth c H locs cells slots Q (F0 m pc ls (.ref a :: rest)) := by
  have h5 : k9 = 0 ∨ k9 = 1 ∨ k9 = 2 ∨ k9 = 3 ∨ k9 = 4 := by omega
  rcases h5 with rfl | rfl | rfl | rfl | rfl
  · exact va_castY hx hb hown hlink (hG.nc hPB q2004) (hp_rec hK hH he rfl) hdg kk
  · exact va_castY hx hb hown hlink (hG.nc hPB q2005) (hp_rec hK hH he rfl) hdg kk
  · exact va_castY hx hb hown hlink (hG.nc hPB q2003) (hp_rec hK hH he rfl) hdg kk
  · exact va_castY hx hb hown hlink (hG.nc hPB q2002) (hp_rec hK hH he rfl) hdg kk
  · exact va_castY hx hb hown hlink (hG.nc hPB q2006) (hp_rec hK hH he rfl) hdg kk
theorem hp_gR0 {p : Program} {e : Env} {R : Room} {s : State} {m : MethodId} {args : Array Value} {below : List Frame} {meth : Method} {c : Code} {H : Heap} {locs : List Loc} {cells slots : Nat} {Q : State → Prop} {cc : ByteArray} {pc : Nat} {ls : Array Slot} {rest : List Value} {A : Nat → Prop} {own : String} {index : Nat} (hx : p.tables.exec = Jvm.exec) (hb : c.code = cc) (hts : ∀ w ∈ lw_all, w.before args s = true) (hown : s.vm.findClass own = some m.cls) (hK : va_K D CL (TYS K) s) (hH : HP D CL A h H) {a s1 s2 wt cp t kd : Nat} {rm : Int32} {un : Value} {rs : Bool} (he : h a = some (.inr (cRl kd, [.ref s1, .ref s2, .int (nI wt), .int rm, un, .int (zI rs), .ref cp]), t)) (hkd : kd < 3) (hlink : (Cond.fieldLink own index "FirstIn$Rule" "first" "LFirstIn$Side;").before args s = true) (hdg : decode cc pc = .ok (.getfield index, 3))
    (kk : W p l e R s m args below meth c H locs cells slots Q (F0 m (pc + 3) ls (.ref s1 :: rest))) : W p l e R s m args below meth c H locs cells slots Q (F0 m pc ls (.ref a :: rest)) := by
  have h3 : kd = 0 ∨ kd = 1 ∨ kd = 2 := by omega
  rcases h3 with rfl | rfl | rfl
  · exact hp_get (C := RX8) (T := TX8) (N := 7) hx hb hts in_X8 hown hK hH he rfl 0 (by decide) hlink (fun _ z => z) rfl hdg kk
  · exact hp_get (C := RX11) (T := TX11) (N := 7) hx hb hts in_X11 hown hK hH he rfl 0 (by decide) hlink (fun _ z => z) rfl hdg kk
  · exact hp_get (C := RX12) (T := TX12) (N := 7) hx hb hts in_X12 hown hK hH he rfl 0 (by decide) hlink (fun _ z => z) rfl hdg kk
theorem hp_gR1 {p : Program} {e : Env} {R : Room} {s : State} {m : MethodId} {args : Array Value} {below : List Frame} {meth : Method} {c : Code} {H : Heap} {locs : List Loc} {cells slots : Nat} {Q : State → Prop} {cc : ByteArray} {pc : Nat} {ls : Array Slot} {rest : List Value} {A : Nat → Prop} {own : String} {index : Nat} (hx : p.tables.exec = Jvm.exec) (hb : c.code = cc) (hts : ∀ w ∈ lw_all, w.before args s = true) (hown : s.vm.findClass own = some m.cls) (hK : va_K D CL (TYS K) s) (hH : HP D CL A h H) {a s1 s2 wt cp t kd : Nat} {rm : Int32} {un : Value} {rs : Bool} (he : h a = some (.inr (cRl kd, [.ref s1, .ref s2, .int (nI wt), .int rm, un, .int (zI rs), .ref cp]), t)) (hkd : kd < 3) (hlink : (Cond.fieldLink own index "FirstIn$Rule" "second" "LFirstIn$Side;").before args s = true) (hdg : decode cc pc = .ok (.getfield index, 3))
    (kk : W p l e R s m args below meth c H locs cells slots Q (F0 m (pc + 3) ls (.ref s2 :: rest))) : W p l e R s m args below meth c H locs cells slots Q (F0 m pc ls (.ref a :: rest)) := by
  have h3 : kd = 0 ∨ kd = 1 ∨ kd = 2 := by omega
  rcases h3 with rfl | rfl | rfl
  · exact hp_get (C := RX8) (T := TX8) (N := 7) hx hb hts in_X8 hown hK hH he rfl 1 (by decide) hlink (fun _ z => z) rfl hdg kk
  · exact hp_get (C := RX11) (T := TX11) (N := 7) hx hb hts in_X11 hown hK hH he rfl 1 (by decide) hlink (fun _ z => z) rfl hdg kk
  · exact hp_get (C := RX12) (T := TX12) (N := 7) hx hb hts in_X12 hown hK hH he rfl 1 (by decide) hlink (fun _ z => z) rfl hdg kk
theorem hp_gR2 {p : Program} {e : Env} {R : Room} {s : State} {m : MethodId} {args : Array Value} {below : List Frame} {meth : Method} {c : Code} {H : Heap} {locs : List Loc} {cells slots : Nat} {Q : State → Prop} {cc : ByteArray} {pc : Nat} {ls : Array Slot} {rest : List Value} {A : Nat → Prop} {own : String} {index : Nat} (hx : p.tables.exec = Jvm.exec) (hb : c.code = cc) (hts : ∀ w ∈ lw_all, w.before args s = true) (hown : s.vm.findClass own = some m.cls) (hK : va_K D CL (TYS K) s) (hH : HP D CL A h H) {a s1 s2 wt cp t kd : Nat} {rm : Int32} {un : Value} {rs : Bool} (he : h a = some (.inr (cRl kd, [.ref s1, .ref s2, .int (nI wt), .int rm, un, .int (zI rs), .ref cp]), t)) (hkd : kd < 3) (hlink : (Cond.fieldLink own index "FirstIn$Rule" "weight" "I").before args s = true) (hdg : decode cc pc = .ok (.getfield index, 3))
    (kk : W p l e R s m args below meth c H locs cells slots Q (F0 m (pc + 3) ls (.int (nI wt) :: rest))) : W p l e R s m args below meth c H locs cells slots Q (F0 m pc ls (.ref a :: rest)) := by
  have h3 : kd = 0 ∨ kd = 1 ∨ kd = 2 := by omega
  rcases h3 with rfl | rfl | rfl
  · exact hp_get (C := RX8) (T := TX8) (N := 7) hx hb hts in_X8 hown hK hH he rfl 2 (by decide) hlink (fun _ z => z) rfl hdg kk
  · exact hp_get (C := RX11) (T := TX11) (N := 7) hx hb hts in_X11 hown hK hH he rfl 2 (by decide) hlink (fun _ z => z) rfl hdg kk
  · exact hp_get (C := RX12) (T := TX12) (N := 7) hx hb hts in_X12 hown hK hH he rfl 2 (by decide) hlink (fun _ z => z) rfl hdg kk
theorem hp_gR3 {p : Program} {e : Env} {R : Room} {s : State} {m : MethodId} {args : Array Value} {below : List Frame} {meth : Method} {c : Code} {H : Heap} {locs : List Loc} {cells slots : Nat} {Q : State → Prop} {cc : ByteArray} {pc : Nat} {ls : Array Slot} {rest : List Value} {A : Nat → Prop} {own : String} {index : Nat} (hx : p.tables.exec = Jvm.exec) (hb : c.code = cc) (hts : ∀ w ∈ lw_all, w.before args s = true) (hown : s.vm.findClass own = some m.cls) (hK : va_K D CL (TYS K) s) (hH : HP D CL A h H) {a s1 s2 wt cp t kd : Nat} {rm : Int32} {un : Value} {rs : Bool} (he : h a = some (.inr (cRl kd, [.ref s1, .ref s2, .int (nI wt), .int rm, un, .int (zI rs), .ref cp]), t)) (hkd : kd < 3) (hlink : (Cond.fieldLink own index "FirstIn$Rule" "room" "I").before args s = true) (hdg : decode cc pc = .ok (.getfield index, 3))
    (kk : W p l e R s m args below meth c H locs cells slots Q (F0 m (pc + 3) ls (.int rm :: rest))) : W p l e R s m args below meth c H locs cells slots Q (F0 m pc ls (.ref a :: rest)) := by
  have h3 : kd = 0 ∨ kd = 1 ∨ kd = 2 := by omega
  rcases h3 with rfl | rfl | rfl
  · exact hp_get (C := RX8) (T := TX8) (N := 7) hx hb hts in_X8 hown hK hH he rfl 3 (by decide) hlink (fun _ z => z) rfl hdg kk
  · exact hp_get (C := RX11) (T := TX11) (N := 7) hx hb hts in_X11 hown hK hH he rfl 3 (by decide) hlink (fun _ z => z) rfl hdg kk
  · exact hp_get (C := RX12) (T := TX12) (N := 7) hx hb hts in_X12 hown hK hH he rfl 3 (by decide) hlink (fun _ z => z) rfl hdg kk
theorem hp_gR4 {p : Program} {e : Env} {R : Room} {s : State} {m : MethodId} {args : Array Value} {below : List Frame} {meth : Method} {c : Code} {H : Heap} {locs : List Loc} {cells slots : Nat} {Q : State → Prop} {cc : ByteArray} {pc : Nat} {ls : Array Slot} {rest : List Value} {A : Nat → Prop} {own : String} {index : Nat} (hx : p.tables.exec = Jvm.exec) (hb : c.code = cc) (hts : ∀ w ∈ lw_all, w.before args s = true) (hown : s.vm.findClass own = some m.cls) (hK : va_K D CL (TYS K) s) (hH : HP D CL A h H) {a s1 s2 wt cp t kd : Nat} {rm : Int32} {un : Value} {rs : Bool} (he : h a = some (.inr (cRl kd, [.ref s1, .ref s2, .int (nI wt), .int rm, un, .int (zI rs), .ref cp]), t)) (hkd : kd < 3) (hlink : (Cond.fieldLink own index "FirstIn$Rule" "unless" "LFirstIn$Mark;").before args s = true) (hdg : decode cc pc = .ok (.getfield index, 3))
    (kk : W p l e R s m args below meth c H locs cells slots Q (F0 m (pc + 3) ls (un :: rest))) : W p l e R s m args below meth c H locs cells slots Q (F0 m pc ls (.ref a :: rest)) := by
  have h3 : kd = 0 ∨ kd = 1 ∨ kd = 2 := by omega
  rcases h3 with rfl | rfl | rfl
  · exact hp_get (C := RX8) (T := TX8) (N := 7) hx hb hts in_X8 hown hK hH he rfl 4 (by decide) hlink (fun _ z => z) rfl hdg kk
  · exact hp_get (C := RX11) (T := TX11) (N := 7) hx hb hts in_X11 hown hK hH he rfl 4 (by decide) hlink (fun _ z => z) rfl hdg kk
  · exact hp_get (C := RX12) (T := TX12) (N := 7) hx hb hts in_X12 hown hK hH he rfl 4 (by decide) hlink (fun _ z => z) rfl hdg kk
theorem hp_gR5 {p : Program} {e : Env} {R : Room} {s : State} {m : MethodId} {args : Array Value} {below : List Frame} {meth : Method} {c : Code} {H : Heap} {locs : List Loc} {cells slots : Nat} {Q : State → Prop} {cc : ByteArray} {pc : Nat} {ls : Array Slot} {rest : List Value} {A : Nat → Prop} {own : String} {index : Nat} (hx : p.tables.exec = Jvm.exec) (hb : c.code = cc) (hts : ∀ w ∈ lw_all, w.before args s = true) (hown : s.vm.findClass own = some m.cls) (hK : va_K D CL (TYS K) s) (hH : HP D CL A h H) {a s1 s2 wt cp t kd : Nat} {rm : Int32} {un : Value} {rs : Bool} (he : h a = some (.inr (cRl kd, [.ref s1, .ref s2, .int (nI wt), .int rm, un, .int (zI rs), .ref cp]), t)) (hkd : kd < 3) (hlink : (Cond.fieldLink own index "FirstIn$Rule" "rests" "Z").before args s = true) (hdg : decode cc pc = .ok (.getfield index, 3))
    (kk : W p l e R s m args below meth c H locs cells slots Q (F0 m (pc + 3) ls (.int (zI rs) :: rest))) : W p l e R s m args below meth c H locs cells slots Q (F0 m pc ls (.ref a :: rest)) := by
  have h3 : kd = 0 ∨ kd = 1 ∨ kd = 2 := by omega
  rcases h3 with rfl | rfl | rfl
  · exact hp_get (C := RX8) (T := TX8) (N := 7) hx hb hts in_X8 hown hK hH he rfl 5 (by decide) hlink (fun _ z => z) rfl hdg kk
  · exact hp_get (C := RX11) (T := TX11) (N := 7) hx hb hts in_X11 hown hK hH he rfl 5 (by decide) hlink (fun _ z => z) rfl hdg kk
  · exact hp_get (C := RX12) (T := TX12) (N := 7) hx hb hts in_X12 hown hK hH he rfl 5 (by decide) hlink (fun _ z => z) rfl hdg kk
theorem hp_gR6 {p : Program} {e : Env} {R : Room} {s : State} {m : MethodId} {args : Array Value} {below : List Frame} {meth : Method} {c : Code} {H : Heap} {locs : List Loc} {cells slots : Nat} {Q : State → Prop} {cc : ByteArray} {pc : Nat} {ls : Array Slot} {rest : List Value} {A : Nat → Prop} {own : String} {index : Nat} (hx : p.tables.exec = Jvm.exec) (hb : c.code = cc) (hts : ∀ w ∈ lw_all, w.before args s = true) (hown : s.vm.findClass own = some m.cls) (hK : va_K D CL (TYS K) s) (hH : HP D CL A h H) {a s1 s2 wt cp t kd : Nat} {rm : Int32} {un : Value} {rs : Bool} (he : h a = some (.inr (cRl kd, [.ref s1, .ref s2, .int (nI wt), .int rm, un, .int (zI rs), .ref cp]), t)) (hkd : kd < 3) (hlink : (Cond.fieldLink own index "FirstIn$Rule" "couples" "Ljava/util/ArrayList;").before args s = true) (hdg : decode cc pc = .ok (.getfield index, 3))
    (kk : W p l e R s m args below meth c H locs cells slots Q (F0 m (pc + 3) ls (.ref cp :: rest))) : W p l e R s m args below meth c H locs cells slots Q (F0 m pc ls (.ref a :: rest)) := by
  have h3 : kd = 0 ∨ kd = 1 ∨ kd = 2 := by omega
  rcases h3 with rfl | rfl | rfl
  · exact hp_get (C := RX8) (T := TX8) (N := 7) hx hb hts in_X8 hown hK hH he rfl 6 (by decide) hlink (fun _ z => z) rfl hdg kk
  · exact hp_get (C := RX11) (T := TX11) (N := 7) hx hb hts in_X11 hown hK hH he rfl 6 (by decide) hlink (fun _ z => z) rfl hdg kk
  · exact hp_get (C := RX12) (T := TX12) (N := 7) hx hb hts in_X12 hown hK hH he rfl 6 (by decide) hlink (fun _ z => z) rfl hdg kk
theorem hp_gR6N {p : Program} {e : Env} {R : Room} {s : State} {m : MethodId} {args : Array Value} {below : List Frame} {meth : Method} {c : Code} {H : Heap} {locs : List Loc} {cells slots : Nat} {Q : State → Prop} {cc : ByteArray} {pc : Nat} {ls : Array Slot} {rest : List Value} {A : Nat → Prop} {own : String} {index : Nat} (hx : p.tables.exec = Jvm.exec) (hb : c.code = cc) (hts : ∀ w ∈ lw_all, w.before args s = true) (hown : s.vm.findClass own = some m.cls) (hK : va_K D CL (TYS K) s) (hH : HP D CL A h H) {a s1 s2 wt cp t kd : Nat} {rm : Int32} {un : Value} {rs : Bool} (he : h a = some (.inr (cRl kd, [.ref s1, .ref s2, .int (nI wt), .int rm, un, .int (zI rs), .ref cp]), t)) (hkd : kd < 3) (hlink : (Cond.fieldLinkNest own index "FirstIn$Rule" "couples" "Ljava/util/ArrayList;" "FirstIn").before args s = true) (hdg : decode cc pc = .ok (.getfield index, 3))
    (kk : W p l e R s m args below meth c H locs cells slots Q (F0 m (pc + 3) ls (.ref cp :: rest))) : W p l e R s m args below meth c H locs cells slots Q (F0 m pc ls (.ref a :: rest)) := by
  have h3 : kd = 0 ∨ kd = 1 ∨ kd = 2 := by omega
  rcases h3 with rfl | rfl | rfl
  · exact hp_getN (C := RX8) (T := TX8) (N := 7) hx hb hts in_X8 hown hK hH he rfl 6 (by decide) hlink (fun _ z => z) rfl hdg kk
  · exact hp_getN (C := RX11) (T := TX11) (N := 7) hx hb hts in_X11 hown hK hH he rfl 6 (by decide) hlink (fun _ z => z) rfl hdg kk
  · exact hp_getN (C := RX12) (T := TX12) (N := 7) hx hb hts in_X12 hown hK hH he rfl 6 (by decide) hlink (fun _ z => z) rfl hdg kk
theorem hp_pR5 {p : Program} {e : Env} {R : Room} {s : State} {m : MethodId} {args : Array Value} {below : List Frame} {meth : Method} {c : Code} {H : Heap} {locs : List Loc} {cells slots : Nat} {Q : State → Prop} {cc : ByteArray} {pc : Nat} {ls : Array Slot} {rest : List Value} {A : Nat → Prop} {own : String} {index : Nat} {H0 : Heap} (hx : p.tables.exec = Jvm.exec) (hb : c.code = cc) (hts : ∀ w ∈ lw_all, w.before args s = true) (hown : s.vm.findClass own = some m.cls) (hK : va_K D CL (TYS K) s) (hH : HP D CL A h H) (hS : va_S A H0 H locs) {a s1 s2 wt cp t kd : Nat} {rm : Int32} {un : Value} {rs : Bool} (he : h a = some (.inr (cRl kd, [.ref s1, .ref s2, .int (nI wt), .int rm, un, .int (zI rs), .ref cp]), t)) (hkd : kd < 3) {rs2 : Bool} (hlink : (Cond.fieldLink own index "FirstIn$Rule" "rests" "Z").before args s = true) (hdg : decode cc pc = .ok (.putfield index, 3))
    (kk : ∀ (H1 : Heap) (locs1 : List Loc), H1.size = H.size → HP D CL A (hset h a (.inr (cRl kd, [.ref s1, .ref s2, .int (nI wt), .int rm, un, .int (zI rs2), .ref cp])) t) H1 → va_S A H0 H1 locs1 → W p l e R s m args below meth c H1 locs1 cells slots Q (F0 m (pc + 3) ls rest)) : W p l e R s m args below meth c H locs cells slots Q (F0 m pc ls (.int (zI rs2) :: .ref a :: rest)) := by
  have h3 : kd = 0 ∨ kd = 1 ∨ kd = 2 := by omega
  rcases h3 with rfl | rfl | rfl
  · exact hp_put (C := RX8) (T := TX8) (N := 7) (v := .int (zI rs2)) (ty := .boolean) hx hb hts in_X8 tyX8 tyX8_ok nmX8 hown hK hH hS he rfl 5 (by decide) hlink (fun _ z => z) rfl (by decide +kernel) (zI_nar _) (zI_fits _) (Nat.le_of_ble_eq_true rfl) hdg kk
  · exact hp_put (C := RX11) (T := TX11) (N := 7) (v := .int (zI rs2)) (ty := .boolean) hx hb hts in_X11 tyX11 tyX11_ok nmX11 hown hK hH hS he rfl 5 (by decide) hlink (fun _ z => z) rfl (by decide +kernel) (zI_nar _) (zI_fits _) (Nat.le_of_ble_eq_true rfl) hdg kk
  · exact hp_put (C := RX12) (T := TX12) (N := 7) (v := .int (zI rs2)) (ty := .boolean) hx hb hts in_X12 tyX12 tyX12_ok nmX12 hown hK hH hS he rfl 5 (by decide) hlink (fun _ z => z) rfl (by decide +kernel) (zI_nar _) (zI_fits _) (Nat.le_of_ble_eq_true rfl) hdg kk
theorem hp_gQ {p : Program} {e : Env} {R : Room} {s : State} {m : MethodId} {args : Array Value} {below : List Frame} {meth : Method} {c : Code} {H : Heap} {locs : List Loc} {cells slots : Nat} {Q : State → Prop} {cc : ByteArray} {pc : Nat} {ls : Array Slot} {rest : List Value} {A : Nat → Prop} {own : String} {index : Nat} (hx : p.tables.exec = Jvm.exec) (hb : c.code = cc) (hts : ∀ w ∈ lw_all, w.before args s = true) (hown : s.vm.findClass own = some m.cls) (hK : va_K D CL (TYS K) s) (hH : HP D CL A h H) {a t np k9 : Nat} (he : h a = some (.inr (10 + k9, [.int (nI np)]), t)) (hv : k9 < 5) (hlink : (Cond.fieldLink own index "FirstIn$Room" "places" "I").before args s = true) (hdg : decode cc pc = .ok (.getfield index, 3))
    (kk : W p l e R s m args below meth c H locs cells slots Q (F0 m (pc + 3) ls (.int (nI np) :: rest))) : W p l e R s m args below meth c H locs cells slots Q (F0 m pc ls (.ref a :: rest)) := by
  have h5 : k9 = 0 ∨ k9 = 1 ∨ k9 = 2 ∨ k9 = 3 ∨ k9 = 4 := by omega
  rcases h5 with rfl | rfl | rfl | rfl | rfl
  · exact hp_get (C := RX14) (T := TX14) (N := 1) hx hb hts in_X14 hown hK hH he rfl 0 (by decide) hlink (fun _ z => z) rfl hdg kk
  · exact hp_get (C := RX15) (T := TX15) (N := 1) hx hb hts in_X15 hown hK hH he rfl 0 (by decide) hlink (fun _ z => z) rfl hdg kk
  · exact hp_get (C := RX16) (T := TX16) (N := 1) hx hb hts in_X16 hown hK hH he rfl 0 (by decide) hlink (fun _ z => z) rfl hdg kk
  · exact hp_get (C := RX17) (T := TX17) (N := 1) hx hb hts in_X17 hown hK hH he rfl 0 (by decide) hlink (fun _ z => z) rfl hdg kk
  · exact hp_get (C := RX18) (T := TX18) (N := 1) hx hb hts in_X18 hown hK hH he rfl 0 (by decide) hlink (fun _ z => z) rfl hdg kk
theorem hp_ist {tys : List (ClassId × FieldType)} {cl : List vw_C} {p : Program} {e : Env} {R : Room} {s : State} {m : MethodId} {args : Array Value} {below : List Frame} {meth : Method} {c : Code} {H : Heap} {locs : List Loc} {cells slots : Nat} {Q : State → Prop} {cc : ByteArray} {pc : Nat} {ls : Array Slot} {rest : List Value} {A : Nat → Prop} {H0 : Heap} (hx : p.tables.exec = Jvm.exec) (hb : c.code = cc) (hK : va_K D cl tys s) (hH : HP D cl A h H) (hS : va_S A H0 H locs) (t0 : Nat) {a t : Nat} {cA : ClassId} {n j : Nat} {f : Nat → Int32} {x : Int32} (he : h a = some (.inl (cA, n, .inl f), t)) (ht : tys[t0]? = some (cA, .int)) (hj : j < n) (hn : n < 2 ^ 31) (hdg : decode cc pc = .ok (.iastore, 1))
    (kk : ∀ (H1 : Heap) (locs1 : List Loc), H1.size = H.size → HP D cl A (hset h a (.inl (cA, n, .inl (upd f j x))) t) H1 → va_S A H0 H1 locs1 → W p l e R s m args below meth c H1 locs1 cells slots Q (F0 m (pc + 1) ls rest)) : W p l e R s m args below meth c H locs cells slots Q (F0 m pc ls (.int x :: .int (nI j) :: .ref a :: rest)) := by
  refine hp_iast hx hb hK hH hS t0 he ht (vp_in_nI hj hn) hdg ?_
  rw [nI_clamp (by omega)]
  exact kk
theorem hp_bst {tys : List (ClassId × FieldType)} {cl : List vw_C} {p : Program} {e : Env} {R : Room} {s : State} {m : MethodId} {args : Array Value} {below : List Frame} {meth : Method} {c : Code} {H : Heap} {locs : List Loc} {cells slots : Nat} {Q : State → Prop} {cc : ByteArray} {pc : Nat} {ls : Array Slot} {rest : List Value} {A : Nat → Prop} {H0 : Heap} (hx : p.tables.exec = Jvm.exec) (hb : c.code = cc) (hK : va_K D cl tys s) (hH : HP D cl A h H) (hS : va_S A H0 H locs) (t0 : Nat) {a t : Nat} {cA : ClassId} {n j : Nat} {f : Nat → Int32} {x : Int32} {x' : Int32} (hx' : vp_nar .byte x = x') (he : h a = some (.inl (cA, n, .inl f), t)) (ht : tys[t0]? = some (cA, .byte)) (hj : j < n) (hn : n < 2 ^ 31) (hdg : decode cc pc = .ok (.bastore, 1))
    (kk : ∀ (H1 : Heap) (locs1 : List Loc), H1.size = H.size → HP D cl A (hset h a (.inl (cA, n, .inl (upd f j x'))) t) H1 → va_S A H0 H1 locs1 → W p l e R s m args below meth c H1 locs1 cells slots Q (F0 m (pc + 1) ls rest)) : W p l e R s m args below meth c H locs cells slots Q (F0 m pc ls (.int x :: .int (nI j) :: .ref a :: rest)) := by
  refine hp_bast hx hb hK hH hS t0 he ht (vp_in_nI hj hn) hdg ?_
  rw [nI_clamp (by omega), hx']
  exact kk
theorem hp_zst {tys : List (ClassId × FieldType)} {cl : List vw_C} {p : Program} {e : Env} {R : Room} {s : State} {m : MethodId} {args : Array Value} {below : List Frame} {meth : Method} {c : Code} {H : Heap} {locs : List Loc} {cells slots : Nat} {Q : State → Prop} {cc : ByteArray} {pc : Nat} {ls : Array Slot} {rest : List Value} {A : Nat → Prop} {H0 : Heap} (hx : p.tables.exec = Jvm.exec) (hb : c.code = cc) (hK : va_K D cl tys s) (hH : HP D cl A h H) (hS : va_S A H0 H locs) (t0 : Nat) {a t : Nat} {cA : ClassId} {n j : Nat} {f : Nat → Int32} {x : Int32} {x' : Int32} (hx' : vp_nar .boolean x = x') (he : h a = some (.inl (cA, n, .inl f), t)) (ht : tys[t0]? = some (cA, .boolean)) (hj : j < n) (hn : n < 2 ^ 31) (hdg : decode cc pc = .ok (.bastore, 1))
    (kk : ∀ (H1 : Heap) (locs1 : List Loc), H1.size = H.size → HP D cl A (hset h a (.inl (cA, n, .inl (upd f j x'))) t) H1 → va_S A H0 H1 locs1 → W p l e R s m args below meth c H1 locs1 cells slots Q (F0 m (pc + 1) ls rest)) : W p l e R s m args below meth c H locs cells slots Q (F0 m pc ls (.int x :: .int (nI j) :: .ref a :: rest)) := by
  refine hp_zast hx hb hK hH hS t0 he ht (vp_in_nI hj hn) hdg ?_
  rw [nI_clamp (by omega), hx']
  exact kk
section CPI
variable {p : Program} {l : Launch} {e : Env} {R : Room} {s s0 : State} {m : MethodId} {args : Array Value} {below : List Frame} {meth : Method} {c : Code} {H H0 : Heap} {locs : List Loc} {cells slots : Nat} {Q : State → Prop}
variable {cc : ByteArray} {pc : Nat} {ls : Array Slot} {rest st0 : List Value} {D : va_G} {cl : List vw_C} {A : Nat → Prop} {a b t : Nat} {tys : List (ClassId × FieldType)} {h h0 : Hp}
theorem hp_copyi (hexec : p.tables.exec = Jvm.exec) (hb : c.code = cc) (hml : c.maxLocals = ls.size) {own : String} {index : Nat} (hown : s.vm.findClass own = some m.cls) (hlink : (Cond.methodLink own index arraycopyName).before args s = true) (hnat : (Cond.native arraycopyName).before args s = true) (hstat : (Cond.static arraycopyName).before args s = true) (hini : (Cond.initialized "java/lang/System").before args s = true)
    (hK : va_K D cl tys s) (hH : HP D cl A h H) (hS : va_S A H0 H locs) (t0 t1 : Nat) {a0 u : Nat} {c0 c1 : ClassId} {n0 n1 : Nat} {f g : Nat → Int32} {ty : FieldType} (ha0 : h a0 = some (.inl (c0, n0, .inl f), u)) (ha1 : h a = some (.inl (c1, n1, .inl g), t)) (ht0 : tys[t0]? = some (c0, ty)) (ht1 : tys[t1]? = some (c1, ty)) (hprim : refKind ty = false)
    {sp dp n : Int32} (h1 : ¬ sp < 0) (h2 : ¬ dp < 0) (h3 : ¬ n < 0) (h4 : sp.toNatClampNeg + n.toNatClampNeg ≤ n0) (h5 : dp.toNatClampNeg + n.toNatClampNeg ≤ n1) (hfit : ∀ i, i < n.toNatClampNeg → fits ty (.int (f (sp.toNatClampNeg + i))) = true)
    (hframes : 1 ≤ R.frames) (hlocals : (rest.map fun v => v.category).sum + (nativeFrameWords "java/lang/System" "arraycopy" 5 + 11) ≤ R.locals) (hdg : decode cc pc = .ok (.invokestatic index, 3))
    (kk : ∀ (H1 : Heap) (locs1 : List Loc), H1.size = H.size → HP D cl A (hset h a (.inl (c1, n1, .inl (va_cpy f g sp.toNatClampNeg dp.toNatClampNeg n.toNatClampNeg))) t) H1 → va_S A H0 H1 locs1 → W p l e R s m args below meth c H1 locs1 cells slots Q (F0 m (pc + 3) ls rest)) : W p l e R s m args below meth c H locs cells slots Q (F0 m pc ls (.int n :: .int dp :: .ref a :: .int sp :: .ref a0 :: rest)) := by
  have nn : ∀ z : Int32, ¬ z < 0 → z.toInt = (z.toNatClampNeg : Int) := by
    intro z hz
    have hz0 : (0 : Int) ≤ z.toInt := by
      have := Int32.not_lt.mp hz
      simpa using Int32.le_iff_toInt_le.mp this
    show z.toInt = ((z.toInt.toNat : Nat) : Int)
    omega
  intro T hT X
  have hc0 : H[a0]? = some (vp_cell c0 (n0, .inl f)) := (hH a0 _ _ ha0).2
  have hc1 : H[a]? = some (vp_cell c1 (n1, .inl g)) := (hH a _ _ ha1).2
  obtain ⟨-, k0, hk0, cm0, hkk0⟩ := (hK.2 t0 _ ht0).1 n0 (fun j => .int (f j))
  obtain ⟨-, k1, hk1, cm1, hkk1⟩ := (hK.2 t1 _ ht1).1 n1 (fun j => .int (g j))
  obtain ⟨vm', X', step⟩ := X.arraycopy hexec hown hlink hnat hstat hini (src := a0) (dst := a) (cs := vp_cell c0 (n0, .inl f)) (cd := vp_cell c1 (n1, .inl g)) (srcPos := sp) (destPos := dp) (n := n) (by rw [hT]; exact hc0) (by rw [hT]; exact hc1)
    (fun _ h => by cases h) (fun _ h => by cases h) (fun h => by cases h) (fun h => by cases h) hk0 hk1 hkk0 hkk1 (by simp [hprim]) h1 h2 h3
    (by rw [nn sp h1, nn n h3]; show ¬ _ > ((arrV c0 n0 (fun j => .int (f j))).slots.size : Int); rw [arrV_size]; omega)
    (by rw [nn dp h2, nn n h3]; show ¬ _ > ((arrV c1 n1 (fun j => .int (g j))).slots.size : Int); rw [arrV_size]; omega)
    (fun vm₁ _ i hi => by
      have e : (vp_cell c0 (n0, .inl f)).slots.getD (sp.toNatClampNeg + i) .null = .int (f (sp.toNatClampNeg + i)) := by
        show (arrV c0 n0 (fun j => .int (f j))).slots.getD _ _ = _
        rw [Array.getD_eq_getD_getElem?, arrV_read _ _ (by omega)]
        rfl
      refine ⟨?_, ?_⟩
      · rw [e]
        exact hfit i hi
      · rw [e]
        exact trivial)
    (g := F0 m pc ls (.int n :: .int dp :: .ref a :: .int sp :: .ref a0 :: rest)) rfl (by rw [hml]) (rest := rest) rfl (by rw [hb]; exact hdg) hframes (by show 2 * 0 + _ + _ ≤ _; omega)
  have e1 : copied (vp_cell c0 (n0, .inl f)) (vp_cell c1 (n1, .inl g)) sp dp n = vp_cell c1 (n1, .inl (va_cpy f g sp.toNatClampNeg dp.toNatClampNeg n.toNatClampNeg)) := va_copied (fun z => .int z) c0 c1 f g h4
  rw [e1] at X' step
  have hl : a < H.size := (Array.getElem?_eq_some_iff.mp hc1).1
  have hheap : ((T.setVm vm').setCell a (vp_cell c1 (n1, .inl (va_cpy f g sp.toNatClampNeg dp.toNatClampNeg n.toNatClampNeg)))).heap = H.setIfInBounds a (vp_cell c1 (n1, .inl (va_cpy f g sp.toNatClampNeg dp.toNatClampNeg n.toNatClampNeg))) := by rw [← hT]; rfl
  have oq : ∀ q : Nat, q ≠ a → (H.setIfInBounds a (vp_cell c1 (n1, .inl (va_cpy f g sp.toNatClampNeg dp.toNatClampNeg n.toNatClampNeg))))[q]? = H[q]? := fun q hq => by simp [Array.getElem?_setIfInBounds, Ne.symm hq]
  have hAa := (hH a _ _ ha1).1
  obtain ⟨t2, a1, b1⟩ := kk _ _ (by simp) (hH.put ha1 (show (H.setIfInBounds a _)[a]? = some _ by simp [Array.getElem?_setIfInBounds, hl]) oq) ⟨by simp; exact hS.1, fun q g1 g2 => by
      rw [oq q (fun e => g2 (by rw [e]; exact hAa))]
      exact hS.2.1 q g1 g2, fun q hq => by
      rcases List.mem_append.mp hq with h | h
      · exact hS.2.2 q h
      · obtain ⟨z, -, hz⟩ := List.mem_map.mp h
        rw [← hz]
        exact hAa⟩ _ hheap X'
  exact ⟨t2, step t2 a1, b1⟩
end CPI
end MODEL
