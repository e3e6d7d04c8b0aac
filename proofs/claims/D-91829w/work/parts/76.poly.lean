/-! by gen/mspec.py -/
set_option maxRecDepth 100000
section MODEL
variable {l : Launch} {s0 : State} {D : va_G} {K : Nat → ClassId} {wd : Nat → Nat} {o : Nat} {h : Hp} {I : Nat → Int32} {V : Nat → Nat → Int32} {J : Nat → Nat → Int64}
theorem hp_who {p : Program} {e : Env} {R : Room} {s : State} {m : MethodId} {args : Array Value} {below : List Frame} {meth : Method} {c : Code} {H : Heap} {locs : List Loc} {cells slots : Nat} {Q : State → Prop} {cc : ByteArray} {pc : Nat} {ls : Array Slot} {rest st0 : List Value} {h0 : Hp} {own : String} {index nL : Nat} (hx : p.tables.exec = Jvm.exec) (hb : c.code = cc) (hml : c.maxLocals = nL) (hown : s.vm.findClass own = some m.cls) (hts : ∀ w ∈ lw_all, w.before args s = true) (hPB : PB s0 D CL h0 s) (hK0 : va_K D CL (TYS K) s0) (hK : va_K D CL (TYS K) s) (hH : HP D CL (zA s0) h H) (hS : va_S (zA s0) s.heap H locs) {av : Nat → Nat} {ed mi : Nat} (hG : GX s0 wd av ed mi)
    {sa w bits : Nat} (hsd : SIDE h sa w bits) (hq : Cond.methodLink own index ⟨"FirstIn$Side", "who", "()I"⟩ ∈ lw_all) (hR : 2 ≤ R.frames ∧ 8 + (8 + 11) + 200 * 1 ≤ R.locals) (hsize : ls.size = nL) (hstack : st0 = ([] : List Value).reverse ++ .ref sa :: rest) (hroom : (rest.map fun v => v.category).sum ≤ 8) (hf : cells ≤ R.cells ∧ slots ≤ R.slots) (hdg : decode cc pc = .ok (.invokevirtual index, 3))
    (kk : ∀ (H1 : Heap) (locs1 : List Loc), HP D CL (zA s0) h H1 → va_S (zA s0) s.heap H1 locs1 → W p l e R s m args below meth c H1 locs1 cells slots Q (F0 m (pc + 3) ls (.int (nI bits) :: rest))) : W p l e R s m args below meth c H locs cells slots Q (F0 m pc ls st0) := by
  rcases hsd with ⟨nm, f2, f3, f4, f5, t, hsa, hw, rfl⟩ | ⟨nm, num, t, hsa, rfl, hnum, hbits⟩
  · refine hp_callU (As := []) (rest := rest) (owner := "FirstIn$Side") (x := ⟨"FirstIn$Side", "who", "()I"⟩) hx hb hml hown hts hPB hK hH hS (mc_gwho hK0 hsa hw) hsa rfl rfl 0 (va_cwA 0 hts (lw_U hq q703 q704 q705 q119 q706) rfl rfl rfl (hG.nd hPB q702) (by decide +kernel) (by simp only [rmk]; omega)) rfl hsize hstack hroom hf hdg (fun v h1 H1 locs1 hp _ hH1 hS1 => ?_)
    obtain ⟨rfl, hq2⟩ := hp
    rw [hq2] at hH1
    exact kk H1 locs1 hH1 hS1
  · refine hp_callU (As := []) (rest := rest) (owner := "FirstIn$Side") (x := ⟨"FirstIn$Side", "who", "()I"⟩) hx hb hml hown hts hPB hK hH hS (mc_mwho hK0 hsa) hsa rfl rfl 0 (va_cwA 0 hts (lw_U hq q703 q707 q708 q124 q709) rfl rfl rfl (hG.nd hPB q702) (by decide +kernel) (by simp only [rmk]; omega)) rfl hsize hstack hroom hf hdg (fun v h1 H1 locs1 hp _ hH1 hS1 => ?_)
    obtain ⟨rfl, hq2⟩ := hp
    rw [hq2] at hH1
    exact kk H1 locs1 hH1 hS1
theorem hp_code {p : Program} {e : Env} {R : Room} {s : State} {m : MethodId} {args : Array Value} {below : List Frame} {meth : Method} {c : Code} {H : Heap} {locs : List Loc} {cells slots : Nat} {Q : State → Prop} {cc : ByteArray} {pc : Nat} {ls : Array Slot} {rest st0 : List Value} {h0 : Hp} {own : String} {index nL : Nat} (hx : p.tables.exec = Jvm.exec) (hb : c.code = cc) (hml : c.maxLocals = nL) (hown : s.vm.findClass own = some m.cls) (hts : ∀ w ∈ lw_all, w.before args s = true) (hPB : PB s0 D CL h0 s) (hK0 : va_K D CL (TYS K) s0) (hK : va_K D CL (TYS K) s) (hH : HP D CL (zA s0) h H) (hS : va_S (zA s0) s.heap H locs) {av : Nat → Nat} {ed mi : Nat} (hG : GX s0 wd av ed mi)
    {sa w bits : Nat} (hsd : SIDE h sa w bits) (hq : Cond.methodLink own index ⟨"FirstIn$Side", "code", "()I"⟩ ∈ lw_all) (hR : 2 ≤ R.frames ∧ 8 + (8 + 11) + 200 * 1 ≤ R.locals) (hsize : ls.size = nL) (hstack : st0 = ([] : List Value).reverse ++ .ref sa :: rest) (hroom : (rest.map fun v => v.category).sum ≤ 8) (hf : cells ≤ R.cells ∧ slots ≤ R.slots) (hdg : decode cc pc = .ok (.invokevirtual index, 3))
    (kk : ∀ (H1 : Heap) (locs1 : List Loc), HP D CL (zA s0) h H1 → va_S (zA s0) s.heap H1 locs1 → W p l e R s m args below meth c H1 locs1 cells slots Q (F0 m (pc + 3) ls (.int (nI w) :: rest))) : W p l e R s m args below meth c H locs cells slots Q (F0 m pc ls st0) := by
  rcases hsd with ⟨nm, f2, f3, f4, f5, t, hsa, hw, rfl⟩ | ⟨nm, num, t, hsa, rfl, hnum, hbits⟩
  · refine hp_callU (As := []) (rest := rest) (owner := "FirstIn$Side") (x := ⟨"FirstIn$Side", "code", "()I"⟩) hx hb hml hown hts hPB hK hH hS (mc_gcode hK0 hsa hw) hsa rfl rfl 0 (va_cwA 0 hts (lw_U hq q901 q902 q903 q119 q904) rfl rfl rfl (hG.nd hPB q900) (by decide +kernel) (by simp only [rmk]; omega)) rfl hsize hstack hroom hf hdg (fun v h1 H1 locs1 hp _ hH1 hS1 => ?_)
    obtain ⟨rfl, hq2⟩ := hp
    rw [hq2] at hH1
    exact kk H1 locs1 hH1 hS1
  · refine hp_callU (As := []) (rest := rest) (owner := "FirstIn$Side") (x := ⟨"FirstIn$Side", "code", "()I"⟩) hx hb hml hown hts hPB hK hH hS (mc_mcode hK0 hsa) hsa rfl rfl 0 (va_cwA 0 hts (lw_U hq q901 q905 q906 q124 q907) rfl rfl rfl (hG.nd hPB q900) (by decide +kernel) (by simp only [rmk]; omega)) rfl hsize hstack hroom hf hdg (fun v h1 H1 locs1 hp _ hH1 hS1 => ?_)
    obtain ⟨rfl, hq2⟩ := hp
    rw [hq2] at hH1
    exact kk H1 locs1 hH1 hS1
theorem hp_kind {p : Program} {e : Env} {R : Room} {s : State} {m : MethodId} {args : Array Value} {below : List Frame} {meth : Method} {c : Code} {H : Heap} {locs : List Loc} {cells slots : Nat} {Q : State → Prop} {cc : ByteArray} {pc : Nat} {ls : Array Slot} {rest st0 : List Value} {h0 : Hp} {own : String} {index nL : Nat} (hx : p.tables.exec = Jvm.exec) (hb : c.code = cc) (hml : c.maxLocals = nL) (hown : s.vm.findClass own = some m.cls) (hts : ∀ w ∈ lw_all, w.before args s = true) (hPB : PB s0 D CL h0 s) (hK0 : va_K D CL (TYS K) s0) (hK : va_K D CL (TYS K) s) (hH : HP D CL (zA s0) h H) (hS : va_S (zA s0) s.heap H locs) {av : Nat → Nat} {ed mi : Nat} (hG : GX s0 wd av ed mi)
    {ru s1 s2 wt cp t kd : Nat} {rm : Int32} {un : Value} {rs : Bool} (hru : h ru = some (.inr (cRl kd, [.ref s1, .ref s2, .int (nI wt), .int rm, un, .int (zI rs), .ref cp]), t)) (hkd : kd < 3) (hq : Cond.methodLink own index ⟨"FirstIn$Rule", "kind", "()I"⟩ ∈ lw_all) (hR : 2 ≤ R.frames ∧ 8 + (8 + 11) + 200 * 1 ≤ R.locals) (hsize : ls.size = nL) (hstack : st0 = ([] : List Value).reverse ++ .ref ru :: rest) (hroom : (rest.map fun v => v.category).sum ≤ 8) (hf : cells ≤ R.cells ∧ slots ≤ R.slots) (hdg : decode cc pc = .ok (.invokevirtual index, 3))
    (kk : ∀ (H1 : Heap) (locs1 : List Loc), HP D CL (zA s0) h H1 → va_S (zA s0) s.heap H1 locs1 → W p l e R s m args below meth c H1 locs1 cells slots Q (F0 m (pc + 3) ls (.int (nI kd) :: rest))) : W p l e R s m args below meth c H locs cells slots Q (F0 m pc ls st0) := by
  have h3 : kd = 0 ∨ kd = 1 ∨ kd = 2 := by omega
  rcases h3 with rfl | rfl | rfl
  · refine hp_callU (As := []) (rest := rest) (owner := "FirstIn$Rule") (x := ⟨"FirstIn$Rule", "kind", "()I"⟩) hx hb hml hown hts hPB hK hH hS (mc_kind_X8 hK0 hru) hru rfl rfl 0 (va_cwA 0 hts (lw_U hq q889 q890 q891 q126 q892) rfl rfl rfl (hG.nd hPB q888) (by decide +kernel) (by simp only [rmk]; omega)) rfl hsize hstack hroom hf hdg (fun v h1 H1 locs1 hp _ hH1 hS1 => ?_)
    obtain ⟨rfl, hq2⟩ := hp
    rw [hq2] at hH1
    exact kk H1 locs1 hH1 hS1
  · refine hp_callU (As := []) (rest := rest) (owner := "FirstIn$Rule") (x := ⟨"FirstIn$Rule", "kind", "()I"⟩) hx hb hml hown hts hPB hK hH hS (mc_kind_X11 hK0 hru) hru rfl rfl 0 (va_cwA 0 hts (lw_U hq q889 q896 q897 q129 q898) rfl rfl rfl (hG.nd hPB q888) (by decide +kernel) (by simp only [rmk]; omega)) rfl hsize hstack hroom hf hdg (fun v h1 H1 locs1 hp _ hH1 hS1 => ?_)
    obtain ⟨rfl, hq2⟩ := hp
    rw [hq2] at hH1
    exact kk H1 locs1 hH1 hS1
  · refine hp_callU (As := []) (rest := rest) (owner := "FirstIn$Rule") (x := ⟨"FirstIn$Rule", "kind", "()I"⟩) hx hb hml hown hts hPB hK hH hS (mc_kind_X12 hK0 hru) hru rfl rfl 0 (va_cwA 0 hts (lw_U hq q889 q893 q894 q130 q895) rfl rfl rfl (hG.nd hPB q888) (by decide +kernel) (by simp only [rmk]; omega)) rfl hsize hstack hroom hf hdg (fun v h1 H1 locs1 hp _ hH1 hS1 => ?_)
    obtain ⟨rfl, hq2⟩ := hp
    rw [hq2] at hH1
    exact kk H1 locs1 hH1 hS1
theorem hp_cin {p : Program} {e : Env} {R : Room} {s : State} {m : MethodId} {args : Array Value} {below : List Frame} {meth : Method} {c : Code} {H : Heap} {locs : List Loc} {cells slots : Nat} {Q : State → Prop} {cc : ByteArray} {pc : Nat} {ls : Array Slot} {rest st0 : List Value} {h0 : Hp} {own : String} {index nL : Nat} (hx : p.tables.exec = Jvm.exec) (hb : c.code = cc) (hml : c.maxLocals = nL) (hown : s.vm.findClass own = some m.cls) (hts : ∀ w ∈ lw_all, w.before args s = true) (hPB : PB s0 D CL h0 s) (hK0 : va_K D CL (TYS K) s0) (hK : va_K D CL (TYS K) s) (hH : HP D CL (zA s0) h H) (hS : va_S (zA s0) s.heap H locs) {av : Nat → Nat} {ed mi : Nat} (hG : GX s0 wd av ed mi)
    {ru s1 s2 wt cp t kd : Nat} {rm : Int32} {un : Value} {rs : Bool} (hru : h ru = some (.inr (cRl kd, [.ref s1, .ref s2, .int (nI wt), .int rm, un, .int (zI rs), .ref cp]), t)) (hkd : kd < 3) {room : Int32} (hq : Cond.methodLink own index ⟨"FirstIn$Rule", "countsIn", "(I)Z"⟩ ∈ lw_all) (hR : 2 ≤ R.frames ∧ 8 + (8 + 11) + 200 * 1 ≤ R.locals) (hsize : ls.size = nL) (hstack : st0 = ([.int room] : List Value).reverse ++ .ref ru :: rest) (hroom : (rest.map fun v => v.category).sum ≤ 8) (hf : cells ≤ R.cells ∧ slots ≤ R.slots) (hdg : decode cc pc = .ok (.invokevirtual index, 3))
    (kk : ∀ (H1 : Heap) (locs1 : List Loc), HP D CL (zA s0) h H1 → va_S (zA s0) s.heap H1 locs1 → W p l e R s m args below meth c H1 locs1 cells slots Q (F0 m (pc + 3) ls (.int (zI (!rs && (decide (rm = -1) || decide (rm = room)))) :: rest))) : W p l e R s m args below meth c H locs cells slots Q (F0 m pc ls st0) := by
  have h3 : kd = 0 ∨ kd = 1 ∨ kd = 2 := by omega
  rcases h3 with rfl | rfl | rfl
  · refine hp_callU (As := [.int room]) (rest := rest) (owner := "FirstIn$Rule") (x := ⟨"FirstIn$Rule", "countsIn", "(I)Z"⟩) hx hb hml hown hts hPB hK hH hS (mc_cin_X8 hK0 hru room) hru rfl rfl 1 (va_cwU 1 hts (lw_U hq q995 q996 q994 q125 q999) rfl rfl rfl rfl (by decide +kernel) (by simp only [rmk]; omega)) rfl hsize hstack hroom hf hdg (fun v h1 H1 locs1 hp _ hH1 hS1 => ?_)
    obtain ⟨rfl, hq2⟩ := hp
    rw [hq2] at hH1
    exact kk H1 locs1 hH1 hS1
  · refine hp_callU (As := [.int room]) (rest := rest) (owner := "FirstIn$Rule") (x := ⟨"FirstIn$Rule", "countsIn", "(I)Z"⟩) hx hb hml hown hts hPB hK hH hS (mc_cin_X11 hK0 hru room) hru rfl rfl 1 (va_cwU 1 hts (lw_U hq q995 q998 q994 q125 q999) rfl rfl rfl rfl (by decide +kernel) (by simp only [rmk]; omega)) rfl hsize hstack hroom hf hdg (fun v h1 H1 locs1 hp _ hH1 hS1 => ?_)
    obtain ⟨rfl, hq2⟩ := hp
    rw [hq2] at hH1
    exact kk H1 locs1 hH1 hS1
  · refine hp_callU (As := [.int room]) (rest := rest) (owner := "FirstIn$Rule") (x := ⟨"FirstIn$Rule", "countsIn", "(I)Z"⟩) hx hb hml hown hts hPB hK hH hS (mc_cin_X12 hK0 hru room) hru rfl rfl 1 (va_cwU 1 hts (lw_U hq q995 q997 q994 q125 q999) rfl rfl rfl rfl (by decide +kernel) (by simp only [rmk]; omega)) rfl hsize hstack hroom hf hdg (fun v h1 H1 locs1 hp _ hH1 hS1 => ?_)
    obtain ⟨rfl, hq2⟩ := hp
    rw [hq2] at hH1
    exact kk H1 locs1 hH1 hS1
theorem hp_minds {p : Program} {e : Env} {R : Room} {s : State} {m : MethodId} {args : Array Value} {below : List Frame} {meth : Method} {c : Code} {H : Heap} {locs : List Loc} {cells slots : Nat} {Q : State → Prop} {cc : ByteArray} {pc : Nat} {ls : Array Slot} {rest st0 : List Value} {h0 : Hp} {own : String} {index nL : Nat} (hx : p.tables.exec = Jvm.exec) (hb : c.code = cc) (hml : c.maxLocals = nL) (hown : s.vm.findClass own = some m.cls) (hts : ∀ w ∈ lw_all, w.before args s = true) (hPB : PB s0 D CL h0 s) (hK0 : va_K D CL (TYS K) s0) (hK : va_K D CL (TYS K) s) (hH : HP D CL (zA s0) h H) (hS : va_S (zA s0) s.heap H locs) {av : Nat → Nat} {ed mi : Nat} (hG : GX s0 wd av ed mi)
    {ru s1 s2 wt cp t kd : Nat} {rm : Int32} {un : Value} {rs : Bool} (hru : h ru = some (.inr (cRl kd, [.ref s1, .ref s2, .int (nI wt), .int rm, un, .int (zI rs), .ref cp]), t)) (hkd : kd < 3) {ra t2 np c9 a b k9 : Nat} (he : h ra = some (.inr (10 + k9, [.int (nI np)]), t2)) (hk9 : k9 < 5) (hnp : 1 ≤ np ∧ np ≤ 10) (hc9 : c9 < 10) (ha : a < np) (hb0 : b < np) (hq : Cond.methodLink own index ⟨"FirstIn$Rule", "minds", "(LFirstIn$Room;III)I"⟩ ∈ lw_all) (hR : 4 ≤ R.frames ∧ 8 + (8 + 11) + 200 * 3 ≤ R.locals) (hsize : ls.size = nL) (hstack : st0 = ([.ref ra, .int (nI c9), .int (nI a), .int (nI b)] : List Value).reverse ++ .ref ru :: rest) (hroom : (rest.map fun v => v.category).sum ≤ 8) (hf : cells ≤ R.cells ∧ slots ≤ R.slots) (hdg : decode cc pc = .ok (.invokevirtual index, 3))
    (kk : ∀ (H1 : Heap) (locs1 : List Loc), HP D CL (zA s0) h H1 → va_S (zA s0) s.heap H1 locs1 → W p l e R s m args below meth c H1 locs1 cells slots Q (F0 m (pc + 3) ls (.int (nI (wmN kd k9 np c9 a b)) :: rest))) : W p l e R s m args below meth c H locs cells slots Q (F0 m pc ls st0) := by
  have h3 : kd = 0 ∨ kd = 1 ∨ kd = 2 := by omega
  rcases h3 with rfl | rfl | rfl
  · refine hp_callU (As := [.ref ra, .int (nI c9), .int (nI a), .int (nI b)]) (rest := rest) (owner := "FirstIn$Rule") (x := ⟨"FirstIn$Rule", "minds", "(LFirstIn$Room;III)I"⟩) hx hb hml hown hts hPB hK hH hS (mc_minds_X8 hK0 hG hru he hk9 hnp hc9 ha hb0) hru rfl rfl 4 (va_cwA 4 hts (lw_U hq q1023 q1024 q1025 q126 q1026) rfl rfl rfl (hG.nd hPB q1022) (by decide +kernel) (by simp only [rmk]; omega)) rfl hsize hstack hroom hf hdg (fun v h1 H1 locs1 hp _ hH1 hS1 => ?_)
    obtain ⟨rfl, hq2⟩ := hp
    rw [hq2] at hH1
    exact kk H1 locs1 hH1 hS1
  · refine hp_callU (As := [.ref ra, .int (nI c9), .int (nI a), .int (nI b)]) (rest := rest) (owner := "FirstIn$Rule") (x := ⟨"FirstIn$Rule", "minds", "(LFirstIn$Room;III)I"⟩) hx hb hml hown hts hPB hK hH hS (mc_minds_X11 hK0 hG hru he hk9 hnp hc9 ha hb0) hru rfl rfl 4 (va_cwA 4 hts (lw_U hq q1023 q1052 q1053 q129 q1054) rfl rfl rfl (hG.nd hPB q1022) (by decide +kernel) (by simp only [rmk]; omega)) rfl hsize hstack hroom hf hdg (fun v h1 H1 locs1 hp _ hH1 hS1 => ?_)
    obtain ⟨rfl, hq2⟩ := hp
    rw [hq2] at hH1
    exact kk H1 locs1 hH1 hS1
  · refine hp_callU (As := [.ref ra, .int (nI c9), .int (nI a), .int (nI b)]) (rest := rest) (owner := "FirstIn$Rule") (x := ⟨"FirstIn$Rule", "minds", "(LFirstIn$Room;III)I"⟩) hx hb hml hown hts hPB hK hH hS (mc_minds_X12 hK0 hG hru he hk9 hnp hc9 ha hb0) hru rfl rfl 4 (va_cwA 4 hts (lw_U hq q1023 q1028 q1029 q130 q1030) rfl rfl rfl (hG.nd hPB q1022) (by decide +kernel) (by simp only [rmk]; omega)) rfl hsize hstack hroom hf hdg (fun v h1 H1 locs1 hp _ hH1 hS1 => ?_)
    obtain ⟨rfl, hq2⟩ := hp
    rw [hq2] at hH1
    exact kk H1 locs1 hH1 hS1
end MODEL
