/-! rows: nest mates, dispatch, casts, loops that make cells -/
set_option maxRecDepth 100000
section ROWS13
variable {p : Program} {l : Launch} {e : Env} {R : Room} {s s0 : State} {m : MethodId} {args : Array Value} {below : List Frame} {meth : Method} {c : Code} {H H0 : Heap} {locs : List Loc} {cells slots : Nat} {Q : State → Prop}
variable {cc : ByteArray} {pc : Nat} {ls : Array Slot} {rest st0 : List Value} {D : va_G} {cl : List vw_C} {A : Nat → Prop} {a b t : Nat} {tys : List (ClassId × FieldType)} {h h0 : Hp}
theorem hp_rec (hK : va_K D cl tys s) (hH : HP D cl A h H) {ci : Nat} {fs : List Value} {q : vw_C} (he : h a = some (.inr (ci, fs), t)) (hc : cl[ci]? = some q) : ∃ cell : Cell, H[a]? = some cell ∧ cell.vm.isStatics = false ∧ s.vm.findClass q.1 = some cell.cls := va_recv hK (hH.one he) hc (q0 := 0) rfl
/-- putfield of a nest mate's field -/
theorem hp_putN (hexec : p.tables.exec = Jvm.exec) (hb : c.code = cc) {own ref C host : String} {T : u_T} {N ci index : Nat} {Ts : List Cond} (hts : ∀ w ∈ Ts, w.before args s = true) (hin : ∀ w ∈ u_ws C T N, w ∈ Ts) (ty0 : Nat → FieldType) (hty : ∀ k, k < N → parseFieldDescriptor (T k).2.2.1 = some (ty0 k)) (hnm : ∀ a, a < N → ∀ b, b < N → a ≠ b → (T a).2.1 ≠ (T b).2.1) (hown : s.vm.findClass own = some m.cls) (hK : va_K D cl tys s) (hH : HP D cl A h H) (hS0 : va_S A H0 H locs) {fs : List Value} (he : h a = some (.inr (ci, fs), t)) (hc : cl[ci]? = some (C, T, N)) (k : Nat) (hk : k < N) (hlink : (Cond.fieldLinkNest own index ref (T k).2.1 (T k).2.2.1 host).before args s = true) (hsame : ∀ x, s.fieldFound? (T k).1 (T k).2.1 (T k).2.2.1 = some x → s.fieldFound? ref (T k).2.1 (T k).2.2.1 = some x) (hfin : (T k).2.2.2 = false) {ty : FieldType} {v : Value} (hd : parseFieldDescriptor (T k).2.2.1 = some ty) (hn : narrow ty v = v) (hfit : fits ty v = true) (hl : k < fs.length)
    (hdg : decode cc pc = .ok (.putfield index, 3)) (kk : ∀ (H1 : Heap) (locs1 : List Loc), H1.size = H.size → HP D cl A (hset h a (.inr (ci, fs.set k v)) t) H1 → va_S A H0 H1 locs1 → W p l e R s m args below meth c H1 locs1 cells slots Q (F0 m (pc + 3) ls rest)) : W p l e R s m args below meth c H locs cells slots Q (F0 m pc ls (v :: .ref a :: rest)) := by
  have hap := va_apart (own := own) hts hin ty0 hty hnm hK hc
  obtain ⟨r, h1, cell, q1, q2, q3, q4⟩ := (hH a _ _ he).2
  have hr : r = (C, T, N) := Option.some.inj (h1.symm.trans hc)
  subst hr
  obtain ⟨hS, hfc, kC, hkC, hkind⟩ := hK.1 ci _ hc
  obtain ⟨cf, kf, fi, f, hi, hsl⟩ := hS k hk
  have hlay := hts _ (hin _ (u_in_lay hk))
  unfold u_lay at hlay
  rw [if_neg (by rw [hfin]; decide)] at hlay
  have hst := (u_facts hfc hkC (u_lays hts hin hk) hi).1
  have h6 := u_store hfc hkC hkind hlay hi hd hn hfit
  refine va_WputK hexec hb (f := f) hown hlink (hsame _ hi) hst (by rw [q2]; exact h6) q1 q3 (by rw [hsl]; exact k2_hasslot (q4 k hk)) rfl rfl hdg fun H' e1 e2 e3 => ?_
  rw [hsl] at e1 ⊢
  exact kk H' _ e2 (hH.put he ⟨_, hc, t_OB.to (V := updV (vp_V fs) k v) ⟨_, e1, q2, q3, t_set q4 hap hk v⟩ (fun j _ => vp_updV_set hl v j)⟩ e3) (hS0.put e2 e3 (hH a _ _ he).1)
/-- a private method of a nest mate -/
theorem hp_callVN {own host : String} {index nL maxL mc ms : Nat} {y : MethodName} {bytes : ByteArray} {ret : Option FieldType} {rm : Room} {As : List Value} {post : Option Value → Hp → Prop} (hx : p.tables.exec = Jvm.exec) (hb : c.code = cc) (hml : c.maxLocals = nL) (hown : s.vm.findClass own = some m.cls) (hts : ∀ w ∈ lw_all, w.before args s = true) (hPB : PB s0 D cl h0 s) (hK : va_K D cl tys s) (hH : HP D cl (zA s0) h H) (hS : va_S (zA s0) s.heap H locs)
    (hM : Met l y (ws_ y bytes maxL ret) rm (va_Pc (.ref b :: As) (PB s0 D cl h)) (QR s0 D cl post) mc ms (zA s0)) {ci : Nat} {q : vw_C} {fs : List Value} (he : h b = some (.inr (ci, fs), t)) (hc : cl[ci]? = some q)
    (n : Nat) (hl : va_Nw (.methodLinkNest own index y host) s) (hi : Cond.instanceMethod y ∈ lw_all) (hse : Cond.selects q.1 y y ∈ lw_all) (hini : Cond.initialized y.cls ∈ lw_all) (hcd : Cond.code y bytes maxL ret ∈ lw_all) (hd : y.cls ≠ "java/lang/invoke/MethodHandle" ∧ y.cls ≠ "java/lang/invoke/VarHandle" ∧ (parseMethodDescriptor y.desc).map (fun d => d.parameters.length) = some n) (hrm : rm.cells = mc ∧ rm.slots = ms) (hR : rm.frames + 1 ≤ R.frames ∧ 8 + (maxL + 11) + rm.locals ≤ R.locals)
    (hn : As.length = n) (hsize : ls.size = nL) (hstack : st0 = As.reverse ++ .ref b :: rest) (hroom : (rest.map fun v => v.category).sum ≤ 8) (hf : cells + mc ≤ R.cells ∧ slots + ms ≤ R.slots) (hdg : decode cc pc = .ok (.invokevirtual index, 3))
    (kk : ∀ (v : Option Value) (h1 : Hp) (H1 : Heap) (locs1 : List Loc), post v h1 → H.size ≤ H1.size → HP D cl (zA s0) h1 H1 → va_S (zA s0) s.heap H1 locs1 → W p l e R s m args below meth c H1 locs1 (cells + mc) (slots + ms) Q (F0 m (pc + 3) ls (v.toList ++ rest))) : W p l e R s m args below meth c H locs cells slots Q (F0 m pc ls st0) :=
  hp_call (va_runVN (As := As) (rest := rest) ⟨hx, hb, hml, hown, hts⟩ hM ⟨va_cnB n hts (lw_meth hcd) rfl hrm.1 hrm.2 hl (hts _ hini) hd hR, hts _ hi, hts _ hse⟩ ⟨PB.blind, hp_rec hK hH he hc, fun U hU hW => ⟨rfl, hPB.at hH hS hU hW⟩⟩ rfl hn hsize hstack (lv_room (rest := st0) hroom) hdg hf) hS kk
theorem hp_callSN {own host : String} {index nL maxL mc ms : Nat} {y : MethodName} {bytes : ByteArray} {ret : Option FieldType} {rm : Room} {As : List Value} {post : Option Value → Hp → Prop} (hx : p.tables.exec = Jvm.exec) (hb : c.code = cc) (hml : c.maxLocals = nL) (hown : s.vm.findClass own = some m.cls) (hts : ∀ w ∈ lw_all, w.before args s = true) (hPB : PB s0 D cl h0 s) (hH : HP D cl (zA s0) h H) (hS : va_S (zA s0) s.heap H locs)
    (hM : Met l y (ws_ y bytes maxL ret) rm (va_Pc As (PB s0 D cl h)) (QR s0 D cl post) mc ms (zA s0)) 
    (n : Nat) (hl : va_Nw (.methodLinkNest own index y host) s) (hi : Cond.static y ∈ lw_all) (hini : Cond.initialized y.cls ∈ lw_all) (hcd : Cond.code y bytes maxL ret ∈ lw_all) (hd : y.cls ≠ "java/lang/invoke/MethodHandle" ∧ y.cls ≠ "java/lang/invoke/VarHandle" ∧ (parseMethodDescriptor y.desc).map (fun d => d.parameters.length) = some n) (hrm : rm.cells = mc ∧ rm.slots = ms) (hR : rm.frames + 1 ≤ R.frames ∧ 8 + (maxL + 11) + rm.locals ≤ R.locals)
    (hn : As.length = n) (hsize : ls.size = nL) (hstack : st0 = As.reverse ++ rest) (hroom : (rest.map fun v => v.category).sum ≤ 8) (hf : cells + mc ≤ R.cells ∧ slots + ms ≤ R.slots) (hdg : decode cc pc = .ok (.invokestatic index, 3))
    (kk : ∀ (v : Option Value) (h1 : Hp) (H1 : Heap) (locs1 : List Loc), post v h1 → H.size ≤ H1.size → HP D cl (zA s0) h1 H1 → va_S (zA s0) s.heap H1 locs1 → W p l e R s m args below meth c H1 locs1 (cells + mc) (slots + ms) Q (F0 m (pc + 3) ls (v.toList ++ rest))) : W p l e R s m args below meth c H locs cells slots Q (F0 m pc ls st0) :=
  hp_call (va_runSN (As := As) (rest := rest) ⟨hx, hb, hml, hown, hts⟩ hM ⟨va_cnB n hts (lw_meth hcd) rfl hrm.1 hrm.2 hl (hts _ hini) hd hR, hts _ hi, trivial⟩ ⟨PB.blind, fun U hU hW => ⟨rfl, hPB.at hH hS hU hW⟩⟩ rfl hn hsize hstack (lv_room (rest := st0) hroom) hdg hf) hS kk
theorem hp_callIN {own host : String} {index nL maxL mc ms : Nat} {y : MethodName} {bytes : ByteArray} {rm : Room} {As : List Value} {post : Option Value → Hp → Prop} (hx : p.tables.exec = Jvm.exec) (hb : c.code = cc) (hml : c.maxLocals = nL) (hown : s.vm.findClass own = some m.cls) (hts : ∀ w ∈ lw_all, w.before args s = true) (hPB : PB s0 D cl h0 s) (hH : HP D cl (zA s0) h H) (hS : va_S (zA s0) s.heap H locs)
    (hM : Met l y (ws_ y bytes maxL none) rm (va_Pc (.ref b :: As) (PB s0 D cl h)) (QR s0 D cl post) mc ms (zA s0)) 
    (n : Nat) (hl : va_Nw (.methodLinkNest own index y host) s) (hi : Cond.instanceMethod y ∈ lw_all) (hini : Cond.initialized y.cls ∈ lw_all) (hcd : Cond.code y bytes maxL none ∈ lw_all) (hy1 : y.name = "<init>") (hd : y.cls ≠ "java/lang/invoke/MethodHandle" ∧ y.cls ≠ "java/lang/invoke/VarHandle" ∧ (parseMethodDescriptor y.desc).map (fun d => d.parameters.length) = some n) (hrm : rm.cells = mc ∧ rm.slots = ms) (hR : rm.frames + 1 ≤ R.frames ∧ 8 + (maxL + 11) + rm.locals ≤ R.locals)
    (hn : As.length = n) (hsize : ls.size = nL) (hstack : st0 = As.reverse ++ .ref b :: rest) (hroom : (rest.map fun v => v.category).sum ≤ 8) (hf : cells + mc ≤ R.cells ∧ slots + ms ≤ R.slots) (hdg : decode cc pc = .ok (.invokespecial index, 3))
    (kk : ∀ (v : Option Value) (h1 : Hp) (H1 : Heap) (locs1 : List Loc), post v h1 → H.size ≤ H1.size → HP D cl (zA s0) h1 H1 → va_S (zA s0) s.heap H1 locs1 → W p l e R s m args below meth c H1 locs1 (cells + mc) (slots + ms) Q (F0 m (pc + 3) ls (v.toList ++ rest))) : W p l e R s m args below meth c H locs cells slots Q (F0 m pc ls st0) :=
  hp_call (va_runIN (As := As) (rest := rest) ⟨hx, hb, hml, hown, hts⟩ hM ⟨va_cnB n hts (lw_meth hcd) rfl hrm.1 hrm.2 hl (hts _ hini) hd hR, hy1, hts _ hi⟩ ⟨PB.blind, fun U hU hW => ⟨rfl, hPB.at hH hS hU hW⟩⟩ rfl hn hsize hstack (lv_room (rest := st0) hroom) hdg hf) hS kk
/-- a call by a name that another class gives: inherited, overriding, abstract (cw: va_cwU, va_cwO, va_cwA) -/
theorem hp_callU {own C owner : String} {index nL maxL mc ms : Nat} {x y : MethodName} {bytes : ByteArray} {ret : Option FieldType} {rm : Room} {As : List Value} {post : Option Value → Hp → Prop} (hx : p.tables.exec = Jvm.exec) (hb : c.code = cc) (hml : c.maxLocals = nL) (hown : s.vm.findClass own = some m.cls) (hts : ∀ w ∈ lw_all, w.before args s = true) (hPB : PB s0 D cl h0 s) (hK : va_K D cl tys s) (hH : HP D cl (zA s0) h H) (hS : va_S (zA s0) s.heap H locs)
    (hM : Met l y (ws_ y bytes maxL ret) rm (va_Pc (.ref b :: As) (PB s0 D cl h)) (QR s0 D cl post) mc ms (zA s0)) {ci : Nat} {q : vw_C} {fs : List Value} (he : h b = some (.inr (ci, fs), t)) (hc : cl[ci]? = some q) (hC : q.1 = C)
    (n : Nat) (cw : va_CU R s args own C owner index x y bytes maxL ret (ws_ y bytes maxL ret) rm mc ms n)
    (hn : As.length = n) (hsize : ls.size = nL) (hstack : st0 = As.reverse ++ .ref b :: rest) (hroom : (rest.map fun v => v.category).sum ≤ 8) (hf : cells + mc ≤ R.cells ∧ slots + ms ≤ R.slots) (hdg : decode cc pc = .ok (.invokevirtual index, 3))
    (kk : ∀ (v : Option Value) (h1 : Hp) (H1 : Heap) (locs1 : List Loc), post v h1 → H.size ≤ H1.size → HP D cl (zA s0) h1 H1 → va_S (zA s0) s.heap H1 locs1 → W p l e R s m args below meth c H1 locs1 (cells + mc) (slots + ms) Q (F0 m (pc + 3) ls (v.toList ++ rest))) : W p l e R s m args below meth c H locs cells slots Q (F0 m pc ls st0) := by
  subst hC
  exact hp_call (va_runU (As := As) (rest := rest) ⟨hx, hb, hml, hown, hts⟩ hM cw ⟨PB.blind, hp_rec hK hH he hc, fun U hU hW => ⟨rfl, hPB.at hH hS hU hW⟩⟩ rfl hn hsize hstack (lv_room (rest := st0) hroom) hdg hf) hS kk
theorem w_loopC1 {A1 : Type} (μ : A1 → Nat) (P : A1 → Heap → List Loc → Array Slot → Nat → Nat → Prop)
    (body : ∀ (a1 : A1), (∀ (b1 : A1), μ b1 < μ a1 → ∀ (H : Heap) (locs : List Loc) (ls : Array Slot) (cells slots : Nat), P b1 H locs ls cells slots → W p l e R s m args below meth c H locs cells slots Q (F0 m pc ls st0)) → ∀ (H : Heap) (locs : List Loc) (ls : Array Slot) (cells slots : Nat), P a1 H locs ls cells slots → W p l e R s m args below meth c H locs cells slots Q (F0 m pc ls st0))
    (a1 : A1) (h0 : P a1 H locs ls cells slots) : W p l e R s m args below meth c H locs cells slots Q (F0 m pc ls st0) := by
  suffices key : ∀ (n : Nat) (b1 : A1) (H : Heap) (locs : List Loc) (ls : Array Slot) (cells slots : Nat), μ b1 < n → P b1 H locs ls cells slots → W p l e R s m args below meth c H locs cells slots Q (F0 m pc ls st0) from key _ a1 H locs ls cells slots (Nat.lt_succ_self _) h0
  intro n
  induction n with
  | zero => intro b1 H locs ls cells slots h; exact absurd h (Nat.not_lt_zero _)
  | succ n ih => exact fun b1 H locs ls cells slots h hP => body b1 (fun c1 h2 H locs ls cells slots hP2 => ih c1 H locs ls cells slots (by omega) hP2) H locs ls cells slots hP
theorem w_loopC2 {A1 A2 : Type} (μ : A1 → A2 → Nat) (P : A1 → A2 → Heap → List Loc → Array Slot → Nat → Nat → Prop)
    (body : ∀ (a1 : A1) (a2 : A2), (∀ (b1 : A1) (b2 : A2), μ b1 b2 < μ a1 a2 → ∀ (H : Heap) (locs : List Loc) (ls : Array Slot) (cells slots : Nat), P b1 b2 H locs ls cells slots → W p l e R s m args below meth c H locs cells slots Q (F0 m pc ls st0)) → ∀ (H : Heap) (locs : List Loc) (ls : Array Slot) (cells slots : Nat), P a1 a2 H locs ls cells slots → W p l e R s m args below meth c H locs cells slots Q (F0 m pc ls st0))
    (a1 : A1) (a2 : A2) (h0 : P a1 a2 H locs ls cells slots) : W p l e R s m args below meth c H locs cells slots Q (F0 m pc ls st0) := by
  suffices key : ∀ (n : Nat) (b1 : A1) (b2 : A2) (H : Heap) (locs : List Loc) (ls : Array Slot) (cells slots : Nat), μ b1 b2 < n → P b1 b2 H locs ls cells slots → W p l e R s m args below meth c H locs cells slots Q (F0 m pc ls st0) from key _ a1 a2 H locs ls cells slots (Nat.lt_succ_self _) h0
  intro n
  induction n with
  | zero => intro b1 b2 H locs ls cells slots h; exact absurd h (Nat.not_lt_zero _)
  | succ n ih => exact fun b1 b2 H locs ls cells slots h hP => body b1 b2 (fun c1 c2 h2 H locs ls cells slots hP2 => ih c1 c2 H locs ls cells slots (by omega) hP2) H locs ls cells slots hP
theorem w_loopC3 {A1 A2 A3 : Type} (μ : A1 → A2 → A3 → Nat) (P : A1 → A2 → A3 → Heap → List Loc → Array Slot → Nat → Nat → Prop)
    (body : ∀ (a1 : A1) (a2 : A2) (a3 : A3), (∀ (b1 : A1) (b2 : A2) (b3 : A3), μ b1 b2 b3 < μ a1 a2 a3 → ∀ (H : Heap) (locs : List Loc) (ls : Array Slot) (cells slots : Nat), P b1 b2 b3 H locs ls cells slots → W p l e R s m args below meth c H locs cells slots Q (F0 m pc ls st0)) → ∀ (H : Heap) (locs : List Loc) (ls : Array Slot) (cells slots : Nat), P a1 a2 a3 H locs ls cells slots → W p l e R s m args below meth c H locs cells slots Q (F0 m pc ls st0))
    (a1 : A1) (a2 : A2) (a3 : A3) (h0 : P a1 a2 a3 H locs ls cells slots) : W p l e R s m args below meth c H locs cells slots Q (F0 m pc ls st0) := by
  suffices key : ∀ (n : Nat) (b1 : A1) (b2 : A2) (b3 : A3) (H : Heap) (locs : List Loc) (ls : Array Slot) (cells slots : Nat), μ b1 b2 b3 < n → P b1 b2 b3 H locs ls cells slots → W p l e R s m args below meth c H locs cells slots Q (F0 m pc ls st0) from key _ a1 a2 a3 H locs ls cells slots (Nat.lt_succ_self _) h0
  intro n
  induction n with
  | zero => intro b1 b2 b3 H locs ls cells slots h; exact absurd h (Nat.not_lt_zero _)
  | succ n ih => exact fun b1 b2 b3 H locs ls cells slots h hP => body b1 b2 b3 (fun c1 c2 c3 h2 H locs ls cells slots hP2 => ih c1 c2 c3 H locs ls cells slots (by omega) hP2) H locs ls cells slots hP
theorem w_loopC4 {A1 A2 A3 A4 : Type} (μ : A1 → A2 → A3 → A4 → Nat) (P : A1 → A2 → A3 → A4 → Heap → List Loc → Array Slot → Nat → Nat → Prop)
    (body : ∀ (a1 : A1) (a2 : A2) (a3 : A3) (a4 : A4), (∀ (b1 : A1) (b2 : A2) (b3 : A3) (b4 : A4), μ b1 b2 b3 b4 < μ a1 a2 a3 a4 → ∀ (H : Heap) (locs : List Loc) (ls : Array Slot) (cells slots : Nat), P b1 b2 b3 b4 H locs ls cells slots → W p l e R s m args below meth c H locs cells slots Q (F0 m pc ls st0)) → ∀ (H : Heap) (locs : List Loc) (ls : Array Slot) (cells slots : Nat), P a1 a2 a3 a4 H locs ls cells slots → W p l e R s m args below meth c H locs cells slots Q (F0 m pc ls st0))
    (a1 : A1) (a2 : A2) (a3 : A3) (a4 : A4) (h0 : P a1 a2 a3 a4 H locs ls cells slots) : W p l e R s m args below meth c H locs cells slots Q (F0 m pc ls st0) := by
  suffices key : ∀ (n : Nat) (b1 : A1) (b2 : A2) (b3 : A3) (b4 : A4) (H : Heap) (locs : List Loc) (ls : Array Slot) (cells slots : Nat), μ b1 b2 b3 b4 < n → P b1 b2 b3 b4 H locs ls cells slots → W p l e R s m args below meth c H locs cells slots Q (F0 m pc ls st0) from key _ a1 a2 a3 a4 H locs ls cells slots (Nat.lt_succ_self _) h0
  intro n
  induction n with
  | zero => intro b1 b2 b3 b4 H locs ls cells slots h; exact absurd h (Nat.not_lt_zero _)
  | succ n ih => exact fun b1 b2 b3 b4 H locs ls cells slots h hP => body b1 b2 b3 b4 (fun c1 c2 c3 c4 h2 H locs ls cells slots hP2 => ih c1 c2 c3 c4 H locs ls cells slots (by omega) hP2) H locs ls cells slots hP
theorem w_loopC5 {A1 A2 A3 A4 A5 : Type} (μ : A1 → A2 → A3 → A4 → A5 → Nat) (P : A1 → A2 → A3 → A4 → A5 → Heap → List Loc → Array Slot → Nat → Nat → Prop)
    (body : ∀ (a1 : A1) (a2 : A2) (a3 : A3) (a4 : A4) (a5 : A5), (∀ (b1 : A1) (b2 : A2) (b3 : A3) (b4 : A4) (b5 : A5), μ b1 b2 b3 b4 b5 < μ a1 a2 a3 a4 a5 → ∀ (H : Heap) (locs : List Loc) (ls : Array Slot) (cells slots : Nat), P b1 b2 b3 b4 b5 H locs ls cells slots → W p l e R s m args below meth c H locs cells slots Q (F0 m pc ls st0)) → ∀ (H : Heap) (locs : List Loc) (ls : Array Slot) (cells slots : Nat), P a1 a2 a3 a4 a5 H locs ls cells slots → W p l e R s m args below meth c H locs cells slots Q (F0 m pc ls st0))
    (a1 : A1) (a2 : A2) (a3 : A3) (a4 : A4) (a5 : A5) (h0 : P a1 a2 a3 a4 a5 H locs ls cells slots) : W p l e R s m args below meth c H locs cells slots Q (F0 m pc ls st0) := by
  suffices key : ∀ (n : Nat) (b1 : A1) (b2 : A2) (b3 : A3) (b4 : A4) (b5 : A5) (H : Heap) (locs : List Loc) (ls : Array Slot) (cells slots : Nat), μ b1 b2 b3 b4 b5 < n → P b1 b2 b3 b4 b5 H locs ls cells slots → W p l e R s m args below meth c H locs cells slots Q (F0 m pc ls st0) from key _ a1 a2 a3 a4 a5 H locs ls cells slots (Nat.lt_succ_self _) h0
  intro n
  induction n with
  | zero => intro b1 b2 b3 b4 b5 H locs ls cells slots h; exact absurd h (Nat.not_lt_zero _)
  | succ n ih => exact fun b1 b2 b3 b4 b5 H locs ls cells slots h hP => body b1 b2 b3 b4 b5 (fun c1 c2 c3 c4 c5 h2 H locs ls cells slots hP2 => ih c1 c2 c3 c4 c5 H locs ls cells slots (by omega) hP2) H locs ls cells slots hP
theorem w_loopC6 {A1 A2 A3 A4 A5 A6 : Type} (μ : A1 → A2 → A3 → A4 → A5 → A6 → Nat) (P : A1 → A2 → A3 → A4 → A5 → A6 → Heap → List Loc → Array Slot → Nat → Nat → Prop)
    (body : ∀ (a1 : A1) (a2 : A2) (a3 : A3) (a4 : A4) (a5 : A5) (a6 : A6), (∀ (b1 : A1) (b2 : A2) (b3 : A3) (b4 : A4) (b5 : A5) (b6 : A6), μ b1 b2 b3 b4 b5 b6 < μ a1 a2 a3 a4 a5 a6 → ∀ (H : Heap) (locs : List Loc) (ls : Array Slot) (cells slots : Nat), P b1 b2 b3 b4 b5 b6 H locs ls cells slots → W p l e R s m args below meth c H locs cells slots Q (F0 m pc ls st0)) → ∀ (H : Heap) (locs : List Loc) (ls : Array Slot) (cells slots : Nat), P a1 a2 a3 a4 a5 a6 H locs ls cells slots → W p l e R s m args below meth c H locs cells slots Q (F0 m pc ls st0))
    (a1 : A1) (a2 : A2) (a3 : A3) (a4 : A4) (a5 : A5) (a6 : A6) (h0 : P a1 a2 a3 a4 a5 a6 H locs ls cells slots) : W p l e R s m args below meth c H locs cells slots Q (F0 m pc ls st0) := by
  suffices key : ∀ (n : Nat) (b1 : A1) (b2 : A2) (b3 : A3) (b4 : A4) (b5 : A5) (b6 : A6) (H : Heap) (locs : List Loc) (ls : Array Slot) (cells slots : Nat), μ b1 b2 b3 b4 b5 b6 < n → P b1 b2 b3 b4 b5 b6 H locs ls cells slots → W p l e R s m args below meth c H locs cells slots Q (F0 m pc ls st0) from key _ a1 a2 a3 a4 a5 a6 H locs ls cells slots (Nat.lt_succ_self _) h0
  intro n
  induction n with
  | zero => intro b1 b2 b3 b4 b5 b6 H locs ls cells slots h; exact absurd h (Nat.not_lt_zero _)
  | succ n ih => exact fun b1 b2 b3 b4 b5 b6 H locs ls cells slots h hP => body b1 b2 b3 b4 b5 b6 (fun c1 c2 c3 c4 c5 c6 h2 H locs ls cells slots hP2 => ih c1 c2 c3 c4 c5 c6 H locs ls cells slots (by omega) hP2) H locs ls cells slots hP
end ROWS13
