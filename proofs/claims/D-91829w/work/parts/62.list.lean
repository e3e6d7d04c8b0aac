/-! rows over the functional heap: arrays of references, constructors, lists; the start's facts -/
set_option maxRecDepth 100000
/-- the start's facts that every method of the component may want -/
def GX (s0 : State) (wd av : Nat → Nat) (ed mi : Nat) : Prop := OX wd av (zA s0) s0 s0.heap ∧ (∃ A : Array Value, ∀ w ∈ lw_tbl, w.before A s0 = true) ∧ va_Z "java/util/ArrayList" "DEFAULTCAPACITY_EMPTY_ELEMENTDATA" "[Ljava/lang/Object;" (.ref ed) (zA s0) s0 s0.heap ∧ va_T (.object "java/lang/Object") ed 0 (fun _ => .null) (zA s0) s0 s0.heap ∧ va_Mi "[Ljava/lang/Object;" mi s0
section GXS
variable {s0 s : State} {wd av : Nat → Nat} {ed mi : Nat} {D : va_G} {cl : List vw_C} {h : Hp}
theorem GX.tb (hG : GX s0 wd av ed mi) {w : Cond} (hw : w ∈ lw_tbl) (ho : w.onTables = true) : va_Nw w s0 := va_Nw.of ho (hG.2.1.choose_spec w hw)
theorem GX.ox (hG : GX s0 wd av ed mi) : OX wd av (zA s0) s0 s0.heap := hG.1
theorem GX.em (hG : GX s0 wd av ed mi) (hPB : PB s0 D cl h s) : va_Z "java/util/ArrayList" "DEFAULTCAPACITY_EMPTY_ELEMENTDATA" "[Ljava/lang/Object;" (.ref ed) (zA s0) s s.heap := (va_Z.moved hPB.1.alike hG.2.2.1).kept (fun a h1 _ => hPB.2.2.1 a h1)
theorem GX.ea (hG : GX s0 wd av ed mi) (hPB : PB s0 D cl h s) : va_T (.object "java/lang/Object") ed 0 (fun _ => .null) (zA s0) s s.heap := (va_T.moved hPB.1.alike hG.2.2.2.1).kept (fun a h1 _ => hPB.2.2.1 a h1)
theorem GX.mr (hG : GX s0 wd av ed mi) (hPB : PB s0 D cl h s) : va_Mi "[Ljava/lang/Object;" mi s := va_Mi.moved hPB.1.alike hG.2.2.2.2
theorem GX.old (hG : GX s0 wd av ed mi) : ¬ zA s0 ed := hG.2.2.2.1.out
theorem GX.nf (hG : GX s0 wd av ed mi) (hPB : PB s0 D cl h s) {a : String} {i : Nat} {b n d ho : String} (hw : Cond.fieldLinkNest a i b n d ho ∈ lw_tbl) {A : Array Value} : (Cond.fieldLinkNest a i b n d ho).before A s = true := va_Nw.use rfl (va_Nw.warmF hPB.1 (hG.tb hw rfl))
theorem GX.nm (hG : GX s0 wd av ed mi) (hPB : PB s0 D cl h s) {a : String} {i : Nat} {x : MethodName} {ho : String} (hw : Cond.methodLinkNest a i x ho ∈ lw_tbl) : va_Nw (.methodLinkNest a i x ho) s := va_Nw.warmM hPB.1 (hG.tb hw rfl)
theorem GX.nc (hG : GX s0 wd av ed mi) (hPB : PB s0 D cl h s) {C T : String} (hw : Cond.castable C T ∈ lw_tbl) : va_Nw (.castable C T) s := va_Nw.warmC hPB.1 (hG.tb hw rfl)
theorem GX.nd (hG : GX s0 wd av ed mi) (hPB : PB s0 D cl h s) {x : MethodName} (hw : Cond.declares x ∈ lw_tbl) : va_Nw (.declares x) s := va_Nw.warmD hPB.1 (hG.tb hw rfl)
/-- every class of ours is an Object -/
theorem GX.ob (hG : GX s0 wd av ed mi) (hPB : PB s0 D cl h s) {r : vw_C} (hr : r ∈ CL) : va_Nw (.castable r.1 "java/lang/Object") s := by
  simp only [CL, List.mem_cons, List.not_mem_nil, or_false] at hr
  rcases hr with rfl | rfl | rfl | rfl | rfl | rfl | rfl | rfl | rfl | rfl | rfl | rfl | rfl | rfl | rfl | rfl | rfl | rfl | rfl | rfl | rfl
  · exact hG.nc hPB q2008
  · exact hG.nc hPB q2009
  · exact hG.nc hPB q2011
  · exact hG.nc hPB q2012
  · exact hG.nc hPB q2013
  · exact hG.nc hPB q2014
  · exact hG.nc hPB q2015
  · exact hG.nc hPB q2016
  · exact hG.nc hPB q2017
  · exact hG.nc hPB q2018
  · exact hG.nc hPB q2019
  · exact hG.nc hPB q2020
  · exact hG.nc hPB q2021
  · exact hG.nc hPB q2022
  · exact hG.nc hPB q2023
  · exact hG.nc hPB q2024
  · exact hG.nc hPB q2025
  · exact hG.nc hPB q2026
  · exact hG.nc hPB q2027
  · exact hG.nc hPB q2028
  · exact hG.nc hPB q2010
end GXS
/-- an object lies at a -/
def OBJ (h : Hp) (a : Nat) : Prop := ∃ ci fs t, h a = some (.inr (ci, fs), t)
theorem OBJ.set {h : Hp} {a b : Nat} {e : va_E} {t : Nat} (hO : OBJ h a) (hb : b = a → ∃ ci fs, e = .inr (ci, fs)) : OBJ (hset h b e t) a := by
  by_cases c : a = b
  · subst c
    obtain ⟨ci, fs, rfl⟩ := hb rfl
    exact ⟨ci, fs, t, hset_self _ _ _ _⟩
  · obtain ⟨ci, fs, u, he⟩ := hO
    exact ⟨ci, fs, u, by rw [hset_ne _ _ _ c]; exact he⟩
theorem OBJ.arr {h : Hp} {a b : Nat} {e : va_E} {t : Nat} (hO : OBJ h a) {x : ClassId × vp_A} {u : Nat} (hb : h b = some (.inl x, u)) : OBJ (hset h b e t) a := hO.set (fun q => by subst q; obtain ⟨ci, fs, v, he⟩ := hO; rw [hb] at he; cases he)
section ROWS9
variable {p : Program} {l : Launch} {e : Env} {R : Room} {s s0 : State} {m : MethodId} {args : Array Value} {below : List Frame} {meth : Method} {c : Code} {H H0 : Heap} {locs : List Loc} {cells slots : Nat} {Q : State → Prop}
variable {cc : ByteArray} {pc : Nat} {ls : Array Slot} {rest st0 : List Value} {D : va_G} {cl : List vw_C} {A : Nat → Prop} {a b t : Nat} {tys : List (ClassId × FieldType)} {h h0 : Hp}
theorem any_obj {wd av : Nat → Nat} {ed mi : Nat} (hG : GX s0 wd av ed mi) (hPB : PB s0 D CL h0 s) (hK : va_K D CL tys s) (hH : HP D CL A h H) (hO : OBJ h a) : va_Any "java/lang/Object" s H a := by
  obtain ⟨ci, fs, u, he⟩ := hO
  obtain ⟨r, hr, -⟩ := (hH a _ _ he).2
  exact va_rAny hK (hH.one he) (q0 := 0) rfl hr (fun comp c0 h1 h2 => vb_asgC (hG.ob hPB (List.mem_of_getElem? hr)) comp c0 h1 h2)
/-- an array of references is made -/
theorem hp_newq (hexec : p.tables.exec = Jvm.exec) (hb : c.code = cc) {own C : String} {index : Nat} (hown : s.vm.findClass own = some m.cls) (hclink : (Cond.classLink own index C).before args s = true) (hover : (Cond.arrayOver (.object C)).before args s = true) (hK : va_K D cl tys s) (hH : HP D cl A h H) (hS : va_S A H0 H locs) (hA : ∀ q, H0.size ≤ q → A q) (t0 : Nat) {cA : ClassId} (ht : tys[t0]? = some (cA, .object C))
    {n : Int32} {N' : Nat} (hn : ¬ n < 0) (hN : n.toNatClampNeg = N') (hbytes : N' * 4 ≤ 536870912) (hcells : cells + 1 ≤ R.cells) (hslots : slots + N' ≤ R.slots) (tg : Nat) (hdg : decode cc pc = .ok (.anewarray index, 3))
    (kk : ∀ (H1 : Heap), H1.size = H.size + 1 → HP D cl A (hset h H.size (.inl (cA, N', .inr (.inr (.inr (.inr (fun _ => none)))))) tg) H1 → va_S A H0 H1 locs →
      W p l e R s m args below meth c H1 locs (cells + 1) (slots + N') Q (F0 m (pc + 3) ls (.ref H.size :: rest))) : W p l e R s m args below meth c H locs cells slots Q (F0 m pc ls (.int n :: rest)) := by
  subst hN
  refine W.anew hexec hb hown hclink hover rfl hdg rfl hn hbytes hcells hslots fun cA' kA comp f1 f2 f3 f4 => ?_
  generalize hH1 : H.push ({ cls := cA', slots := Array.replicate n.toNatClampNeg .null, vm := .none } : Cell) = H1
  have z1 : H1.size = H.size + 1 := by rw [← hH1, Array.size_push]
  have e1 : H1[H.size]? = some (arrV cA' n.toNatClampNeg (fun _ => .null)) := by rw [← hH1, Array.getElem?_push_size, ← arrV_new]
  have o1 : ∀ q : Nat, q < H.size → H1[q]? = H[q]? := fun q hq => by rw [← hH1, Array.getElem?_push, if_neg (Nat.ne_of_lt hq)]
  have hcA : cA' = cA := Option.some.inj (f1.symm.trans (va_nmO (hK.2 t0 _ ht).2 rfl))
  subst hcA
  exact kk H1 z1 (hH.new (hA _ hS.1) (by show H1[H.size]? = some (vp_cell _ _); rw [vp_cell_q]; exact e1) o1 tg) ⟨Nat.le_trans hS.1 (by omega), fun x h1 h2 => (o1 x (Nat.lt_of_lt_of_le h1 hS.1)).trans (hS.2.1 x h1 h2), hS.2.2⟩
/-- an object goes into an array of references -/
theorem hp_aast (hexec : p.tables.exec = Jvm.exec) (hb : c.code = cc) (hK : va_K D cl tys s) (hH : HP D cl A h H) (hS : va_S A H0 H locs) (t0 : Nat) {E : String} {cA : ClassId} {n v : Nat} {f : Nat → Option Nat} (he : h a = some (.inl (cA, n, .inr (.inr (.inr (.inr f)))), t)) (ht : tys[t0]? = some (cA, .object E)) (hr : va_Any E s H v) {i : Int32} (hin : vp_in i n) (hdg : decode cc pc = .ok (.aastore, 1))
    (kk : ∀ (H1 : Heap) (locs1 : List Loc), H1.size = H.size → HP D cl A (hset h a (.inl (cA, n, .inr (.inr (.inr (.inr (va_up f i.toNatClampNeg (some v))))))) t) H1 → va_S A H0 H1 locs1 → W p l e R s m args below meth c H1 locs1 cells slots Q (F0 m (pc + 1) ls rest)) : W p l e R s m args below meth c H locs cells slots Q (F0 m pc ls (.ref v :: .int i :: .ref a :: rest)) := by
  have hlt : i.toNatClampNeg < n := Nat.not_le.mp fun q => hin (Or.inr q)
  have h0 : ¬ i < 0 := fun q => hin (Or.inl q)
  obtain ⟨cellV, g1, g3, ⟨kC, hkC⟩, hasg⟩ := hr
  obtain ⟨kA, comp, k1, k2, k3, -⟩ := (hK.2 t0 _ ht).2
  obtain ⟨kE, hkE, -⟩ := Vm.findClass_spec k3
  refine W.aast hexec hb (hH a _ _ he).2 (fun q h => by cases h) (fun h => by cases h) k1 k2 rfl hkE ⟨h0, by show _ < (arrV _ _ _).slots.size; rw [arrV_size]; exact hlt⟩ g1 (fun q h => by rw [h] at g3; cases g3) hkC (hasg _ k3) rfl rfl hdg fun H1 e z oq => ?_
  refine kk H1 _ z (hH.put he ?_ oq) (hS.put z oq (hH a _ _ he).1)
  show H1[a]? = some (vp_cell _ _)
  rw [e]
  rw [vp_cell_q, vp_cell_q, arrV_store]
  congr 2
  funext q
  by_cases hq : q = i.toNatClampNeg
  · subst hq
    simp [updV, va_up, va_rf]
  · simp [updV, va_up, hq]
/-- null goes into an array of references -/
theorem hp_aastN (hexec : p.tables.exec = Jvm.exec) (hb : c.code = cc) (hK : va_K D cl tys s) (hH : HP D cl A h H) (hS : va_S A H0 H locs) (t0 : Nat) {C : String} {cA : ClassId} {n : Nat} {f : Nat → Option Nat} (he : h a = some (.inl (cA, n, .inr (.inr (.inr (.inr f)))), t)) (ht : tys[t0]? = some (cA, .object C)) {i : Int32} (hin : vp_in i n) (hdg : decode cc pc = .ok (.aastore, 1))
    (kk : ∀ (H1 : Heap) (locs1 : List Loc), H1.size = H.size → HP D cl A (hset h a (.inl (cA, n, .inr (.inr (.inr (.inr (va_up f i.toNatClampNeg none)))))) t) H1 → va_S A H0 H1 locs1 → W p l e R s m args below meth c H1 locs1 cells slots Q (F0 m (pc + 1) ls rest)) : W p l e R s m args below meth c H locs cells slots Q (F0 m pc ls (.null :: .int i :: .ref a :: rest)) := by
  refine va_WaastN (C := C) hexec hb (hH a _ _ he).2 ((hK.2 t0 _ ht).1 n (fun j => va_rf (f j))) (fun h => by cases h) (by show ¬ (i < 0 ∨ (arrV _ _ _).slots.size ≤ _); rw [arrV_size]; exact hin) rfl rfl hdg fun H1 e z oq => ?_
  refine kk H1 _ z (hH.put he ?_ oq) (hS.put z oq (hH a _ _ he).1)
  show H1[a]? = some (vp_cell _ _)
  rw [e]
  rw [vp_cell_q, vp_cell_q, arrV_store]
  congr 2
  funext q
  by_cases hq : q = i.toNatClampNeg
  · subst hq
    simp [updV, va_up, va_rf]
  · simp [updV, va_up, hq]
/-- a constructor is called -/
theorem hp_callI {own : String} {index nL maxL mc ms : Nat} {y : MethodName} {bytes : ByteArray} {rm : Room} {As : List Value} {post : Option Value → Hp → Prop} (hx : p.tables.exec = Jvm.exec) (hb : c.code = cc) (hml : c.maxLocals = nL) (hown : s.vm.findClass own = some m.cls) (hts : ∀ w ∈ lw_all, w.before args s = true) (hPB : PB s0 D cl h0 s) (hH : HP D cl (zA s0) h H) (hS : va_S (zA s0) s.heap H locs)
    (hM : Met l y (ws_ y bytes maxL none) rm (va_Pc (.ref b :: As) (PB s0 D cl h)) (QR s0 D cl post) mc ms (zA s0))
    (n : Nat) (hl : Cond.methodLink own index y ∈ lw_all) (hi : Cond.instanceMethod y ∈ lw_all) (hini : Cond.initialized y.cls ∈ lw_all) (hcd : Cond.code y bytes maxL none ∈ lw_all) (hy1 : y.name = "<init>") (hd : y.cls ≠ "java/lang/invoke/MethodHandle" ∧ y.cls ≠ "java/lang/invoke/VarHandle" ∧ (parseMethodDescriptor y.desc).map (fun d => d.parameters.length) = some n) (hrm : rm.cells = mc ∧ rm.slots = ms) (hR : rm.frames + 1 ≤ R.frames ∧ 8 + (maxL + 11) + rm.locals ≤ R.locals)
    (hn : As.length = n) (hsize : ls.size = nL) (hstack : st0 = As.reverse ++ .ref b :: rest) (hroom : (rest.map fun v => v.category).sum ≤ 8) (hf : cells + mc ≤ R.cells ∧ slots + ms ≤ R.slots) (hdg : decode cc pc = .ok (.invokespecial index, 3))
    (kk : ∀ (v : Option Value) (h1 : Hp) (H1 : Heap) (locs1 : List Loc), post v h1 → H.size ≤ H1.size → HP D cl (zA s0) h1 H1 → va_S (zA s0) s.heap H1 locs1 → W p l e R s m args below meth c H1 locs1 (cells + mc) (slots + ms) Q (F0 m (pc + 3) ls (v.toList ++ rest))) : W p l e R s m args below meth c H locs cells slots Q (F0 m pc ls st0) :=
  hp_call (va_runI (As := As) (rest := rest) ⟨hx, hb, hml, hown, hts⟩ hM (cwI n hts (lw_meth hcd) rfl hrm.1 hrm.2 (hts _ hini) (hts _ hl) (hts _ hi) hy1 hd hR) ⟨PB.blind, fun U hU hW => ⟨rfl, hPB.at hH hS hU hW⟩⟩ rfl hn hsize hstack (lv_room (rest := st0) hroom) hdg hf) hS kk
end ROWS9
/-! lists -/
/-- the capacity behind j arrays -/
def gcap : Nat → Nat
  | 0 => 0
  | 1 => 10
  | j + 2 => gcap (j + 1) + gcap (j + 1) / 2
theorem gcap_lt : ∀ j, j ≤ 13 → gcap j ≤ 1234 := by decide
/-- a list at a: its elements L, behind j arrays -/
def AL (K4 : ClassId) (ed : Nat) (h : Hp) (a t : Nat) (L : List Nat) (j : Nat) : Prop := ∃ (mcn : Int32) (d : Nat), h a = some (.inr (20, [.int mcn, .ref d, .int (nI L.length)]), t) ∧ (∀ x ∈ L, OBJ h x) ∧ (L.length ≤ gcap j ∧ j ≤ 13) ∧ ((j = 0 ∧ d = ed) ∨ (0 < j ∧ ∃ f : Nat → Option Nat, h d = some (.inl (K4, gcap j, .inr (.inr (.inr (.inr f)))), t) ∧ ∀ i, i < L.length → f i = some (L.getD i 0)))
/-- cells of other tags than t are as they were -/
def frT (t : Nat) (h h1 : Hp) : Prop := ∀ b e u, h b = some (e, u) → u ≠ t → h1 b = some (e, u)
theorem frT.rf {t : Nat} {h : Hp} : frT t h h := fun _ _ _ q _ => q
theorem frT.tr {t : Nat} {h h1 h2 : Hp} (a : frT t h h1) (b : frT t h1 h2) : frT t h h2 := fun x e u q n => b x e u (a x e u q n) n
theorem frT.set {t : Nat} {h h1 : Hp} (f : frT t h h1) {a : Nat} {e0 e1 : va_E} (he : h1 a = some (e0, t)) : frT t h (hset h1 a e1 t) := fun b e u q n => by
  have z := f b e u q n
  rw [hset_ne _ _ _ (fun c => by subst c; rw [he] at z; cases z; exact n rfl)]
  exact z
theorem frT.new {t : Nat} {h h1 : Hp} (f : frT t h h1) {a : Nat} {e1 : va_E} {u1 : Nat} (he : h1 a = none) : frT t h (hset h1 a e1 u1) := fun b e u q n => by
  have z := f b e u q n
  rw [hset_ne _ _ _ (fun c => by subst c; rw [he] at z; cases z)]
  exact z
section ROWS10
variable {p : Program} {l : Launch} {e : Env} {R : Room} {s s0 : State} {m : MethodId} {args : Array Value} {below : List Frame} {meth : Method} {c : Code} {H H0 : Heap} {locs : List Loc} {cells slots : Nat} {Q : State → Prop}
variable {cc : ByteArray} {pc : Nat} {ls : Array Slot} {rest st0 : List Value} {D : va_G} {cl : List vw_C} {A : Nat → Prop} {a b t : Nat} {tys : List (ClassId × FieldType)} {h h0 : Hp}
theorem hp_ald (hx : p.tables.exec = Jvm.exec) (hb : c.code = cc) (hK : va_K D cl tys s) (hH : HP D cl A h H) (t0 : Nat) {cA : ClassId} {n j v : Nat} {ty : FieldType} {f : Nat → Option Nat} (he : h a = some (.inl (cA, n, .inr (.inr (.inr (.inr f)))), t)) (ht : tys[t0]? = some (cA, ty)) (hty : ty.isReference = true) (hj : j < n) (hn : n < 2 ^ 31) (hv : f j = some v) (hdg : decode cc pc = .ok (.aaload, 1))
    (kk : W p l e R s m args below meth c H locs cells slots Q (F0 m (pc + 1) ls (.ref v :: rest))) : W p l e R s m args below meth c H locs cells slots Q (F0 m pc ls (.int (nI j) :: .ref a :: rest)) := by
  refine hp_aald hx hb hK hH t0 he ht hty (vp_in_nI hj hn) hdg ?_
  rw [nI_clamp (by omega), hv]
  exact kk
theorem hp_ast (hx : p.tables.exec = Jvm.exec) (hb : c.code = cc) (hK : va_K D cl tys s) (hH : HP D cl A h H) (hS : va_S A H0 H locs) (t0 : Nat) {E : String} {cA : ClassId} {n v j : Nat} {f : Nat → Option Nat} (he : h a = some (.inl (cA, n, .inr (.inr (.inr (.inr f)))), t)) (ht : tys[t0]? = some (cA, .object E)) (hr : va_Any E s H v) (hj : j < n) (hn : n < 2 ^ 31) (hdg : decode cc pc = .ok (.aastore, 1))
    (kk : ∀ (H1 : Heap) (locs1 : List Loc), H1.size = H.size → HP D cl A (hset h a (.inl (cA, n, .inr (.inr (.inr (.inr (va_up f j (some v))))))) t) H1 → va_S A H0 H1 locs1 → W p l e R s m args below meth c H1 locs1 cells slots Q (F0 m (pc + 1) ls rest)) : W p l e R s m args below meth c H locs cells slots Q (F0 m pc ls (.ref v :: .int (nI j) :: .ref a :: rest)) := by
  refine hp_aast hx hb hK hH hS t0 he ht hr (vp_in_nI hj hn) hdg ?_
  rw [nI_clamp (by omega)]
  exact kk
theorem hp_astN (hx : p.tables.exec = Jvm.exec) (hb : c.code = cc) (hK : va_K D cl tys s) (hH : HP D cl A h H) (hS : va_S A H0 H locs) (t0 : Nat) {C : String} {cA : ClassId} {n j : Nat} {f : Nat → Option Nat} (he : h a = some (.inl (cA, n, .inr (.inr (.inr (.inr f)))), t)) (ht : tys[t0]? = some (cA, .object C)) (hj : j < n) (hn : n < 2 ^ 31) (hdg : decode cc pc = .ok (.aastore, 1))
    (kk : ∀ (H1 : Heap) (locs1 : List Loc), H1.size = H.size → HP D cl A (hset h a (.inl (cA, n, .inr (.inr (.inr (.inr (va_up f j none)))))) t) H1 → va_S A H0 H1 locs1 → W p l e R s m args below meth c H1 locs1 cells slots Q (F0 m (pc + 1) ls rest)) : W p l e R s m args below meth c H locs cells slots Q (F0 m pc ls (.null :: .int (nI j) :: .ref a :: rest)) := by
  refine hp_aastN hx hb hK hH hS t0 he ht (vp_in_nI hj hn) hdg ?_
  rw [nI_clamp (by omega)]
  exact kk
end ROWS10
theorem ne_oa {h : Hp} {a b : Nat} {x : Nat × List Value} {y : ClassId × vp_A} {t u : Nat} (ha : h a = some (.inr x, t)) (hb : h b = some (.inl y, u)) : a ≠ b := fun q => by subst q; rw [ha] at hb; cases hb
theorem ne_ao {h : Hp} {a b : Nat} {x : Nat × List Value} {y : ClassId × vp_A} {t u : Nat} (hb : h b = some (.inl y, u)) (ha : h a = some (.inr x, t)) : b ≠ a := fun q => ne_oa ha hb q.symm
theorem ne_tg {h : Hp} {a b : Nat} {x y : va_E} {t u : Nat} (ha : h a = some (x, t)) (hb : h b = some (y, u)) (n : t ≠ u) : a ≠ b := fun q => by subst q; rw [ha] at hb; cases hb; exact n rfl
theorem ne_ci {h : Hp} {a b ci cj : Nat} {x y : List Value} {t u : Nat} (ha : h a = some (.inr (ci, x), t)) (hb : h b = some (.inr (cj, y), u)) (n : ci ≠ cj) : a ≠ b := fun q => by subst q; rw [ha] at hb; cases hb; exact n rfl
section ROWS11
variable {p : Program} {l : Launch} {e : Env} {R : Room} {s s0 : State} {m : MethodId} {args : Array Value} {below : List Frame} {meth : Method} {c : Code} {H H0 : Heap} {locs : List Loc} {cells slots : Nat} {Q : State → Prop}
variable {cc : ByteArray} {pc : Nat} {ls : Array Slot} {rest st0 : List Value} {D : va_G} {cl : List vw_C} {A : Nat → Prop} {a b t : Nat} {tys : List (ClassId × FieldType)} {h h0 : Hp}
/-- System.arraycopy of references from one array into another -/
theorem hp_copyq (hexec : p.tables.exec = Jvm.exec) (hb : c.code = cc) (hml : c.maxLocals = ls.size) {own : String} {index : Nat} (hown : s.vm.findClass own = some m.cls) (hlink : (Cond.methodLink own index arraycopyName).before args s = true) (hnat : (Cond.native arraycopyName).before args s = true) (hstat : (Cond.static arraycopyName).before args s = true) (hini : (Cond.initialized "java/lang/System").before args s = true)
    (hK : va_K D cl tys s) (hH : HP D cl A h H) (hS : va_S A H0 H locs) (t0 t1 : Nat) {a0 u : Nat} {c0 c1 : ClassId} {n0 n1 : Nat} {f g : Nat → Option Nat} {E0 E1 : String} (ha0 : h a0 = some (.inl (c0, n0, .inr (.inr (.inr (.inr f)))), u)) (ha1 : h a = some (.inl (c1, n1, .inr (.inr (.inr (.inr g)))), t)) (ht0 : tys[t0]? = some (c0, .object E0)) (ht1 : tys[t1]? = some (c1, .object E1))
    {sp dp n : Int32} (h1 : ¬ sp < 0) (h2 : ¬ dp < 0) (h3 : ¬ n < 0) (h4 : sp.toNatClampNeg + n.toNatClampNeg ≤ n0) (h5 : dp.toNatClampNeg + n.toNatClampNeg ≤ n1) (hel : ∀ i : Nat, i < n.toNatClampNeg → ∀ y : Nat, f (sp.toNatClampNeg + i) = some y → va_Any E1 s H y)
    (hframes : 1 ≤ R.frames) (hlocals : (rest.map fun v => v.category).sum + (nativeFrameWords "java/lang/System" "arraycopy" 5 + 11) ≤ R.locals) (hdg : decode cc pc = .ok (.invokestatic index, 3))
    (kk : ∀ (H1 : Heap) (locs1 : List Loc), H1.size = H.size → HP D cl A (hset h a (.inl (c1, n1, .inr (.inr (.inr (.inr (va_cpy f g sp.toNatClampNeg dp.toNatClampNeg n.toNatClampNeg)))))) t) H1 → va_S A H0 H1 locs1 → W p l e R s m args below meth c H1 locs1 cells slots Q (F0 m (pc + 3) ls rest)) : W p l e R s m args below meth c H locs cells slots Q (F0 m pc ls (.int n :: .int dp :: .ref a :: .int sp :: .ref a0 :: rest)) := by
  have nn : ∀ z : Int32, ¬ z < 0 → z.toInt = (z.toNatClampNeg : Int) := by
    intro z hz
    have hz0 : (0 : Int) ≤ z.toInt := by
      have := Int32.not_lt.mp hz
      simpa using Int32.le_iff_toInt_le.mp this
    show z.toInt = ((z.toInt.toNat : Nat) : Int)
    omega
  intro T hT X
  have hc0 : H[a0]? = some (vp_cell c0 (n0, .inr (.inr (.inr (.inr f))))) := (hH a0 _ _ ha0).2
  have hc1 : H[a]? = some (vp_cell c1 (n1, .inr (.inr (.inr (.inr g))))) := (hH a _ _ ha1).2
  obtain ⟨-, k0, hk0, cm0, hkk0⟩ := (hK.2 t0 _ ht0).1 n0 (fun j => va_rf (f j))
  obtain ⟨-, k1, hk1, cm1, hkk1⟩ := (hK.2 t1 _ ht1).1 n1 (fun j => va_rf (g j))
  obtain ⟨vm', X', step⟩ := X.arraycopy hexec hown hlink hnat hstat hini (src := a0) (dst := a) (cs := vp_cell c0 (n0, .inr (.inr (.inr (.inr f))))) (cd := vp_cell c1 (n1, .inr (.inr (.inr (.inr g))))) (srcPos := sp) (destPos := dp) (n := n) (by rw [hT]; exact hc0) (by rw [hT]; exact hc1)
    (fun _ h => by cases h) (fun _ h => by cases h) (fun h => by cases h) (fun h => by cases h) hk0 hk1 hkk0 hkk1 rfl h1 h2 h3
    (by rw [nn sp h1, nn n h3]; show ¬ _ > ((arrV c0 n0 (fun j => va_rf (f j))).slots.size : Int); rw [arrV_size]; omega)
    (by rw [nn dp h2, nn n h3]; show ¬ _ > ((arrV c1 n1 (fun j => va_rf (g j))).slots.size : Int); rw [arrV_size]; omega)
    (fun vm₁ hal i hi => by
      have e : (vp_cell c0 (n0, .inr (.inr (.inr (.inr f))))).slots.getD (sp.toNatClampNeg + i) .null = va_rf (f (sp.toNatClampNeg + i)) := by
        show (arrV c0 n0 (fun j => va_rf (f j))).slots.getD _ _ = _
        rw [Array.getD_eq_getD_getElem?, arrV_read _ _ (by omega)]
        rfl
      rw [e]
      cases hy : f (sp.toNatClampNeg + i) with
      | none => exact ⟨rfl, trivial⟩
      | some y =>
        obtain ⟨cellV, g1, g2, ⟨kC, hkC⟩, hasg⟩ := hel i hi y hy
        obtain ⟨kA, comp, r1, r2, r3, -⟩ := (hK.2 t1 _ ht1).2
        cases hk1.symm.trans r1
        cases hkk1.symm.trans r2
        obtain ⟨kE, hkE, -⟩ := Vm.findClass_spec r3
        obtain ⟨kC', hkC', -⟩ := hal.2.2 _ _ hkC
        obtain ⟨kE', hkE', -⟩ := hal.2.2 _ _ hkE
        refine ⟨rfl, cellV, (show T.heap[y]? = some cellV by rw [hT]; exact g1), (fun q h => by rw [h] at g2; cases g2), ⟨kC', hkC'⟩, ?_, ?_⟩
        · exact ⟨kE', hkE'⟩
        · show vm₁.assignable _ _ = true
          rw [hal.assignable]
          exact hasg _ r3)
    (g := F0 m pc ls (.int n :: .int dp :: .ref a :: .int sp :: .ref a0 :: rest)) rfl (by rw [hml]) (rest := rest) rfl (by rw [hb]; exact hdg) hframes (by show 2 * 0 + _ + _ ≤ _; omega)
  have e1 : copied (vp_cell c0 (n0, .inr (.inr (.inr (.inr f))))) (vp_cell c1 (n1, .inr (.inr (.inr (.inr g))))) sp dp n = vp_cell c1 (n1, .inr (.inr (.inr (.inr (va_cpy f g sp.toNatClampNeg dp.toNatClampNeg n.toNatClampNeg))))) := by
    rw [vp_cell_q, vp_cell_q, vp_cell_q]
    exact va_copied (fun z => va_rf z) c0 c1 f g h4
  rw [e1] at X' step
  have hl : a < H.size := (Array.getElem?_eq_some_iff.mp hc1).1
  have hheap : ((T.setVm vm').setCell a (vp_cell c1 (n1, .inr (.inr (.inr (.inr (va_cpy f g sp.toNatClampNeg dp.toNatClampNeg n.toNatClampNeg))))))).heap = H.setIfInBounds a (vp_cell c1 (n1, .inr (.inr (.inr (.inr (va_cpy f g sp.toNatClampNeg dp.toNatClampNeg n.toNatClampNeg)))))) := by rw [← hT]; rfl
  have oq : ∀ q : Nat, q ≠ a → (H.setIfInBounds a (vp_cell c1 (n1, .inr (.inr (.inr (.inr (va_cpy f g sp.toNatClampNeg dp.toNatClampNeg n.toNatClampNeg)))))))[q]? = H[q]? := fun q hq => by simp [Array.getElem?_setIfInBounds, Ne.symm hq]
  have hAa := (hH a _ _ ha1).1
  obtain ⟨t2, a1, b1⟩ := kk _ _ (by simp) (hH.put ha1 (show (H.setIfInBounds a _)[a]? = some _ by simp [Array.getElem?_setIfInBounds, hl]) oq) ⟨by simp; exact hS.1, fun q g1 g2 => by
      rw [oq q (fun e => g2 (by rw [e]; exact hAa))]
      exact hS.2.1 q g1 g2, fun q hq => by
      rcases List.mem_append.mp hq with h | h
      · exact hS.2.2 q h
      · obtain ⟨z, -, hz⟩ := List.mem_map.mp h
        rw [← hz]
        exact hAa⟩ _ hheap X'
  exact ⟨t2, step t2 a1, b1⟩
end ROWS11
theorem ne_new {h : Hp} {a b : Nat} {x : va_E} {t : Nat} (ha : h a = some (x, t)) (hb : h b = none) : a ≠ b := fun q => by subst q; rw [ha] at hb; cases hb
theorem hset_hset (h : Hp) (a : Nat) (x y : va_E) (t u : Nat) : hset (hset h a x t) a y u = hset h a y u := by
  funext b
  by_cases c : b = a
  · subst c; rw [hset_self, hset_self]
  · rw [hset_ne _ _ _ c, hset_ne _ _ _ c, hset_ne _ _ _ c]
theorem HP.fr {D : va_G} {cl : List vw_C} {A : Nat → Prop} {h : Hp} {H : Heap} (hH : HP D cl A h H) : ∃ q, q = H.size ∧ h q = none := ⟨_, rfl, hH.fresh (Nat.le_refl _)⟩
theorem GX.ao {s0 s : State} {wd av : Nat → Nat} {ed mi : Nat} {D : va_G} {cl : List vw_C} {h : Hp} (hG : GX s0 wd av ed mi) (hPB : PB s0 D cl h s) {A : Array Value} : (Cond.arrayOver (.object "java/lang/Object")).before A s = true := va_AO.use (va_AO.moved hPB.1.alike (va_AO.of (A := hG.2.1.choose) (hG.2.1.choose_spec _ q632)))
theorem recv_oa {D : va_G} {cl : List vw_C} {A : Nat → Prop} {h : Hp} {H : Heap} {s : State} {K : Nat → ClassId} (hK : va_K D cl (TYS K) s) (hH : HP D cl A h H) {a n t : Nat} {f : Nat → Option Nat} (he : h a = some (.inl (K 4, n, .inr (.inr (.inr (.inr f)))), t)) : ∃ cell : Cell, H[a]? = some cell ∧ cell.vm.isStatics = false ∧ s.vm.findClass "[Ljava/lang/Object;" = some cell.cls := ⟨_, (hH a _ _ he).2, rfl, va_nmO (hK.2 4 _ rfl).2 rfl⟩
section ROWS12
variable {p : Program} {l : Launch} {e : Env} {R : Room} {s s0 : State} {m : MethodId} {args : Array Value} {below : List Frame} {meth : Method} {c : Code} {H H0 : Heap} {locs : List Loc} {cells slots : Nat} {Q : State → Prop}
variable {cc : ByteArray} {pc : Nat} {ls : Array Slot} {rest st0 : List Value} {a : Nat}
theorem hp_oinit (hx : p.tables.exec = Jvm.exec) (hb : c.code = cc) {own : String} (hown : s.vm.findClass own = some m.cls) (hts : ∀ w ∈ lw_all, w.before args s = true) {idx : Nat} (hlink : Cond.methodLink own idx Lib.objectInit ∈ lw_all) (hinst : Cond.instanceMethod Lib.objectInit ∈ lw_all) (hcode : Cond.code Lib.objectInit object_method_1_code 1 none ∈ lw_all) (hsize : ls.size = c.maxLocals) (hf : 1 ≤ R.frames) (hlo : (rest.map fun v => v.category).sum + 12 ≤ R.locals) (hd : decode cc pc = .ok (.invokespecial idx, 3))
    (kk : W p l e R s m args below meth c H locs cells slots Q (F0 m (pc + 3) ls rest)) : W p l e R s m args below meth c H locs cells slots Q (F0 m pc ls (.ref a :: rest)) :=
  W.objInit (g := F0 m pc ls (.ref a :: rest)) hx hb hown (hts _ hlink) (hts _ hinst) (hts _ hcode) rfl hsize rfl hd hf (by show 2 * 0 + _ + _ ≤ _; omega) kk
end ROWS12
theorem OBJ.new {h : Hp} {a b : Nat} {e : va_E} {t : Nat} (hO : OBJ h a) (hb : h b = none) : OBJ (hset h b e t) a := by
  obtain ⟨ci, fs, u, he⟩ := hO
  exact ⟨ci, fs, u, by rw [hset_ne _ _ _ (ne_new he hb)]; exact he⟩
theorem gcap_ge {j : Nat} (h : 0 < j) : 10 ≤ gcap j := by
  induction j with
  | zero => omega
  | succ j ih =>
    cases j with
    | zero => decide
    | succ j => have := ih (by omega); unfold gcap; omega
theorem gcap_s {j : Nat} (h : 0 < j) : gcap (j + 1) = gcap j + gcap j / 2 := by
  obtain ⟨k, rfl⟩ : ∃ k, j = k + 1 := ⟨j - 1, by omega⟩
  rfl
theorem nlt_big {m : Nat} (h : m ≤ 200000) : ¬ nI m > 2147483639 := by
  intro q
  have q1 := Int32.lt_iff_toInt_lt.mp q
  rw [nI_toInt (by omega)] at q1
  have e : (2147483639 : Int32).toInt = 2147483639 := by decide
  omega
