/-! THE BASE: a functional heap over the kit's rows. Hp: address to (cell, tag); HP: the machine's heap holds it. -/
set_option maxRecDepth 100000
abbrev Hp : Type := Nat → Option (va_E × Nat)
def hset (h : Hp) (a : Nat) (e : va_E) (t : Nat) : Hp := fun b => if b = a then some (e, t) else h b
theorem hset_self (h : Hp) (a : Nat) (e : va_E) (t : Nat) : hset h a e t a = some (e, t) := by simp [hset]
theorem hset_ne (h : Hp) {a b : Nat} (e : va_E) (t : Nat) (n : b ≠ a) : hset h a e t b = h b := by simp [hset, n]
/-- the heap H holds all cells of h, and they lie in A -/
def HP (D : va_G) (cl : List vw_C) (A : Nat → Prop) (h : Hp) (H : Heap) : Prop := ∀ (a : Nat) (e : va_E) (t : Nat), h a = some (e, t) → A a ∧ va_at D cl (a, e) H
theorem HP.lt {D : va_G} {cl : List vw_C} {A : Nat → Prop} {h : Hp} {H : Heap} (hH : HP D cl A h H) {a : Nat} {e : va_E} {t : Nat} (he : h a = some (e, t)) : a < H.size := (hH a e t he).2.lt
theorem HP.one {D : va_G} {cl : List vw_C} {A : Nat → Prop} {h : Hp} {H : Heap} (hH : HP D cl A h H) {a : Nat} {e : va_E} {t : Nat} (he : h a = some (e, t)) : va_P D cl [(a, e)] H := by
  intro k q hk
  match k, hk with
  | 0, hk =>
    have hk : some (a, e) = some q := hk
    cases hk
    exact (hH a e t he).2
theorem HP.fresh {D : va_G} {cl : List vw_C} {A : Nat → Prop} {h : Hp} {H : Heap} (hH : HP D cl A h H) {a : Nat} (ha : H.size ≤ a) : h a = none := by
  cases e : h a with
  | none => rfl
  | some q =>
    obtain ⟨e1, t1⟩ := q
    have := hH.lt e
    omega
theorem HP.put {D : va_G} {cl : List vw_C} {A : Nat → Prop} {h : Hp} {H H1 : Heap} {a t : Nat} {e0 e1 : va_E} (hH : HP D cl A h H) (he : h a = some (e0, t)) (h1 : va_at D cl (a, e1) H1) (oq : ∀ q : Nat, q ≠ a → H1[q]? = H[q]?) : HP D cl A (hset h a e1 t) H1 := by
  intro b e t' hb
  by_cases hba : b = a
  · subst hba
    rw [hset_self] at hb
    cases hb
    exact ⟨(hH b _ _ he).1, h1⟩
  · rw [hset_ne _ _ _ hba] at hb
    exact ⟨(hH b _ _ hb).1, ((hH b _ _ hb).2).kept (oq b hba)⟩
theorem HP.new {D : va_G} {cl : List vw_C} {A : Nat → Prop} {h : Hp} {H H1 : Heap} {e1 : va_E} (hH : HP D cl A h H) (hA : A H.size) (h1 : va_at D cl (H.size, e1) H1) (o1 : ∀ q : Nat, q < H.size → H1[q]? = H[q]?) (t : Nat) : HP D cl A (hset h H.size e1 t) H1 := by
  intro b e t' hb
  by_cases hba : b = H.size
  · subst hba
    rw [hset_self] at hb
    cases hb
    exact ⟨hA, h1⟩
  · rw [hset_ne _ _ _ hba] at hb
    exact ⟨(hH b _ _ hb).1, ((hH b _ _ hb).2).kept (o1 b (hH.lt hb))⟩
theorem HP.to {D : va_G} {cl : List vw_C} {A : Nat → Prop} {h h' : Hp} {H : Heap} (hH : HP D cl A h H) (e : h = h') : HP D cl A h' H := e ▸ hH
/-- the cells since the claim's own start -/
def zA (s0 : State) : Nat → Prop := fun q => s0.heap.size ≤ q
/-- what every contract takes as given: the tables are the start's, warmed; the start's cells are as they were; the heap holds h -/
def PB (s0 : State) (D : va_G) (cl : List vw_C) (h : Hp) (U : State) : Prop := s0.WarmedH U.vm ∧ s0.heap.size ≤ U.heap.size ∧ (∀ q : Nat, q < s0.heap.size → U.heap[q]? = s0.heap[q]?) ∧ HP D cl (zA s0) h U.heap
/-- a contract's end -/
def QR (s0 : State) (D : va_G) (cl : List vw_C) (post : Option Value → Hp → Prop) : Array Value → State → Outcome → State → Prop := fun _ st oc t => (∃ (v : Option Value) (h : Hp), oc = .returned v ∧ post v h ∧ HP D cl (zA s0) h t.heap) ∧ va_F (zA s0) st t
theorem PB.blind {s0 : State} {D : va_G} {cl : List vw_C} {h : Hp} {av : List Value} : FrameBlind (va_Pc av (PB s0 D cl h)) := fun _ _ _ _ q => ⟨q.1, q.2.1, q.2.2.1, q.2.2.2.1, q.2.2.2.2⟩
section BASE
variable {p : Program} {l : Launch} {e : Env} {R : Room} {s s0 : State} {m : MethodId} {args : Array Value} {below : List Frame} {meth : Method} {c : Code} {H H0 : Heap} {locs : List Loc} {cells slots : Nat} {Q : State → Prop}
variable {cc : ByteArray} {pc : Nat} {ls : Array Slot} {rest st0 : List Value} {D : va_G} {cl : List vw_C} {A : Nat → Prop} {a t : Nat} {tys : List (ClassId × FieldType)} {h : Hp}
/-- what a call starts from -/
theorem PB.at {U : State} (hPB : PB s0 D cl h s) {h1 : Hp} (hH : HP D cl (zA s0) h1 H) (hS : va_S (zA s0) s.heap H locs) (hU : U.heap = H) (hW : s.WarmedH U.vm) : PB s0 D cl h1 U := by
  refine ⟨State.WarmedH.trans hPB.1 hW, ?_, ?_, ?_⟩
  · rw [hU]
    exact Nat.le_trans hPB.2.1 hS.1
  · intro q hq
    rw [hU, hS.2.1 q (Nat.lt_of_lt_of_le hq hPB.2.1) (fun z => absurd (show s0.heap.size ≤ q from z) (by omega))]
    exact hPB.2.2.1 q hq
  · rw [hU]
    exact hH
theorem hp_get (hexec : p.tables.exec = Jvm.exec) (hb : c.code = cc) {own ref C : String} {T : u_T} {N ci index : Nat} {Ts : List Cond} (hts : ∀ w ∈ Ts, w.before args s = true) (hin : ∀ w ∈ u_ws C T N, w ∈ Ts) (hown : s.vm.findClass own = some m.cls) (hK : va_K D cl tys s) (hH : HP D cl A h H) {fs : List Value} (he : h a = some (.inr (ci, fs), t)) (hc : cl[ci]? = some (C, T, N)) (k : Nat) (hk : k < N) (hlink : (Cond.fieldLink own index ref (T k).2.1 (T k).2.2.1).before args s = true) (hsame : ∀ x, s.fieldFound? (T k).1 (T k).2.1 (T k).2.2.1 = some x → s.fieldFound? ref (T k).2.1 (T k).2.2.1 = some x) {v : Value} (hv : fs[k]? = some v) (hdg : decode cc pc = .ok (.getfield index, 3))
    (kk : W p l e R s m args below meth c H locs cells slots Q (F0 m (pc + 3) ls (v :: rest))) : W p l e R s m args below meth c H locs cells slots Q (F0 m pc ls (.ref a :: rest)) :=
  va_get hexec hb hts hin hown hK (hH.one he) 0 rfl hc k hk hlink hsame hv hdg kk
theorem hp_getN (hexec : p.tables.exec = Jvm.exec) (hb : c.code = cc) {own ref C host : String} {T : u_T} {N ci index : Nat} {Ts : List Cond} (hts : ∀ w ∈ Ts, w.before args s = true) (hin : ∀ w ∈ u_ws C T N, w ∈ Ts) (hown : s.vm.findClass own = some m.cls) (hK : va_K D cl tys s) (hH : HP D cl A h H) {fs : List Value} (he : h a = some (.inr (ci, fs), t)) (hc : cl[ci]? = some (C, T, N)) (k : Nat) (hk : k < N) (hlink : (Cond.fieldLinkNest own index ref (T k).2.1 (T k).2.2.1 host).before args s = true) (hsame : ∀ x, s.fieldFound? (T k).1 (T k).2.1 (T k).2.2.1 = some x → s.fieldFound? ref (T k).2.1 (T k).2.2.1 = some x) {v : Value} (hv : fs[k]? = some v) (hdg : decode cc pc = .ok (.getfield index, 3))
    (kk : W p l e R s m args below meth c H locs cells slots Q (F0 m (pc + 3) ls (v :: rest))) : W p l e R s m args below meth c H locs cells slots Q (F0 m pc ls (.ref a :: rest)) :=
  va_getN hexec hb hts hin hown hK (hH.one he) 0 rfl hc k hk hlink hsame hv hdg kk
/-- putfield: the size stays -/
theorem hp_put (hexec : p.tables.exec = Jvm.exec) (hb : c.code = cc) {own ref C : String} {T : u_T} {N ci index : Nat} {Ts : List Cond} (hts : ∀ w ∈ Ts, w.before args s = true) (hin : ∀ w ∈ u_ws C T N, w ∈ Ts) (ty0 : Nat → FieldType) (hty : ∀ k, k < N → parseFieldDescriptor (T k).2.2.1 = some (ty0 k)) (hnm : ∀ a, a < N → ∀ b, b < N → a ≠ b → (T a).2.1 ≠ (T b).2.1) (hown : s.vm.findClass own = some m.cls) (hK : va_K D cl tys s) (hH : HP D cl A h H) (hS0 : va_S A H0 H locs) {fs : List Value} (he : h a = some (.inr (ci, fs), t)) (hc : cl[ci]? = some (C, T, N)) (k : Nat) (hk : k < N) (hlink : (Cond.fieldLink own index ref (T k).2.1 (T k).2.2.1).before args s = true) (hsame : ∀ x, s.fieldFound? (T k).1 (T k).2.1 (T k).2.2.1 = some x → s.fieldFound? ref (T k).2.1 (T k).2.2.1 = some x) (hfin : (T k).2.2.2 = false) {ty : FieldType} {v : Value} (hd : parseFieldDescriptor (T k).2.2.1 = some ty) (hn : narrow ty v = v) (hfit : fits ty v = true) (hl : k < fs.length)
    (hdg : decode cc pc = .ok (.putfield index, 3)) (kk : ∀ (H1 : Heap) (locs1 : List Loc), H1.size = H.size → HP D cl A (hset h a (.inr (ci, fs.set k v)) t) H1 → va_S A H0 H1 locs1 → W p l e R s m args below meth c H1 locs1 cells slots Q (F0 m (pc + 3) ls rest)) : W p l e R s m args below meth c H locs cells slots Q (F0 m pc ls (v :: .ref a :: rest)) := by
  have hap := va_apart (own := own) hts hin ty0 hty hnm hK hc
  obtain ⟨r, h1, cell, q1, q2, q3, q4⟩ := (hH a _ _ he).2
  have hr : r = (C, T, N) := Option.some.inj (h1.symm.trans hc)
  subst hr
  obtain ⟨hS, hfc, kC, hkC, hkind⟩ := hK.1 ci _ hc
  obtain ⟨cf, kf, fi, f, hi, hsl⟩ := hS k hk
  have hlay := hts _ (hin _ (u_in_lay hk))
  unfold u_lay at hlay
  rw [if_neg (by rw [hfin]; decide)] at hlay
  have hst := (u_facts hfc hkC (u_lays hts hin hk) hi).1
  have h6 := u_store hfc hkC hkind hlay hi hd hn hfit
  refine W.putK hexec hb (f := f) ⟨hown, hlink, ⟨_, _, _, hsame _ hi⟩, hst⟩ (by rw [q2]; exact h6) q1 q3 (by rw [hsl]; exact k2_hasslot (q4 k hk)) rfl rfl hdg fun H' e1 e2 e3 => ?_
  rw [hsl] at e1 ⊢
  exact kk H' _ e2 (hH.put he ⟨_, hc, t_OB.to (V := updV (vp_V fs) k v) ⟨_, e1, q2, q3, t_set q4 hap hk v⟩ (fun j _ => vp_updV_set hl v j)⟩ e3) (hS0.put e2 e3 (hH a _ _ he).1)
/-- putfield of a final field in its own constructor -/
theorem hp_putF (hexec : p.tables.exec = Jvm.exec) (hb : c.code = cc) {own ref C : String} {T : u_T} {N ci index : Nat} {Ts : List Cond} (hts : ∀ w ∈ Ts, w.before args s = true) (hin : ∀ w ∈ u_ws C T N, w ∈ Ts) (ty0 : Nat → FieldType) (hty : ∀ k, k < N → parseFieldDescriptor (T k).2.2.1 = some (ty0 k)) (hnm : ∀ a, a < N → ∀ b, b < N → a ≠ b → (T a).2.1 ≠ (T b).2.1) (hown : s.vm.findClass own = some m.cls) (hK : va_K D cl tys s) (hH : HP D cl A h H) (hS0 : va_S A H0 H locs) {fs : List Value} (he : h a = some (.inr (ci, fs), t)) (hc : cl[ci]? = some (C, T, N)) (k : Nat) (hk : k < N) (hlink : (Cond.fieldLink own index ref (T k).2.1 (T k).2.2.1).before args s = true) (hsame : ∀ x, s.fieldFound? (T k).1 (T k).2.1 (T k).2.2.1 = some x → s.fieldFound? ref (T k).2.1 (T k).2.2.1 = some x) (hfin : (T k).2.2.2 = true) (hin2 : meth.name = "<init>") (hdecl : (T k).1 = own) {ty : FieldType} {v : Value} (hd : parseFieldDescriptor (T k).2.2.1 = some ty) (hn : narrow ty v = v) (hfit : fits ty v = true) (hl : k < fs.length)
    (hdg : decode cc pc = .ok (.putfield index, 3)) (kk : ∀ (H1 : Heap) (locs1 : List Loc), H1.size = H.size → HP D cl A (hset h a (.inr (ci, fs.set k v)) t) H1 → va_S A H0 H1 locs1 → W p l e R s m args below meth c H1 locs1 cells slots Q (F0 m (pc + 3) ls rest)) : W p l e R s m args below meth c H locs cells slots Q (F0 m pc ls (v :: .ref a :: rest)) := by
  have hap := va_apart (own := own) hts hin ty0 hty hnm hK hc
  obtain ⟨r, h1, cell, q1, q2, q3, q4⟩ := (hH a _ _ he).2
  have hr : r = (C, T, N) := Option.some.inj (h1.symm.trans hc)
  subst hr
  obtain ⟨hS, hfc, kC, hkC, hkind⟩ := hK.1 ci _ hc
  obtain ⟨cf, kf, fi, f, hi, hsl⟩ := hS k hk
  have hlay := hts _ (hin _ (u_in_lay hk))
  unfold u_lay at hlay
  rw [if_pos hfin] at hlay
  have hst := (u_facts hfc hkC (u_lays hts hin hk) hi).1
  have hcf : m.cls = cf := by
    obtain ⟨_, _, c', _, _, _, -, -, hf', -, -, -, hown2, -⟩ := Cond.laysFinal_spec hlay
    have e1 : c' = cf := by have := hi.symm.trans hf'; simp at this; exact this.1.symm
    rw [hdecl] at hown2
    rw [← e1]; exact Option.some.inj (hown.symm.trans hown2)
  have h6 := u_fits hfc hkC hkind (Or.inr hlay) hi hd hn hfit
  refine W.putFinK hexec hb hown hlink (hsame _ hi) hst hcf hin2 (by rw [q2]; exact h6) q1 q3 (by rw [hsl]; exact k2_hasslot (q4 k hk)) rfl rfl hdg fun H' e1 e2 e3 => ?_
  rw [hsl] at e1 ⊢
  exact kk H' _ e2 (hH.put he ⟨_, hc, t_OB.to (V := updV (vp_V fs) k v) ⟨_, e1, q2, q3, t_set q4 hap hk v⟩ (fun j _ => vp_updV_set hl v j)⟩ e3) (hS0.put e2 e3 (hH a _ _ he).1)
theorem hp_iald (hexec : p.tables.exec = Jvm.exec) (hb : c.code = cc) (hK : va_K D cl tys s) (hH : HP D cl A h H) (t0 : Nat) {cA : ClassId} {n : Nat} {f : Nat → Int32} (he : h a = some (.inl (cA, n, .inl f), t)) (ht : tys[t0]? = some (cA, .int)) {i : Int32} (hin : vp_in i n) (hdg : decode cc pc = .ok (.iaload, 1))
    (kk : W p l e R s m args below meth c H locs cells slots Q (F0 m (pc + 1) ls (.int (f i.toNatClampNeg) :: rest))) : W p l e R s m args below meth c H locs cells slots Q (F0 m pc ls (.int i :: .ref a :: rest)) := va_iald hexec hb hK (hH.one he) 0 t0 rfl ht hin hdg kk
theorem hp_bald (hexec : p.tables.exec = Jvm.exec) (hb : c.code = cc) (hK : va_K D cl tys s) (hH : HP D cl A h H) (t0 : Nat) {cA : ClassId} {n : Nat} {f : Nat → Int32} (he : h a = some (.inl (cA, n, .inl f), t)) (ht : tys[t0]? = some (cA, .byte)) {i : Int32} (hin : vp_in i n) (hdg : decode cc pc = .ok (.baload, 1))
    (kk : W p l e R s m args below meth c H locs cells slots Q (F0 m (pc + 1) ls (.int (f i.toNatClampNeg) :: rest))) : W p l e R s m args below meth c H locs cells slots Q (F0 m pc ls (.int i :: .ref a :: rest)) := va_bald hexec hb hK (hH.one he) 0 t0 rfl ht hin hdg kk
theorem hp_zald (hexec : p.tables.exec = Jvm.exec) (hb : c.code = cc) (hK : va_K D cl tys s) (hH : HP D cl A h H) (t0 : Nat) {cA : ClassId} {n : Nat} {f : Nat → Int32} (he : h a = some (.inl (cA, n, .inl f), t)) (ht : tys[t0]? = some (cA, .boolean)) {i : Int32} (hin : vp_in i n) (hdg : decode cc pc = .ok (.baload, 1))
    (kk : W p l e R s m args below meth c H locs cells slots Q (F0 m (pc + 1) ls (.int (f i.toNatClampNeg) :: rest))) : W p l e R s m args below meth c H locs cells slots Q (F0 m pc ls (.int i :: .ref a :: rest)) := va_zald hexec hb hK (hH.one he) 0 t0 rfl ht hin hdg kk
theorem hp_lald (hexec : p.tables.exec = Jvm.exec) (hb : c.code = cc) (hK : va_K D cl tys s) (hH : HP D cl A h H) (t0 : Nat) {cA : ClassId} {n : Nat} {f : Nat → Int64} (he : h a = some (.inl (cA, n, .inr (.inl f)), t)) (ht : tys[t0]? = some (cA, .long)) {i : Int32} (hin : vp_in i n) (hdg : decode cc pc = .ok (.laload, 1))
    (kk : W p l e R s m args below meth c H locs cells slots Q (F0 m (pc + 1) ls (.long (f i.toNatClampNeg) :: rest))) : W p l e R s m args below meth c H locs cells slots Q (F0 m pc ls (.int i :: .ref a :: rest)) := va_lald hexec hb hK (hH.one he) 0 t0 rfl ht hin hdg kk
/-- a reference out of an array of references of any kind -/
theorem hp_aald (hexec : p.tables.exec = Jvm.exec) (hb : c.code = cc) (hK : va_K D cl tys s) (hH : HP D cl A h H) (t0 : Nat) {cA : ClassId} {n : Nat} {ty : FieldType} {f : Nat → Option Nat} (he : h a = some (.inl (cA, n, .inr (.inr (.inr (.inr f)))), t)) (ht : tys[t0]? = some (cA, ty)) (hty : ty.isReference = true) {i : Int32} (hin : vp_in i n) (hdg : decode cc pc = .ok (.aaload, 1))
    (kk : W p l e R s m args below meth c H locs cells slots Q (F0 m (pc + 1) ls (va_rf (f i.toNatClampNeg) :: rest))) : W p l e R s m args below meth c H locs cells slots Q (F0 m pc ls (.int i :: .ref a :: rest)) := by
  have hlt : i.toNatClampNeg < n := Nat.not_le.mp fun q => hin (Or.inr q)
  exact W.aald (v := va_rf (f i.toNatClampNeg)) (ty := ty) hexec hb (hH a _ _ he).2 ((hK.2 t0 _ ht).1 n (fun j => va_rf (f j))) hty (fun q => by cases q) (by show ¬ (i < 0 ∨ (arrV _ _ _).slots.size ≤ _); rw [arrV_size]; exact hin) (by show (arrV _ _ _).slots[_]? = _; rw [arrV_read _ _ hlt]) rfl rfl hdg kk
theorem hp_alen (hexec : p.tables.exec = Jvm.exec) (hb : c.code = cc) (hK : va_K D cl tys s) (hH : HP D cl A h H) (t0 : Nat) {cA : ClassId} {x : vp_A} (he : h a = some (.inl (cA, x), t)) {ty : FieldType} (ht : tys[t0]? = some (cA, ty)) {v : Int32} (hv : Int32.ofNat x.1 = v) (hdg : decode cc pc = .ok (.arraylength, 1))
    (kk : W p l e R s m args below meth c H locs cells slots Q (F0 m (pc + 1) ls (.int v :: rest))) : W p l e R s m args below meth c H locs cells slots Q (F0 m pc ls (.ref a :: rest)) := va_alen hexec hb hK (hH.one he) 0 t0 rfl ht hv hdg kk
theorem hp_iast (hexec : p.tables.exec = Jvm.exec) (hb : c.code = cc) (hK : va_K D cl tys s) (hH : HP D cl A h H) (hS : va_S A H0 H locs) (t0 : Nat) {cA : ClassId} {n : Nat} {f : Nat → Int32} (he : h a = some (.inl (cA, n, .inl f), t)) (ht : tys[t0]? = some (cA, .int)) {i x : Int32} (hin : vp_in i n) (hdg : decode cc pc = .ok (.iastore, 1))
    (kk : ∀ (H1 : Heap) (locs1 : List Loc), H1.size = H.size → HP D cl A (hset h a (.inl (cA, n, .inl (upd f i.toNatClampNeg x))) t) H1 → va_S A H0 H1 locs1 → W p l e R s m args below meth c H1 locs1 cells slots Q (F0 m (pc + 1) ls rest)) : W p l e R s m args below meth c H locs cells slots Q (F0 m pc ls (.int x :: .int i :: .ref a :: rest)) := by
  refine W.iast hexec hb (hH a _ _ he).2 ((hK.2 t0 _ ht).1 n (fun j => .int (f j))) (fun q => by cases q) (by show ¬ (i < 0 ∨ (arrV _ _ _).slots.size ≤ _); rw [arrV_size]; exact hin) rfl rfl hdg fun H1 e z oq => ?_
  refine kk H1 _ z (hH.put he ?_ oq) (hS.put z oq (hH a _ _ he).1)
  show H1[a]? = some (vp_cell _ _)
  rw [e]
  rw [vp_cell_i, vp_cell_i, arrV_store]
  congr 2
  funext q
  by_cases hq : q = i.toNatClampNeg
  · subst hq
    simp [updV, upd]
  · simp [updV, upd, hq]
theorem hp_bast (hexec : p.tables.exec = Jvm.exec) (hb : c.code = cc) (hK : va_K D cl tys s) (hH : HP D cl A h H) (hS : va_S A H0 H locs) (t0 : Nat) {cA : ClassId} {n : Nat} {f : Nat → Int32} (he : h a = some (.inl (cA, n, .inl f), t)) (ht : tys[t0]? = some (cA, .byte)) {i x : Int32} (hin : vp_in i n) (hdg : decode cc pc = .ok (.bastore, 1))
    (kk : ∀ (H1 : Heap) (locs1 : List Loc), H1.size = H.size → HP D cl A (hset h a (.inl (cA, n, .inl (upd f i.toNatClampNeg (vp_nar .byte x)))) t) H1 → va_S A H0 H1 locs1 → W p l e R s m args below meth c H1 locs1 cells slots Q (F0 m (pc + 1) ls rest)) : W p l e R s m args below meth c H locs cells slots Q (F0 m pc ls (.int x :: .int i :: .ref a :: rest)) := by
  refine W.bast hexec hb (hH a _ _ he).2 ((hK.2 t0 _ ht).1 n (fun j => .int (f j))) (fun q => by cases q) (by show ¬ (i < 0 ∨ (arrV _ _ _).slots.size ≤ _); rw [arrV_size]; exact hin) rfl rfl hdg fun H1 e z oq => ?_
  refine kk H1 _ z (hH.put he ?_ oq) (hS.put z oq (hH a _ _ he).1)
  show H1[a]? = some (vp_cell _ _)
  rw [e]
  rw [vp_cell_i, vp_cell_i, arrV_store]
  congr 2
  funext q
  by_cases hq : q = i.toNatClampNeg
  · subst hq
    simp [updV, upd, vp_nar]
    try rfl
  · simp [updV, upd, hq]
theorem hp_zast (hexec : p.tables.exec = Jvm.exec) (hb : c.code = cc) (hK : va_K D cl tys s) (hH : HP D cl A h H) (hS : va_S A H0 H locs) (t0 : Nat) {cA : ClassId} {n : Nat} {f : Nat → Int32} (he : h a = some (.inl (cA, n, .inl f), t)) (ht : tys[t0]? = some (cA, .boolean)) {i x : Int32} (hin : vp_in i n) (hdg : decode cc pc = .ok (.bastore, 1))
    (kk : ∀ (H1 : Heap) (locs1 : List Loc), H1.size = H.size → HP D cl A (hset h a (.inl (cA, n, .inl (upd f i.toNatClampNeg (vp_nar .boolean x)))) t) H1 → va_S A H0 H1 locs1 → W p l e R s m args below meth c H1 locs1 cells slots Q (F0 m (pc + 1) ls rest)) : W p l e R s m args below meth c H locs cells slots Q (F0 m pc ls (.int x :: .int i :: .ref a :: rest)) := by
  refine W.zast hexec hb (hH a _ _ he).2 ((hK.2 t0 _ ht).1 n (fun j => .int (f j))) (fun q => by cases q) (by show ¬ (i < 0 ∨ (arrV _ _ _).slots.size ≤ _); rw [arrV_size]; exact hin) rfl rfl hdg fun H1 e z oq => ?_
  refine kk H1 _ z (hH.put he ?_ oq) (hS.put z oq (hH a _ _ he).1)
  show H1[a]? = some (vp_cell _ _)
  rw [e]
  rw [vp_cell_i, vp_cell_i, arrV_store]
  congr 2
  funext q
  by_cases hq : q = i.toNatClampNeg
  · subst hq
    simp [updV, upd, vp_nar]
    try rfl
  · simp [updV, upd, hq]
theorem hp_last (hexec : p.tables.exec = Jvm.exec) (hb : c.code = cc) (hK : va_K D cl tys s) (hH : HP D cl A h H) (hS : va_S A H0 H locs) (t0 : Nat) {cA : ClassId} {n : Nat} {f : Nat → Int64} (he : h a = some (.inl (cA, n, .inr (.inl f)), t)) (ht : tys[t0]? = some (cA, .long)) {i : Int32} {x : Int64} (hin : vp_in i n) (hdg : decode cc pc = .ok (.lastore, 1))
    (kk : ∀ (H1 : Heap) (locs1 : List Loc), H1.size = H.size → HP D cl A (hset h a (.inl (cA, n, .inr (.inl (vp_updL f i.toNatClampNeg x)))) t) H1 → va_S A H0 H1 locs1 → W p l e R s m args below meth c H1 locs1 cells slots Q (F0 m (pc + 1) ls rest)) : W p l e R s m args below meth c H locs cells slots Q (F0 m pc ls (.long x :: .int i :: .ref a :: rest)) := by
  refine W.last hexec hb (hH a _ _ he).2 ((hK.2 t0 _ ht).1 n (fun j => .long (f j))) (fun q => by cases q) (by show ¬ (i < 0 ∨ (arrV _ _ _).slots.size ≤ _); rw [arrV_size]; exact hin) rfl rfl hdg fun H1 e z oq => ?_
  refine kk H1 _ z (hH.put he ?_ oq) (hS.put z oq (hH a _ _ he).1)
  show H1[a]? = some (vp_cell _ _)
  rw [e]
  rw [vp_cell_l, vp_cell_l, arrV_store]
  congr 2
  funext q
  by_cases hq : q = i.toNatClampNeg
  · subst hq
    simp [updV, vp_updL]
  · simp [updV, vp_updL, hq]
/-- an array of a small type is made: its class is the one that the tables have -/
theorem hp_newa (hexec : p.tables.exec = Jvm.exec) (hb : c.code = cc) {atype : ArrayType} (harr : (Cond.arrayClass (newarray.typeOf atype)).before args s = true) {ty : FieldType} (hty : newarray.typeOf atype = ty) (hK : va_K D cl tys s) (hH : HP D cl A h H) (hS : va_S A H0 H locs) (hA : ∀ q, H0.size ≤ q → A q) (t0 : Nat) {cA : ClassId} (ht : tys[t0]? = some (cA, ty)) (hRA : va_RA s cA ty → s.vm.findClass ("[" ++ ty.toString) = some cA)
    {n : Int32} {N' : Nat} {a0 : vp_A} (ha : ∀ cA : ClassId, vp_cell cA a0 = arrV cA N' (fun _ => defaultValue ty)) (hn : ¬ n < 0) (hN : n.toNatClampNeg = N') (hbytes : N' * componentBytes ty ≤ 536870912) (hcells : cells + 1 ≤ R.cells) (hslots : slots + N' ≤ R.slots) (tg : Nat) (hdg : decode cc pc = .ok (.newarray atype, 2))
    (kk : ∀ (H1 : Heap), H1.size = H.size + 1 → HP D cl A (hset h H.size (.inl (cA, a0)) tg) H1 → va_S A H0 H1 locs →
      W p l e R s m args below meth c H1 locs (cells + 1) (slots + N') Q (F0 m (pc + 2) ls (.ref H.size :: rest))) : W p l e R s m args below meth c H locs cells slots Q (F0 m pc ls (.int n :: rest)) := by
  subst hty
  refine va_newaK hexec hb harr rfl hdg rfl hn hN hbytes hcells hslots rfl fun H1 cA' e1 z1 o1 hAr hNm => ?_
  have hcA : cA' = cA := Option.some.inj (hNm.symm.trans (hRA (hK.2 t0 _ ht).2))
  subst hcA
  refine kk H1 z1 (hH.new (hA _ hS.1) ?_ o1 tg) ⟨Nat.le_trans hS.1 (by omega), fun x h1 h2 => (o1 x (Nat.lt_of_lt_of_le h1 hS.1)).trans (hS.2.1 x h1 h2), hS.2.2⟩
  show H1[H.size]? = some (vp_cell _ _)
  rw [ha]
  exact e1
/-- an object is made -/
theorem hp_new {c0 : Code} (hexec : p.tables.exec = Jvm.exec) (hb : c0.code = cc) {own C : String} {T : u_T} {N ci index : Nat} {Ts : List Cond} (hts : ∀ w ∈ Ts, w.before args s = true) (hin : ∀ w ∈ u_ws C T N, w ∈ Ts) (ty : Nat → FieldType) (hty : ∀ k, k < N → parseFieldDescriptor (T k).2.2.1 = some (ty k)) (hown : s.vm.findClass own = some m.cls) (hcl : (Cond.classLink own index C).before args s = true) (hinst : (Cond.instantiable C N).before args s = true) (hini : (Cond.initialized C).before args s = true)
    (hK : va_K D cl tys s) (hH : HP D cl A h H) (hS : va_S A H0 H locs) (hA : ∀ q, H0.size ≤ q → A q) (hc : cl[ci]? = some (C, T, N)) {fs : List Value} (hfs : ∀ j, j < N → defaultValue (ty j) = vp_V fs j) (hcells : cells + 1 ≤ R.cells) (hslots : slots + N ≤ R.slots) (tg : Nat) (hdg : decode cc pc = .ok (.new index, 3))
    (kk : ∀ (H1 : Heap), H1.size = H.size + 1 → HP D cl A (hset h H.size (.inr (ci, fs)) tg) H1 → va_S A H0 H1 locs →
      W p l e R s m args below meth c0 H1 locs (cells + 1) (slots + N) Q (F0 m (pc + 3) ls (.ref H.size :: rest))) : W p l e R s m args below meth c0 H locs cells slots Q (F0 m pc ls rest) := by
  have hKn := hK.1 ci _ hc
  refine W.newcK hexec hb hown hcl hinst hini rfl hdg hcells hslots hKn.2.1 rfl fun H1 kC hkC e1 z1 o1 => ?_
  exact kk H1 z1 (hH.new (e1 := .inr (ci, fs)) (hA _ hS.1) ⟨_, hc, (u_born ty hts hin hKn hkC e1 hty).to hfs⟩ o1 tg) ⟨Nat.le_trans hS.1 (by omega), fun x h1 h2 => (o1 x (Nat.lt_of_lt_of_le h1 hS.1)).trans (hS.2.1 x h1 h2), hS.2.2⟩
/-- behind a call -/
theorem hp_call {post : Option Value → Hp → Prop} {mc ms : Nat} {av : Array Value} (hr : va_Run p l e R s m args below meth c H locs cells slots mc ms (F0 m pc ls st0) rest (QR s0 D cl post av) (zA s0)) (hS : va_S (zA s0) s.heap H locs)
    (kk : ∀ (v : Option Value) (h1 : Hp) (H1 : Heap) (locs1 : List Loc), post v h1 → H.size ≤ H1.size → HP D cl (zA s0) h1 H1 → va_S (zA s0) s.heap H1 locs1 → W p l e R s m args below meth c H1 locs1 (cells + mc) (slots + ms) Q (F0 m (pc + 3) ls (v.toList ++ rest))) : W p l e R s m args below meth c H locs cells slots Q (F0 m pc ls st0) := by
  intro T hT X
  obtain ⟨v, st₀, t, T', L, h0, X', hL, e1, e2, ⟨⟨v', h1, hv, hp, hh⟩, hz, hk⟩, st⟩ := hr T hT X
  cases hv
  rw [h0] at hz hk
  obtain ⟨t2, a1, b1⟩ := kk v h1 T'.heap (locs ++ L) hp (by rw [e1]; exact hz) (by rw [e1]; exact hh)
    ⟨Nat.le_trans hS.1 (by rw [e1]; exact hz), fun q h1 h2 => by rw [e1, hk q (Nat.lt_of_lt_of_le h1 hS.1) h2]; exact hS.2.1 q h1 h2, fun q hq => by
      rcases List.mem_append.mp hq with h | h
      · exact hS.2.2 q h
      · exact hL q h⟩ T' rfl X'
  exact ⟨t2, st t2 a1, b1⟩
/-- the ends -/
theorem hp_iret {post : Option Value → Hp → Prop} {mc ms : Nat} {v : Int32} (hexec : p.tables.exec = Jvm.exec) (hb : c.code = cc) (hr : meth.sig.returnType = some .int) (hlocks : meth.locks = false) (hH : HP D cl (zA s0) h H) (hS : va_S (zA s0) s.heap H locs) (hc : cells ≤ mc) (hs : slots ≤ ms) (hdg : decode cc pc = .ok (.ireturn, 1)) (hp : post (some (.int v)) h) : W p l e R s m args below meth c H locs cells slots (MQ below (QR s0 D cl post) args s mc ms (zA s0)) (F0 m pc ls [.int v]) :=
  W.widen hc hs (W.iret hexec hb hr (fun t ht _ => ⟨⟨_, h, rfl, hp, by rw [ht]; exact hH⟩, hS.F ht⟩) hS.2.2 hdg hlocks)
theorem hp_zret {post : Option Value → Hp → Prop} {mc ms : Nat} {v : Int32} {ty : FieldType} (hexec : p.tables.exec = Jvm.exec) (hb : c.code = cc) (hr : meth.sig.returnType = some ty) (hn : narrow ty (.int v) = .int v) (hlocks : meth.locks = false) (hH : HP D cl (zA s0) h H) (hS : va_S (zA s0) s.heap H locs) (hc : cells ≤ mc) (hs : slots ≤ ms) (hdg : decode cc pc = .ok (.ireturn, 1)) (hp : post (some (.int v)) h) : W p l e R s m args below meth c H locs cells slots (MQ below (QR s0 D cl post) args s mc ms (zA s0)) (F0 m pc ls [.int v]) :=
  W.widen hc hs (W.zret hexec hb hr hn (fun t ht _ => ⟨⟨_, h, rfl, hp, by rw [ht]; exact hH⟩, hS.F ht⟩) hS.2.2 hdg hlocks)
theorem hp_lret {post : Option Value → Hp → Prop} {mc ms : Nat} {v : Int64} (hexec : p.tables.exec = Jvm.exec) (hb : c.code = cc) (hr : meth.sig.returnType = some .long) (hlocks : meth.locks = false) (hH : HP D cl (zA s0) h H) (hS : va_S (zA s0) s.heap H locs) (hc : cells ≤ mc) (hs : slots ≤ ms) (hdg : decode cc pc = .ok (.lreturn, 1)) (hp : post (some (.long v)) h) : W p l e R s m args below meth c H locs cells slots (MQ below (QR s0 D cl post) args s mc ms (zA s0)) (F0 m pc ls [.long v]) :=
  W.widen hc hs (W.lret hexec hb hr (fun t ht _ => ⟨⟨_, h, rfl, hp, by rw [ht]; exact hH⟩, hS.F ht⟩) hS.2.2 hdg hlocks)
theorem hp_vret {post : Option Value → Hp → Prop} {mc ms : Nat} (hexec : p.tables.exec = Jvm.exec) (hb : c.code = cc) (hr : meth.sig.returnType = none) (hlocks : meth.locks = false) (hH : HP D cl (zA s0) h H) (hS : va_S (zA s0) s.heap H locs) (hc : cells ≤ mc) (hs : slots ≤ ms) (hdg : decode cc pc = .ok (.return_, 1)) (hp : post none h) : W p l e R s m args below meth c H locs cells slots (MQ below (QR s0 D cl post) args s mc ms (zA s0)) (F0 m pc ls []) :=
  W.widen hc hs (W.vret hexec hb hr (fun t ht _ => ⟨⟨_, h, rfl, hp, by rw [ht]; exact hH⟩, hS.F ht⟩) hS.2.2 hdg hlocks)
theorem hp_aret {post : Option Value → Hp → Prop} {mc ms : Nat} {v : Value} {rt : FieldType} (hexec : p.tables.exec = Jvm.exec) (hb : c.code = cc) (hr : meth.sig.returnType = some rt) (hrt : (∃ n, rt = .object n) ∨ ∃ t, rt = .array t) (hv : v = .null ∨ ∃ a, v = .ref a) (hlocks : meth.locks = false) (hH : HP D cl (zA s0) h H) (hS : va_S (zA s0) s.heap H locs) (hc : cells ≤ mc) (hs : slots ≤ ms) (hdg : decode cc pc = .ok (.areturn, 1)) (hp : post (some v) h) : W p l e R s m args below meth c H locs cells slots (MQ below (QR s0 D cl post) args s mc ms (zA s0)) (F0 m pc ls [v]) :=
  W.widen hc hs (W.aret hexec hb hr hrt hv (fun t ht _ => ⟨⟨_, h, rfl, hp, by rw [ht]; exact hH⟩, hS.F ht⟩) hS.2.2 hdg hlocks)
end BASE
