/-! by gen/mspec.py -/
set_option maxRecDepth 100000
section MODEL
variable {l : Launch} {s0 : State} {D : va_G} {K : Nat → ClassId} {wd : Nat → Nat} {o : Nat} {h : Hp} {I : Nat → Int32} {V : Nat → Nat → Int32} {J : Nat → Nat → Int64}
set_option maxHeartbeats 4000000 in
theorem mt_keepsIn58 (hK0 : va_K D CL (TYS K) s0) {S : Ab} (hO : SOK S) (hM : MOK S I V) {mem : List Nat} (h43 : I 43 = nI mem.length) (hm7 : mem.length ≤ 7) {pl : List Nat} (h57 : ∀ i, i < mem.length → V 57 i = nI (pl.getD i 0)) : Met l yX2_keepsIn (ws_ yX2_keepsIn cX2_keepsIn 3 ((Option.none : Option Jvm.ClassFile.FieldType))) (rmk 0 0 0) (va_Pc [.ref o, .ref (o + 58)] (PB s0 D CL (mset h K wd o I V J))) (QR s0 D CL (fun v h1 => v = none ∧ ∃ U, h1 = mset h K wd o I U J ∧ MOK S I U ∧ kp [58] V U ∧ ∀ i, i < mem.length → U 58 i = nI (pl.getD i 0))) 0 0 (zA s0) := by
  refine hp_met (by decide) (Nat.le_of_ble_eq_true rfl) hK0 ?_
  intro p e s m below meth cd ls hx hb hr hlocks hml hown hnm hts hK hPB hl hS hH hA
  have hl : lv_has ls 3 [(0, .ref o), (1, .ref (o + 58))] := hl
  have hown : s.vm.findClass RX2 = some m.cls := hown
  have hn := hO.n
  have hmk := hO.mk
  have hrl := hO.rl
  have hrm := hO.rm
  have hsz := hO.sz
  refine lv_iconst (v := nI 0) hx hb dX2_keepsIn_0 (by decide) ?_
  refine lv_istore_n (lv' := [(2, .int (nI 0)), (0, .ref o), (1, .ref (o + 58))]) hx hb dX2_keepsIn_1 rfl hl (by decide) rfl (fun ls hl => ?_)
  refine w_loop2 (fun (i : Nat) (U : Nat → Nat → Int32) => mem.length - i) (fun (i : Nat) (U : Nat → Nat → Int32) H locs ls => (i ≤ mem.length) ∧ (∀ u, u < i → U 58 u = nI (pl.getD u 0)) ∧ (kp [58] V U) ∧ (MOK S I U) ∧ HP D CL (zA s0) (mset h K wd o I U J) H ∧ va_S (zA s0) s.heap H locs ∧ lv_has ls 3 [(0, .ref o), (1, .ref (o + 58)), (2, .int (nI i))]) ?_ 0 V ⟨Nat.zero_le _, fun u hu => absurd hu (Nat.not_lt_zero _), kp.rf, hM, hH, hS, lv_sub hl [1, 2, 0] rfl⟩
  intro i U ih2 H locs ls hP
  obtain ⟨hii, hto, hkp, hM, hH, hS, hl⟩ := hP
  refine lv_iload_n hx hb dX2_keepsIn_2 rfl (lv_at hl 2 rfl) ?_
  refine lv_aload_n hx hb dX2_keepsIn_3 rfl (lv_at hl 0 rfl) ?_
  refine m_get hx hb hts hown hK hH 43 (by decide) q1495 rfl (v := .int (nI mem.length)) (congrArg Value.int (h43)) dX2_keepsIn_4 ?_
  refine lvN_ge (tgt := 25) hx hb (by first | omega | (refine Nat.lt_of_lt_of_le (Nat.mod_lt _ ?_) ?_ <;> omega)) (by first | omega | (refine Nat.lt_of_lt_of_le (Nat.mod_lt _ ?_) ?_ <;> omega)) dX2_keepsIn_7 (by decide) (fun c1 => ?_) (fun c1 => ?_)
  · exact hp_vret hx hb hr hlocks hH hS (by decide) (by decide) dX2_keepsIn_25 (⟨rfl, _, rfl, hM, hkp, fun i hi => hto i (by omega)⟩)
  · refine lv_aload_n hx hb dX2_keepsIn_10 rfl (lv_at hl 1 rfl) ?_
    refine lv_iload_n hx hb dX2_keepsIn_11 rfl (lv_at hl 2 rfl) ?_
    refine lv_aload_n hx hb dX2_keepsIn_12 rfl (lv_at hl 0 rfl) ?_
    refine m_get hx hb hts hown hK hH 46 (by decide) q1498 rfl (v := .ref (o + 57)) rfl dX2_keepsIn_13 ?_
    refine lv_iload_n hx hb dX2_keepsIn_16 rfl (lv_at hl 2 rfl) ?_
    refine m_iald (n := 10) (j := i) (v := nI (pl.getD i 0)) hx hb hK hH (by decide) rfl (by first | omega | (refine Nat.lt_of_lt_of_le (Nat.mod_lt _ ?_) ?_ <;> omega)) (by decide) ((congrFun (hkp 57 (by decide)) _).trans (h57 i (by omega))) dX2_keepsIn_17 ?_
    refine m_iast (n := 10) (j := i) hx hb hK hH hS (by decide) rfl (by first | omega | (refine Nat.lt_of_lt_of_le (Nat.mod_lt _ ?_) ?_ <;> omega)) (by decide) dX2_keepsIn_18 (fun H locs hH hS => ?_)
    have hM := hM.vS (k := 58) rfl i (nI (pl.getD i 0))
    refine lv_iinc (v := nI (i + 1)) (lv' := [(2, .int (nI (i + 1))), (0, .ref o), (1, .ref (o + 58))]) hx hb dX2_keepsIn_19 hl (k := 2) rfl (nI_add i 1) (by decide) rfl (fun ls hl => ?_)
    refine lv_goto (tgt := 2) hx hb dX2_keepsIn_22 (by decide) ?_
    exact ih2 (i + 1) _ (by omega) H locs ls ⟨by omega, fun u hu => by rw [vset_in]; split; (rename_i e; rw [e]); exact hto u (by omega), hkp.vs (by decide) _ _, hM, hH, hS, lv_sub hl [1, 2, 0] rfl⟩
set_option maxHeartbeats 4000000 in
theorem mt_keepsIn59 (hK0 : va_K D CL (TYS K) s0) {S : Ab} (hO : SOK S) (hM : MOK S I V) {mem : List Nat} (h43 : I 43 = nI mem.length) (hm7 : mem.length ≤ 7) {pl : List Nat} (h57 : ∀ i, i < mem.length → V 57 i = nI (pl.getD i 0)) : Met l yX2_keepsIn (ws_ yX2_keepsIn cX2_keepsIn 3 ((Option.none : Option Jvm.ClassFile.FieldType))) (rmk 0 0 0) (va_Pc [.ref o, .ref (o + 59)] (PB s0 D CL (mset h K wd o I V J))) (QR s0 D CL (fun v h1 => v = none ∧ ∃ U, h1 = mset h K wd o I U J ∧ MOK S I U ∧ kp [59] V U ∧ ∀ i, i < mem.length → U 59 i = nI (pl.getD i 0))) 0 0 (zA s0) := by
  refine hp_met (by decide) (Nat.le_of_ble_eq_true rfl) hK0 ?_
  intro p e s m below meth cd ls hx hb hr hlocks hml hown hnm hts hK hPB hl hS hH hA
  have hl : lv_has ls 3 [(0, .ref o), (1, .ref (o + 59))] := hl
  have hown : s.vm.findClass RX2 = some m.cls := hown
  have hn := hO.n
  have hmk := hO.mk
  have hrl := hO.rl
  have hrm := hO.rm
  have hsz := hO.sz
  refine lv_iconst (v := nI 0) hx hb dX2_keepsIn_0 (by decide) ?_
  refine lv_istore_n (lv' := [(2, .int (nI 0)), (0, .ref o), (1, .ref (o + 59))]) hx hb dX2_keepsIn_1 rfl hl (by decide) rfl (fun ls hl => ?_)
  refine w_loop2 (fun (i : Nat) (U : Nat → Nat → Int32) => mem.length - i) (fun (i : Nat) (U : Nat → Nat → Int32) H locs ls => (i ≤ mem.length) ∧ (∀ u, u < i → U 59 u = nI (pl.getD u 0)) ∧ (kp [59] V U) ∧ (MOK S I U) ∧ HP D CL (zA s0) (mset h K wd o I U J) H ∧ va_S (zA s0) s.heap H locs ∧ lv_has ls 3 [(0, .ref o), (1, .ref (o + 59)), (2, .int (nI i))]) ?_ 0 V ⟨Nat.zero_le _, fun u hu => absurd hu (Nat.not_lt_zero _), kp.rf, hM, hH, hS, lv_sub hl [1, 2, 0] rfl⟩
  intro i U ih2 H locs ls hP
  obtain ⟨hii, hto, hkp, hM, hH, hS, hl⟩ := hP
  refine lv_iload_n hx hb dX2_keepsIn_2 rfl (lv_at hl 2 rfl) ?_
  refine lv_aload_n hx hb dX2_keepsIn_3 rfl (lv_at hl 0 rfl) ?_
  refine m_get hx hb hts hown hK hH 43 (by decide) q1495 rfl (v := .int (nI mem.length)) (congrArg Value.int (h43)) dX2_keepsIn_4 ?_
  refine lvN_ge (tgt := 25) hx hb (by first | omega | (refine Nat.lt_of_lt_of_le (Nat.mod_lt _ ?_) ?_ <;> omega)) (by first | omega | (refine Nat.lt_of_lt_of_le (Nat.mod_lt _ ?_) ?_ <;> omega)) dX2_keepsIn_7 (by decide) (fun c1 => ?_) (fun c1 => ?_)
  · exact hp_vret hx hb hr hlocks hH hS (by decide) (by decide) dX2_keepsIn_25 (⟨rfl, _, rfl, hM, hkp, fun i hi => hto i (by omega)⟩)
  · refine lv_aload_n hx hb dX2_keepsIn_10 rfl (lv_at hl 1 rfl) ?_
    refine lv_iload_n hx hb dX2_keepsIn_11 rfl (lv_at hl 2 rfl) ?_
    refine lv_aload_n hx hb dX2_keepsIn_12 rfl (lv_at hl 0 rfl) ?_
    refine m_get hx hb hts hown hK hH 46 (by decide) q1498 rfl (v := .ref (o + 57)) rfl dX2_keepsIn_13 ?_
    refine lv_iload_n hx hb dX2_keepsIn_16 rfl (lv_at hl 2 rfl) ?_
    refine m_iald (n := 10) (j := i) (v := nI (pl.getD i 0)) hx hb hK hH (by decide) rfl (by first | omega | (refine Nat.lt_of_lt_of_le (Nat.mod_lt _ ?_) ?_ <;> omega)) (by decide) ((congrFun (hkp 57 (by decide)) _).trans (h57 i (by omega))) dX2_keepsIn_17 ?_
    refine m_iast (n := 10) (j := i) hx hb hK hH hS (by decide) rfl (by first | omega | (refine Nat.lt_of_lt_of_le (Nat.mod_lt _ ?_) ?_ <;> omega)) (by decide) dX2_keepsIn_18 (fun H locs hH hS => ?_)
    have hM := hM.vS (k := 59) rfl i (nI (pl.getD i 0))
    refine lv_iinc (v := nI (i + 1)) (lv' := [(2, .int (nI (i + 1))), (0, .ref o), (1, .ref (o + 59))]) hx hb dX2_keepsIn_19 hl (k := 2) rfl (nI_add i 1) (by decide) rfl (fun ls hl => ?_)
    refine lv_goto (tgt := 2) hx hb dX2_keepsIn_22 (by decide) ?_
    exact ih2 (i + 1) _ (by omega) H locs ls ⟨by omega, fun u hu => by rw [vset_in]; split; (rename_i e; rw [e]); exact hto u (by omega), hkp.vs (by decide) _ _, hM, hH, hS, lv_sub hl [1, 2, 0] rfl⟩
set_option maxHeartbeats 4000000 in
theorem mt_keepsIn60 (hK0 : va_K D CL (TYS K) s0) {S : Ab} (hO : SOK S) (hM : MOK S I V) {mem : List Nat} (h43 : I 43 = nI mem.length) (hm7 : mem.length ≤ 7) {pl : List Nat} (h57 : ∀ i, i < mem.length → V 57 i = nI (pl.getD i 0)) : Met l yX2_keepsIn (ws_ yX2_keepsIn cX2_keepsIn 3 ((Option.none : Option Jvm.ClassFile.FieldType))) (rmk 0 0 0) (va_Pc [.ref o, .ref (o + 60)] (PB s0 D CL (mset h K wd o I V J))) (QR s0 D CL (fun v h1 => v = none ∧ ∃ U, h1 = mset h K wd o I U J ∧ MOK S I U ∧ kp [60] V U ∧ ∀ i, i < mem.length → U 60 i = nI (pl.getD i 0))) 0 0 (zA s0) := by
  refine hp_met (by decide) (Nat.le_of_ble_eq_true rfl) hK0 ?_
  intro p e s m below meth cd ls hx hb hr hlocks hml hown hnm hts hK hPB hl hS hH hA
  have hl : lv_has ls 3 [(0, .ref o), (1, .ref (o + 60))] := hl
  have hown : s.vm.findClass RX2 = some m.cls := hown
  have hn := hO.n
  have hmk := hO.mk
  have hrl := hO.rl
  have hrm := hO.rm
  have hsz := hO.sz
  refine lv_iconst (v := nI 0) hx hb dX2_keepsIn_0 (by decide) ?_
  refine lv_istore_n (lv' := [(2, .int (nI 0)), (0, .ref o), (1, .ref (o + 60))]) hx hb dX2_keepsIn_1 rfl hl (by decide) rfl (fun ls hl => ?_)
  refine w_loop2 (fun (i : Nat) (U : Nat → Nat → Int32) => mem.length - i) (fun (i : Nat) (U : Nat → Nat → Int32) H locs ls => (i ≤ mem.length) ∧ (∀ u, u < i → U 60 u = nI (pl.getD u 0)) ∧ (kp [60] V U) ∧ (MOK S I U) ∧ HP D CL (zA s0) (mset h K wd o I U J) H ∧ va_S (zA s0) s.heap H locs ∧ lv_has ls 3 [(0, .ref o), (1, .ref (o + 60)), (2, .int (nI i))]) ?_ 0 V ⟨Nat.zero_le _, fun u hu => absurd hu (Nat.not_lt_zero _), kp.rf, hM, hH, hS, lv_sub hl [1, 2, 0] rfl⟩
  intro i U ih2 H locs ls hP
  obtain ⟨hii, hto, hkp, hM, hH, hS, hl⟩ := hP
  refine lv_iload_n hx hb dX2_keepsIn_2 rfl (lv_at hl 2 rfl) ?_
  refine lv_aload_n hx hb dX2_keepsIn_3 rfl (lv_at hl 0 rfl) ?_
  refine m_get hx hb hts hown hK hH 43 (by decide) q1495 rfl (v := .int (nI mem.length)) (congrArg Value.int (h43)) dX2_keepsIn_4 ?_
  refine lvN_ge (tgt := 25) hx hb (by first | omega | (refine Nat.lt_of_lt_of_le (Nat.mod_lt _ ?_) ?_ <;> omega)) (by first | omega | (refine Nat.lt_of_lt_of_le (Nat.mod_lt _ ?_) ?_ <;> omega)) dX2_keepsIn_7 (by decide) (fun c1 => ?_) (fun c1 => ?_)
  · exact hp_vret hx hb hr hlocks hH hS (by decide) (by decide) dX2_keepsIn_25 (⟨rfl, _, rfl, hM, hkp, fun i hi => hto i (by omega)⟩)
  · refine lv_aload_n hx hb dX2_keepsIn_10 rfl (lv_at hl 1 rfl) ?_
    refine lv_iload_n hx hb dX2_keepsIn_11 rfl (lv_at hl 2 rfl) ?_
    refine lv_aload_n hx hb dX2_keepsIn_12 rfl (lv_at hl 0 rfl) ?_
    refine m_get hx hb hts hown hK hH 46 (by decide) q1498 rfl (v := .ref (o + 57)) rfl dX2_keepsIn_13 ?_
    refine lv_iload_n hx hb dX2_keepsIn_16 rfl (lv_at hl 2 rfl) ?_
    refine m_iald (n := 10) (j := i) (v := nI (pl.getD i 0)) hx hb hK hH (by decide) rfl (by first | omega | (refine Nat.lt_of_lt_of_le (Nat.mod_lt _ ?_) ?_ <;> omega)) (by decide) ((congrFun (hkp 57 (by decide)) _).trans (h57 i (by omega))) dX2_keepsIn_17 ?_
    refine m_iast (n := 10) (j := i) hx hb hK hH hS (by decide) rfl (by first | omega | (refine Nat.lt_of_lt_of_le (Nat.mod_lt _ ?_) ?_ <;> omega)) (by decide) dX2_keepsIn_18 (fun H locs hH hS => ?_)
    have hM := hM.vS (k := 60) rfl i (nI (pl.getD i 0))
    refine lv_iinc (v := nI (i + 1)) (lv' := [(2, .int (nI (i + 1))), (0, .ref o), (1, .ref (o + 60))]) hx hb dX2_keepsIn_19 hl (k := 2) rfl (nI_add i 1) (by decide) rfl (fun ls hl => ?_)
    refine lv_goto (tgt := 2) hx hb dX2_keepsIn_22 (by decide) ?_
    exact ih2 (i + 1) _ (by omega) H locs ls ⟨by omega, fun u hu => by rw [vset_in]; split; (rename_i e; rw [e]); exact hto u (by omega), hkp.vs (by decide) _ _, hM, hH, hS, lv_sub hl [1, 2, 0] rfl⟩
set_option maxHeartbeats 4000000 in
theorem mt_memberOf (hK0 : va_K D CL (TYS K) s0) {S : Ab} (hO : SOK S) (hM : MOK S I V) {mem : List Nat} {g : Nat} (h43 : I 43 = nI mem.length) (hm7 : mem.length ≤ 7) (h53 : ∀ i, i < mem.length → V 53 i = nI (mem.getD i 0)) (hme : ∀ i, i < mem.length → mem.getD i 0 < aN S) (hg0 : g < aN S) (hgm : g ∈ mem) : Met l yX2_memberOf (ws_ yX2_memberOf cX2_memberOf 3 ((Option.some Jvm.ClassFile.FieldType.int))) (rmk 0 0 0) (va_Pc [.ref o, .int (nI g)] (PB s0 D CL (mset h K wd o I V J))) (QR s0 D CL (fun v h1 => v = some (.int (nI (mem.idxOf g))) ∧ h1 = mset h K wd o I V J)) 0 0 (zA s0) := by
  refine hp_met (by decide) (Nat.le_of_ble_eq_true rfl) hK0 ?_
  intro p e s m below meth cd ls hx hb hr hlocks hml hown hnm hts hK hPB hl hS hH hA
  have hl : lv_has ls 3 [(0, .ref o), (1, .int (nI g))] := hl
  have hown : s.vm.findClass RX2 = some m.cls := hown
  have hn := hO.n
  have hmk := hO.mk
  have hrl := hO.rl
  have hrm := hO.rm
  have hsz := hO.sz
  refine lv_iconst (v := nI 0) hx hb dX2_memberOf_0 (by decide) ?_
  refine lv_istore_n (lv' := [(2, .int (nI 0)), (0, .ref o), (1, .int (nI g))]) hx hb dX2_memberOf_1 rfl hl (by decide) rfl (fun ls hl => ?_)
  refine w_loop1 (fun (i : Nat) => mem.length - i) (fun (i : Nat) H locs ls => (i ≤ mem.length) ∧ (∀ u, u < i → mem.getD u 0 ≠ g) ∧ HP D CL (zA s0) (mset h K wd o I V J) H ∧ va_S (zA s0) s.heap H locs ∧ lv_has ls 3 [(0, .ref o), (1, .int (nI g)), (2, .int (nI i))]) ?_ 0 ⟨Nat.zero_le _, fun u hu => absurd hu (Nat.not_lt_zero _), hH, hS, lv_sub hl [1, 2, 0] rfl⟩
  intro i ih2 H locs ls hP
  obtain ⟨hii, hno, hH, hS, hl⟩ := hP
  refine lv_iload_n hx hb dX2_memberOf_2 rfl (lv_at hl 2 rfl) ?_
  refine lv_aload_n hx hb dX2_memberOf_3 rfl (lv_at hl 0 rfl) ?_
  refine m_get hx hb hts hown hK hH 43 (by decide) q1495 rfl (v := .int (nI mem.length)) (congrArg Value.int (h43)) dX2_memberOf_4 ?_
  refine lvN_ge (tgt := 28) hx hb (by first | omega | (refine Nat.lt_of_lt_of_le (Nat.mod_lt _ ?_) ?_ <;> omega)) (by first | omega | (refine Nat.lt_of_lt_of_le (Nat.mod_lt _ ?_) ?_ <;> omega)) dX2_memberOf_7 (by decide) (fun ci => ?_) (fun ci => ?_)
  · refine lv_iconst (v := (-1)) hx hb dX2_memberOf_28 (by decide) ?_
    exact hp_iret hx hb hr hlocks hH hS (by decide) (by decide) dX2_memberOf_29 (absurd (idx_at hgm).2 (hno _ (by have := (idx_at hgm).1; omega)))
  · refine lv_aload_n hx hb dX2_memberOf_10 rfl (lv_at hl 0 rfl) ?_
    refine m_get hx hb hts hown hK hH 41 (by decide) q1493 rfl (v := .ref (o + 53)) rfl dX2_memberOf_11 ?_
    refine lv_iload_n hx hb dX2_memberOf_14 rfl (lv_at hl 2 rfl) ?_
    have hmi := hme i (by omega)
    refine m_iald (n := 10) (j := i) (v := nI (mem.getD i 0)) hx hb hK hH (by decide) rfl (by first | omega | (refine Nat.lt_of_lt_of_le (Nat.mod_lt _ ?_) ?_ <;> omega)) (by decide) (h53 i (by omega)) dX2_memberOf_15 ?_
    refine lv_iload_n hx hb dX2_memberOf_16 rfl (lv_at hl 1 rfl) ?_
    refine lvN_ne (tgt := 22) hx hb (by first | omega | (refine Nat.lt_of_lt_of_le (Nat.mod_lt _ ?_) ?_ <;> omega)) (by first | omega | (refine Nat.lt_of_lt_of_le (Nat.mod_lt _ ?_) ?_ <;> omega)) dX2_memberOf_17 (by decide) (fun cg => ?_) (fun cg => ?_)
    · refine lv_iinc (v := nI (i + 1)) (lv' := [(2, .int (nI (i + 1))), (0, .ref o), (1, .int (nI g))]) hx hb dX2_memberOf_22 hl (k := 2) rfl (nI_add i 1) (by decide) rfl (fun ls hl => ?_)
      refine lv_goto (tgt := 2) hx hb dX2_memberOf_25 (by decide) ?_
      exact ih2 (i + 1) (by omega) H locs ls ⟨by omega, fun u hu => by rcases Nat.lt_succ_iff_lt_or_eq.mp hu with z | z; exact hno u z; rw [z]; exact cg, hH, hS, lv_sub hl [1, 2, 0] rfl⟩
    · refine lv_iload_n hx hb dX2_memberOf_20 rfl (lv_at hl 2 rfl) ?_
      exact hp_iret hx hb hr hlocks hH hS (by decide) (by decide) dX2_memberOf_21 (⟨congrArg some (congrArg Value.int (congrArg nI (idx_first (by omega) cg hno))), rfl⟩)
end MODEL
