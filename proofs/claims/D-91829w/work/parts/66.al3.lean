/-! by gen/mspec.py -/
set_option maxRecDepth 100000
section MODEL
variable {l : Launch} {s0 : State} {D : va_G} {K : Nat → ClassId} {wd : Nat → Nat} {o : Nat} {h : Hp} {I : Nat → Int32} {V : Nat → Nat → Int32} {J : Nat → Nat → Int64}
set_option maxHeartbeats 4000000 in
theorem mj_put (hK0 : va_K D CL (TYS K) s0) {av : Nat → Nat} {ed mi : Nat} (hG : GX s0 wd av ed mi) {a t j d n : Nat} {mcn : Int32} {f : Nat → Option Nat} (he : h a = some (.inr (20, [.int mcn, .ref d, .int (nI n)]), t)) (hf : h d = some (.inl (K 4, gcap j, .inr (.inr (.inr (.inr f)))), t)) (hj : j ≤ 13) (hn : n < gcap j) {x : Nat} (hxo : OBJ h x) : Met l yJ2_add_2 (ws_ yJ2_add_2 cJ2_add_2 4 ((Option.none : Option Jvm.ClassFile.FieldType))) (rmk 5 0 0) (va_Pc [.ref a, .ref x, .ref d, .int (nI n)] (PB s0 D CL (h))) (QR s0 D CL (fun v h1 => v = none ∧ PW h h1 a d (.inr (20, [.int mcn, .ref d, .int (nI (n + 1))])) (.inl (K 4, gcap j, .inr (.inr (.inr (.inr (va_up f n (some x))))))) t)) 0 0 (zA s0) := by
  refine hp_met (by decide) (Nat.le_of_ble_eq_true rfl) hK0 ?_
  intro p e s m below meth cd ls hx hb hr hlocks hml hown hnm hts hK hPB hl hS hH hA
  have hl : lv_has ls 4 [(0, .ref a), (1, .ref x), (2, .ref d), (3, .int (nI n))] := hl
  have hown : s.vm.findClass RJ2 = some m.cls := hown
  have hg1 := gcap_lt j hj
  refine lv_iload_n hx hb dJ2_add_2_0 rfl (lv_at hl 3 rfl) ?_
  refine lv_aload_n hx hb dJ2_add_2_1 rfl (lv_at hl 2 rfl) ?_
  refine hp_alen (v := nI (gcap j)) hx hb hK hH 4 hf rfl rfl dJ2_add_2_2 ?_
  refine lvN_ne (tgt := 11) hx hb (by first | omega | (refine Nat.lt_of_lt_of_le (Nat.mod_lt _ ?_) ?_ <;> omega)) (by first | omega | (refine Nat.lt_of_lt_of_le (Nat.mod_lt _ ?_) ?_ <;> omega)) dJ2_add_2_3 (by decide) (fun c1 => ?_) (fun c1 => ?_)
  · refine lv_aload_n hx hb dJ2_add_2_11 rfl (lv_at hl 2 rfl) ?_
    refine lv_iload_n hx hb dJ2_add_2_12 rfl (lv_at hl 3 rfl) ?_
    refine lv_aload_n hx hb dJ2_add_2_13 rfl (lv_at hl 1 rfl) ?_
    refine hp_ast (n := gcap j) (v := x) (j := n) hx hb hK hH hS 4 hf rfl (any_obj hG hPB hK hH hxo) (by first | omega | (refine Nat.lt_of_lt_of_le (Nat.mod_lt _ ?_) ?_ <;> omega)) (by first | omega | (refine Nat.lt_of_lt_of_le (Nat.mod_lt _ ?_) ?_ <;> omega)) dJ2_add_2_14 (fun H locs _ hH hS => ?_)
    have hH : HP D CL (zA s0) (hset h d (.inl (K 4, gcap j, .inr (.inr (.inr (.inr (va_up f n (some x))))))) t) H := hH
    have e2 : (hset h d (.inl (K 4, gcap j, .inr (.inr (.inr (.inr (va_up f n (some x))))))) t) a = some (.inr (20, [.int mcn, .ref d, .int (nI n)]), t) := (hset_ne _ _ _ (ne_oa he hf)).trans he
    have e3 : (hset h d (.inl (K 4, gcap j, .inr (.inr (.inr (.inr (va_up f n (some x))))))) t) d = some (.inl (K 4, gcap j, .inr (.inr (.inr (.inr (va_up f n (some x)))))), t) := hset_self _ _ _ _
    refine lv_aload_n hx hb dJ2_add_2_15 rfl (lv_at hl 0 rfl) ?_
    refine lv_iload_n hx hb dJ2_add_2_16 rfl (lv_at hl 3 rfl) ?_
    refine lv_iconst (v := nI 1) hx hb dJ2_add_2_17 (by decide) ?_
    refine lv_iadd hx hb dJ2_add_2_18 ?_
    refine lv_top (y := nI (n + 1)) (nI_add _ _) ?_
    refine hp_put (C := RJ2) (T := TJ2) (N := 3) (v := .int (nI (n + 1))) (ty := .int) hx hb hts in_J2 tyJ2 tyJ2_ok nmJ2 hown hK hH hS e2 rfl 2 (by decide) (hts _ q173) (fun _ z => z) rfl (by decide +kernel) rfl rfl (Nat.le_of_ble_eq_true rfl) dJ2_add_2_19 (fun H locs _ hH hS => ?_)
    have hH : HP D CL (zA s0) (hset (hset h d (.inl (K 4, gcap j, .inr (.inr (.inr (.inr (va_up f n (some x))))))) t) a (.inr (20, [.int mcn, .ref d, .int (nI (n + 1))])) t) H := hH
    have e4 : (hset (hset h d (.inl (K 4, gcap j, .inr (.inr (.inr (.inr (va_up f n (some x))))))) t) a (.inr (20, [.int mcn, .ref d, .int (nI (n + 1))])) t) d = some (.inl (K 4, gcap j, .inr (.inr (.inr (.inr (va_up f n (some x)))))), t) := (hset_ne _ _ _ (ne_ao e3 e2)).trans e3
    have e5 : (hset (hset h d (.inl (K 4, gcap j, .inr (.inr (.inr (.inr (va_up f n (some x))))))) t) a (.inr (20, [.int mcn, .ref d, .int (nI (n + 1))])) t) a = some (.inr (20, [.int mcn, .ref d, .int (nI (n + 1))]), t) := hset_self _ _ _ _
    exact hp_vret hx hb hr hlocks hH hS (by decide) (by decide) dJ2_add_2_22 (⟨rfl, pw_2 (ne_ao hf he)⟩)
  · exact absurd c1 (by omega)
set_option maxHeartbeats 4000000 in
theorem mj_put0 (hK0 : va_K D CL (TYS K) s0) {av : Nat → Nat} {ed mi : Nat} (hG : GX s0 wd av ed mi) {a t : Nat} {mcn : Int32} (he : h a = some (.inr (20, [.int mcn, .ref ed, .int (nI 0)]), t)) {x : Nat} (hxo : OBJ h x) : Met l yJ2_add_2 (ws_ yJ2_add_2 cJ2_add_2 4 ((Option.none : Option Jvm.ClassFile.FieldType))) (rmk 5 1 10) (va_Pc [.ref a, .ref x, .ref ed, .int (nI 0)] (PB s0 D CL (h))) (QR s0 D CL (fun v h1 => v = none ∧ ∃ q, h q = none ∧ q ≠ a ∧ PW h h1 a q (.inr (20, [.int mcn, .ref q, .int (nI (0 + 1))])) (.inl (K 4, 10, .inr (.inr (.inr (.inr (va_up (fun _ => none) 0 (some x))))))) t)) 1 10 (zA s0) := by
  refine hp_met (by decide) (Nat.le_of_ble_eq_true rfl) hK0 ?_
  intro p e s m below meth cd ls hx hb hr hlocks hml hown hnm hts hK hPB hl hS hH hA
  have hl : lv_has ls 4 [(0, .ref a), (1, .ref x), (2, .ref ed), (3, .int (nI 0))] := hl
  have hown : s.vm.findClass RJ2 = some m.cls := hown
  refine lv_iload_n hx hb dJ2_add_2_0 rfl (lv_at hl 3 rfl) ?_
  refine lv_aload_n hx hb dJ2_add_2_1 rfl (lv_at hl 2 rfl) ?_
  refine va_tlen (v := nI 0) hx hb (hG.ea hPB) hS rfl dJ2_add_2_2 ?_
  refine lvN_ne (tgt := 11) hx hb (by first | omega | (refine Nat.lt_of_lt_of_le (Nat.mod_lt _ ?_) ?_ <;> omega)) (by first | omega | (refine Nat.lt_of_lt_of_le (Nat.mod_lt _ ?_) ?_ <;> omega)) dJ2_add_2_3 (by decide) (fun c1 => ?_) (fun c1 => ?_)
  · exact absurd rfl c1
  · refine lv_aload_n hx hb dJ2_add_2_6 rfl (lv_at hl 0 rfl) ?_
    refine hp_callV (As := []) (rest := []) hx hb hml hown hts hPB hK hH hS (mj_gro0 hK0 hG he) he rfl rfl 0 (lw_V q584 q586 qs13 q106 q587) (by decide +kernel) ⟨rfl, rfl⟩ (by decide) rfl hl.1 rfl (Nat.le_of_ble_eq_true rfl) (by decide) dJ2_add_2_7 (fun v2 h4 H locs hp3 _ hH hS => ?_)
    obtain ⟨q1, rfl, hq1, hqa, hq2⟩ := hp3
    rw [hq2] at hH
    have hea : (hset (hset h q1 (.inl (K 4, 10, .inr (.inr (.inr (.inr (fun _ => none)))))) t) a (.inr (20, [.int mcn, .ref q1, .int (nI 0)])) t) a = some (.inr (20, [.int mcn, .ref q1, .int (nI 0)]), t) := hset_self _ _ _ _
    have hfq : (hset (hset h q1 (.inl (K 4, 10, .inr (.inr (.inr (.inr (fun _ => none)))))) t) a (.inr (20, [.int mcn, .ref q1, .int (nI 0)])) t) q1 = some (.inl (K 4, 10, .inr (.inr (.inr (.inr (fun _ => none))))), t) := (hset_ne _ _ _ hqa).trans (hset_self _ _ _ _)
    refine lv_astore_n (lv' := [(2, .ref q1), (0, .ref a), (1, .ref x), (3, .int (nI 0))]) hx hb dJ2_add_2_10 rfl hl (by decide) rfl (fun ls hl => ?_)
    refine lv_aload_n hx hb dJ2_add_2_11 rfl (lv_at hl 0 rfl) ?_
    refine lv_iload_n hx hb dJ2_add_2_12 rfl (lv_at hl 3 rfl) ?_
    refine lv_aload_n hx hb dJ2_add_2_13 rfl (lv_at hl 2 rfl) ?_
    refine hp_ast (n := 10) (v := x) (j := 0) hx hb hK hH hS 4 hfq rfl (any_obj hG hPB hK hH (OBJ.set (OBJ.new hxo hq1) (fun _ => ⟨_, _, rfl⟩))) (by first | omega | (refine Nat.lt_of_lt_of_le (Nat.mod_lt _ ?_) ?_ <;> omega)) (by first | omega | (refine Nat.lt_of_lt_of_le (Nat.mod_lt _ ?_) ?_ <;> omega)) dJ2_add_2_14 (fun H locs _ hH hS => ?_)
    have hH : HP D CL (zA s0) (hset (hset (hset h q1 (.inl (K 4, 10, .inr (.inr (.inr (.inr (fun _ => none)))))) t) a (.inr (20, [.int mcn, .ref q1, .int (nI 0)])) t) q1 (.inl (K 4, 10, .inr (.inr (.inr (.inr (va_up (fun _ => none) 0 (some x))))))) t) H := hH
    have e5 : (hset (hset (hset h q1 (.inl (K 4, 10, .inr (.inr (.inr (.inr (fun _ => none)))))) t) a (.inr (20, [.int mcn, .ref q1, .int (nI 0)])) t) q1 (.inl (K 4, 10, .inr (.inr (.inr (.inr (va_up (fun _ => none) 0 (some x))))))) t) a = some (.inr (20, [.int mcn, .ref q1, .int (nI 0)]), t) := (hset_ne _ _ _ (ne_oa hea hfq)).trans hea
    have e6 : (hset (hset (hset h q1 (.inl (K 4, 10, .inr (.inr (.inr (.inr (fun _ => none)))))) t) a (.inr (20, [.int mcn, .ref q1, .int (nI 0)])) t) q1 (.inl (K 4, 10, .inr (.inr (.inr (.inr (va_up (fun _ => none) 0 (some x))))))) t) q1 = some (.inl (K 4, 10, .inr (.inr (.inr (.inr (va_up (fun _ => none) 0 (some x)))))), t) := hset_self _ _ _ _
    refine lv_aload_n hx hb dJ2_add_2_15 rfl (lv_at hl 1 rfl) ?_
    refine lv_iload_n hx hb dJ2_add_2_16 rfl (lv_at hl 3 rfl) ?_
    refine lv_iconst (v := nI 1) hx hb dJ2_add_2_17 (by decide) ?_
    refine lv_iadd hx hb dJ2_add_2_18 ?_
    refine lv_top (y := nI (0 + 1)) (nI_add _ _) ?_
    refine hp_put (C := RJ2) (T := TJ2) (N := 3) (v := .int (nI (0 + 1))) (ty := .int) hx hb hts in_J2 tyJ2 tyJ2_ok nmJ2 hown hK hH hS e5 rfl 2 (by decide) (hts _ q173) (fun _ z => z) rfl (by decide +kernel) rfl rfl (Nat.le_of_ble_eq_true rfl) dJ2_add_2_19 (fun H locs _ hH hS => ?_)
    have hH : HP D CL (zA s0) (hset (hset (hset (hset h q1 (.inl (K 4, 10, .inr (.inr (.inr (.inr (fun _ => none)))))) t) a (.inr (20, [.int mcn, .ref q1, .int (nI 0)])) t) q1 (.inl (K 4, 10, .inr (.inr (.inr (.inr (va_up (fun _ => none) 0 (some x))))))) t) a (.inr (20, [.int mcn, .ref q1, .int (nI (0 + 1))])) t) H := hH
    have e7 : (hset (hset (hset (hset h q1 (.inl (K 4, 10, .inr (.inr (.inr (.inr (fun _ => none)))))) t) a (.inr (20, [.int mcn, .ref q1, .int (nI 0)])) t) q1 (.inl (K 4, 10, .inr (.inr (.inr (.inr (va_up (fun _ => none) 0 (some x))))))) t) a (.inr (20, [.int mcn, .ref q1, .int (nI (0 + 1))])) t) q1 = some (.inl (K 4, 10, .inr (.inr (.inr (.inr (va_up (fun _ => none) 0 (some x)))))), t) := (hset_ne _ _ _ (ne_ao e6 e5)).trans e6
    have e8 : (hset (hset (hset (hset h q1 (.inl (K 4, 10, .inr (.inr (.inr (.inr (fun _ => none)))))) t) a (.inr (20, [.int mcn, .ref q1, .int (nI 0)])) t) q1 (.inl (K 4, 10, .inr (.inr (.inr (.inr (va_up (fun _ => none) 0 (some x))))))) t) a (.inr (20, [.int mcn, .ref q1, .int (nI (0 + 1))])) t) a = some (.inr (20, [.int mcn, .ref q1, .int (nI (0 + 1))]), t) := hset_self _ _ _ _
    exact hp_vret hx hb hr hlocks hH hS (by decide) (by decide) dJ2_add_2_22 (⟨rfl, q1, hq1, hqa, pw_4 hqa⟩)
set_option maxHeartbeats 4000000 in
theorem mj_putN (hK0 : va_K D CL (TYS K) s0) {av : Nat → Nat} {ed mi : Nat} (hG : GX s0 wd av ed mi) {a t j d : Nat} {mcn : Int32} {f : Nat → Option Nat} (he : h a = some (.inr (20, [.int mcn, .ref d, .int (nI (gcap j))]), t)) (hf : h d = some (.inl (K 4, gcap j, .inr (.inr (.inr (.inr f)))), t)) (hob : ∀ i, i < gcap j → ∀ y, f i = some y → OBJ h y) (hj : 0 < j ∧ j < 13) {x : Nat} (hxo : OBJ h x) : Met l yJ2_add_2 (ws_ yJ2_add_2 cJ2_add_2 4 ((Option.none : Option Jvm.ClassFile.FieldType))) (rmk 5 1 (gcap (j + 1))) (va_Pc [.ref a, .ref x, .ref d, .int (nI (gcap j))] (PB s0 D CL (h))) (QR s0 D CL (fun v h1 => v = none ∧ ∃ q, h q = none ∧ q ≠ a ∧ PW h h1 a q (.inr (20, [.int mcn, .ref q, .int (nI (gcap j + 1))])) (.inl (K 4, gcap (j + 1), .inr (.inr (.inr (.inr (va_up (va_cpy f (fun _ => none) 0 0 (gcap j)) (gcap j) (some x))))))) t)) 1 (gcap (j + 1)) (zA s0) := by
  refine hp_met (by decide) (Nat.le_of_ble_eq_true rfl) hK0 ?_
  intro p e s m below meth cd ls hx hb hr hlocks hml hown hnm hts hK hPB hl hS hH hA
  have hl : lv_has ls 4 [(0, .ref a), (1, .ref x), (2, .ref d), (3, .int (nI (gcap j)))] := hl
  have hown : s.vm.findClass RJ2 = some m.cls := hown
  have hg1 := gcap_lt (j + 1) (by omega)
  have hg2 := gcap_ge hj.1
  have hg3 := gcap_s hj.1
  refine lv_iload_n hx hb dJ2_add_2_0 rfl (lv_at hl 3 rfl) ?_
  refine lv_aload_n hx hb dJ2_add_2_1 rfl (lv_at hl 2 rfl) ?_
  refine hp_alen (v := nI (gcap j)) hx hb hK hH 4 hf rfl rfl dJ2_add_2_2 ?_
  refine lvN_ne (tgt := 11) hx hb (by first | omega | (refine Nat.lt_of_lt_of_le (Nat.mod_lt _ ?_) ?_ <;> omega)) (by first | omega | (refine Nat.lt_of_lt_of_le (Nat.mod_lt _ ?_) ?_ <;> omega)) dJ2_add_2_3 (by decide) (fun c1 => ?_) (fun c1 => ?_)
  · exact absurd rfl c1
  · refine lv_aload_n hx hb dJ2_add_2_6 rfl (lv_at hl 0 rfl) ?_
    refine hp_callV (As := []) (rest := []) hx hb hml hown hts hPB hK hH hS (mj_groN hK0 hG he hf hob hj) he rfl rfl 0 (lw_V q584 q586 qs13 q106 q587) (by decide +kernel) ⟨rfl, rfl⟩ (by first | decide | (simp [rmk, Value.category]; done) | (simp [rmk, Value.category]; omega)) rfl hl.1 rfl (Nat.le_of_ble_eq_true rfl) (by first | decide | (simp [rmk, Value.category]; done) | (simp [rmk, Value.category]; omega)) dJ2_add_2_7 (fun v2 h4 H locs hp3 _ hH hS => ?_)
    obtain ⟨q1, rfl, hq1, hqa, hq2⟩ := hp3
    rw [hq2] at hH
    have hea : (hset (hset h q1 (.inl (K 4, gcap (j + 1), .inr (.inr (.inr (.inr (va_cpy f (fun _ => none) 0 0 (gcap j))))))) t) a (.inr (20, [.int mcn, .ref q1, .int (nI (gcap j))])) t) a = some (.inr (20, [.int mcn, .ref q1, .int (nI (gcap j))]), t) := hset_self _ _ _ _
    have hfq : (hset (hset h q1 (.inl (K 4, gcap (j + 1), .inr (.inr (.inr (.inr (va_cpy f (fun _ => none) 0 0 (gcap j))))))) t) a (.inr (20, [.int mcn, .ref q1, .int (nI (gcap j))])) t) q1 = some (.inl (K 4, gcap (j + 1), .inr (.inr (.inr (.inr (va_cpy f (fun _ => none) 0 0 (gcap j)))))), t) := (hset_ne _ _ _ hqa).trans (hset_self _ _ _ _)
    refine lv_astore_n (lv' := [(2, .ref q1), (0, .ref a), (1, .ref x), (3, .int (nI (gcap j)))]) hx hb dJ2_add_2_10 rfl hl (by decide) rfl (fun ls hl => ?_)
    refine lv_aload_n hx hb dJ2_add_2_11 rfl (lv_at hl 0 rfl) ?_
    refine lv_iload_n hx hb dJ2_add_2_12 rfl (lv_at hl 3 rfl) ?_
    refine lv_aload_n hx hb dJ2_add_2_13 rfl (lv_at hl 2 rfl) ?_
    refine hp_ast (n := gcap (j + 1)) (v := x) (j := gcap j) hx hb hK hH hS 4 hfq rfl (any_obj hG hPB hK hH (OBJ.set (OBJ.new hxo hq1) (fun _ => ⟨_, _, rfl⟩))) (by first | omega | (refine Nat.lt_of_lt_of_le (Nat.mod_lt _ ?_) ?_ <;> omega)) (by first | omega | (refine Nat.lt_of_lt_of_le (Nat.mod_lt _ ?_) ?_ <;> omega)) dJ2_add_2_14 (fun H locs _ hH hS => ?_)
    have hH : HP D CL (zA s0) (hset (hset (hset h q1 (.inl (K 4, gcap (j + 1), .inr (.inr (.inr (.inr (va_cpy f (fun _ => none) 0 0 (gcap j))))))) t) a (.inr (20, [.int mcn, .ref q1, .int (nI (gcap j))])) t) q1 (.inl (K 4, gcap (j + 1), .inr (.inr (.inr (.inr (va_up (va_cpy f (fun _ => none) 0 0 (gcap j)) (gcap j) (some x))))))) t) H := hH
    have e5 : (hset (hset (hset h q1 (.inl (K 4, gcap (j + 1), .inr (.inr (.inr (.inr (va_cpy f (fun _ => none) 0 0 (gcap j))))))) t) a (.inr (20, [.int mcn, .ref q1, .int (nI (gcap j))])) t) q1 (.inl (K 4, gcap (j + 1), .inr (.inr (.inr (.inr (va_up (va_cpy f (fun _ => none) 0 0 (gcap j)) (gcap j) (some x))))))) t) a = some (.inr (20, [.int mcn, .ref q1, .int (nI (gcap j))]), t) := (hset_ne _ _ _ (ne_oa hea hfq)).trans hea
    have e6 : (hset (hset (hset h q1 (.inl (K 4, gcap (j + 1), .inr (.inr (.inr (.inr (va_cpy f (fun _ => none) 0 0 (gcap j))))))) t) a (.inr (20, [.int mcn, .ref q1, .int (nI (gcap j))])) t) q1 (.inl (K 4, gcap (j + 1), .inr (.inr (.inr (.inr (va_up (va_cpy f (fun _ => none) 0 0 (gcap j)) (gcap j) (some x))))))) t) q1 = some (.inl (K 4, gcap (j + 1), .inr (.inr (.inr (.inr (va_up (va_cpy f (fun _ => none) 0 0 (gcap j)) (gcap j) (some x)))))), t) := hset_self _ _ _ _
    refine lv_aload_n hx hb dJ2_add_2_15 rfl (lv_at hl 1 rfl) ?_
    refine lv_iload_n hx hb dJ2_add_2_16 rfl (lv_at hl 3 rfl) ?_
    refine lv_iconst (v := nI 1) hx hb dJ2_add_2_17 (by decide) ?_
    refine lv_iadd hx hb dJ2_add_2_18 ?_
    refine lv_top (y := nI ((gcap j) + 1)) (nI_add _ _) ?_
    refine hp_put (C := RJ2) (T := TJ2) (N := 3) (v := .int (nI ((gcap j) + 1))) (ty := .int) hx hb hts in_J2 tyJ2 tyJ2_ok nmJ2 hown hK hH hS e5 rfl 2 (by decide) (hts _ q173) (fun _ z => z) rfl (by decide +kernel) rfl rfl (Nat.le_of_ble_eq_true rfl) dJ2_add_2_19 (fun H locs _ hH hS => ?_)
    have hH : HP D CL (zA s0) (hset (hset (hset (hset h q1 (.inl (K 4, gcap (j + 1), .inr (.inr (.inr (.inr (va_cpy f (fun _ => none) 0 0 (gcap j))))))) t) a (.inr (20, [.int mcn, .ref q1, .int (nI (gcap j))])) t) q1 (.inl (K 4, gcap (j + 1), .inr (.inr (.inr (.inr (va_up (va_cpy f (fun _ => none) 0 0 (gcap j)) (gcap j) (some x))))))) t) a (.inr (20, [.int mcn, .ref q1, .int (nI ((gcap j) + 1))])) t) H := hH
    have e7 : (hset (hset (hset (hset h q1 (.inl (K 4, gcap (j + 1), .inr (.inr (.inr (.inr (va_cpy f (fun _ => none) 0 0 (gcap j))))))) t) a (.inr (20, [.int mcn, .ref q1, .int (nI (gcap j))])) t) q1 (.inl (K 4, gcap (j + 1), .inr (.inr (.inr (.inr (va_up (va_cpy f (fun _ => none) 0 0 (gcap j)) (gcap j) (some x))))))) t) a (.inr (20, [.int mcn, .ref q1, .int (nI ((gcap j) + 1))])) t) q1 = some (.inl (K 4, gcap (j + 1), .inr (.inr (.inr (.inr (va_up (va_cpy f (fun _ => none) 0 0 (gcap j)) (gcap j) (some x)))))), t) := (hset_ne _ _ _ (ne_ao e6 e5)).trans e6
    have e8 : (hset (hset (hset (hset h q1 (.inl (K 4, gcap (j + 1), .inr (.inr (.inr (.inr (va_cpy f (fun _ => none) 0 0 (gcap j))))))) t) a (.inr (20, [.int mcn, .ref q1, .int (nI (gcap j))])) t) q1 (.inl (K 4, gcap (j + 1), .inr (.inr (.inr (.inr (va_up (va_cpy f (fun _ => none) 0 0 (gcap j)) (gcap j) (some x))))))) t) a (.inr (20, [.int mcn, .ref q1, .int (nI ((gcap j) + 1))])) t) a = some (.inr (20, [.int mcn, .ref q1, .int (nI ((gcap j) + 1))]), t) := hset_self _ _ _ _
    exact hp_vret hx hb hr hlocks hH hS (by first | decide | (simp [rmk, Value.category]; done) | (simp [rmk, Value.category]; omega)) (by first | decide | (simp [rmk, Value.category]; done) | (simp [rmk, Value.category]; omega)) dJ2_add_2_22 (⟨rfl, q1, hq1, hqa, pw_4 hqa⟩)
set_option maxHeartbeats 4000000 in
theorem mj_addK (hK0 : va_K D CL (TYS K) s0) {av : Nat → Nat} {ed mi : Nat} (hG : GX s0 wd av ed mi) {a t j : Nat} {L : List Nat} (hA0 : AL (K 4) ed h a t L j) {x : Nat} (hxo : OBJ h x) (hlt : L.length < gcap j) : Met l yJ2_add (ws_ yJ2_add cJ2_add 2 ((Option.some Jvm.ClassFile.FieldType.boolean))) (rmk 6 0 0) (va_Pc [.ref a, .ref x] (PB s0 D CL (h))) (QR s0 D CL (fun v h1 => v = some (.int (zI true)) ∧ AL (K 4) ed h1 a t (L ++ [x]) j ∧ frT t h h1 ∧ obK h h1)) 0 0 (zA s0) := by
  refine hp_met (by decide) (Nat.le_of_ble_eq_true rfl) hK0 ?_
  intro p e s m below meth cd ls hx hb hr hlocks hml hown hnm hts hK hPB hl hS hH hA
  have hl : lv_has ls 2 [(0, .ref a), (1, .ref x)] := hl
  have hown : s.vm.findClass RJ2 = some m.cls := hown
  obtain ⟨mcn, d, he, hob, hlen, hdd⟩ := hA0
  have hl13 := gcap_lt j hlen.2
  have hll := hlen.1
  rcases hdd with ⟨q1, -⟩ | ⟨q1, f, hf, hfi⟩
  · exfalso; subst q1; have : gcap 0 = 0 := rfl; omega
  refine lv_aload_n hx hb dJ2_add_0 rfl (lv_at hl 0 rfl) ?_
  refine lv_dup hx hb dJ2_add_1 rfl ?_
  refine hp_get (C := RJ2) (T := TJ2) (N := 3) (v := .int mcn) hx hb hts in_J2 hown hK hH he rfl 0 (by decide) (hts _ q175) (u_same (hts _ q176)) rfl dJ2_add_2 ?_
  refine lv_iconst (v := nI 1) hx hb dJ2_add_5 (by decide) ?_
  refine lv_iadd hx hb dJ2_add_6 ?_
  refine hp_put (C := RJ2) (T := TJ2) (N := 3) (v := .int (mcn + (nI 1))) (ty := .int) hx hb hts in_J2 tyJ2 tyJ2_ok nmJ2 hown hK hH hS he rfl 0 (by decide) (hts _ q175) (u_same (hts _ q176)) rfl (by decide +kernel) rfl rfl (Nat.le_of_ble_eq_true rfl) dJ2_add_7 (fun H locs _ hH hS => ?_)
  have hH : HP D CL (zA s0) (hset h a (.inr (20, [.int (mcn + (nI 1)), .ref d, .int (nI L.length)])) t) H := hH
  have e1 : (hset h a (.inr (20, [.int (mcn + (nI 1)), .ref d, .int (nI L.length)])) t) d = some (.inl (K 4, gcap j, .inr (.inr (.inr (.inr f)))), t) := (hset_ne _ _ _ (ne_ao hf he)).trans hf
  have e2 : (hset h a (.inr (20, [.int (mcn + (nI 1)), .ref d, .int (nI L.length)])) t) a = some (.inr (20, [.int (mcn + (nI 1)), .ref d, .int (nI L.length)]), t) := hset_self _ _ _ _
  refine lv_aload_n hx hb dJ2_add_10 rfl (lv_at hl 0 rfl) ?_
  refine lv_aload_n hx hb dJ2_add_11 rfl (lv_at hl 1 rfl) ?_
  refine lv_aload_n hx hb dJ2_add_12 rfl (lv_at hl 0 rfl) ?_
  refine hp_get (C := RJ2) (T := TJ2) (N := 3) (v := .ref d) hx hb hts in_J2 hown hK hH e2 rfl 1 (by decide) (hts _ q172) (fun _ z => z) rfl dJ2_add_13 ?_
  refine lv_aload_n hx hb dJ2_add_16 rfl (lv_at hl 0 rfl) ?_
  refine hp_get (C := RJ2) (T := TJ2) (N := 3) (v := .int (nI L.length)) hx hb hts in_J2 hown hK hH e2 rfl 2 (by decide) (hts _ q173) (fun _ z => z) rfl dJ2_add_17 ?_
  refine hp_callV (As := [.ref x, .ref d, .int (nI L.length)]) (rest := []) hx hb hml hown hts hPB hK hH hS (mj_put hK0 hG e2 e1 hlen.2 hlt (OBJ.set hxo (fun _ => ⟨_, _, rfl⟩))) e2 rfl rfl 3 (lw_V q580 q582 qs12 q106 q583) (by decide +kernel) ⟨rfl, rfl⟩ (by decide) rfl hl.1 rfl (Nat.le_of_ble_eq_true rfl) (by decide) dJ2_add_20 (fun v3 h5 H locs hp4 _ hH hS => ?_)
  obtain ⟨rfl, hpw⟩ := hp4
  refine lv_iconst (v := nI 1) hx hb dJ2_add_23 (by decide) ?_
  exact hp_zret hx hb hr rfl hlocks hH hS (by decide) (by decide) dJ2_add_24 (add_fin (pw_tr hpw) he (Or.inr ⟨_, hf⟩) (fun x u q => by rw [hf] at q; cases q; exact ⟨_, rfl⟩) hob hxo ⟨q1, hlen.2⟩ hlt hfi)
set_option maxHeartbeats 4000000 in
theorem mj_add0 (hK0 : va_K D CL (TYS K) s0) {av : Nat → Nat} {ed mi : Nat} (hG : GX s0 wd av ed mi) {a t j : Nat} {L : List Nat} (hA0 : AL (K 4) ed h a t L 0) {x : Nat} (hxo : OBJ h x) : Met l yJ2_add (ws_ yJ2_add cJ2_add 2 ((Option.some Jvm.ClassFile.FieldType.boolean))) (rmk 6 1 10) (va_Pc [.ref a, .ref x] (PB s0 D CL (h))) (QR s0 D CL (fun v h1 => v = some (.int (zI true)) ∧ AL (K 4) ed h1 a t (L ++ [x]) 1 ∧ frT t h h1 ∧ obK h h1)) 1 10 (zA s0) := by
  refine hp_met (by decide) (Nat.le_of_ble_eq_true rfl) hK0 ?_
  intro p e s m below meth cd ls hx hb hr hlocks hml hown hnm hts hK hPB hl hS hH hA
  have hl : lv_has ls 2 [(0, .ref a), (1, .ref x)] := hl
  have hown : s.vm.findClass RJ2 = some m.cls := hown
  obtain ⟨mcn, d, he, hob, hlen, hdd⟩ := hA0
  have hll := hlen.1
  have hL0 : L = [] := List.length_eq_zero_iff.mp (by have : gcap 0 = 0 := rfl; omega)
  subst hL0
  rcases hdd with ⟨-, rfl⟩ | ⟨q1, -⟩
  rotate_left
  · exact absurd q1 (Nat.lt_irrefl _)
  refine lv_aload_n hx hb dJ2_add_0 rfl (lv_at hl 0 rfl) ?_
  refine lv_dup hx hb dJ2_add_1 rfl ?_
  refine hp_get (C := RJ2) (T := TJ2) (N := 3) (v := .int mcn) hx hb hts in_J2 hown hK hH he rfl 0 (by decide) (hts _ q175) (u_same (hts _ q176)) rfl dJ2_add_2 ?_
  refine lv_iconst (v := nI 1) hx hb dJ2_add_5 (by decide) ?_
  refine lv_iadd hx hb dJ2_add_6 ?_
  refine hp_put (C := RJ2) (T := TJ2) (N := 3) (v := .int (mcn + (nI 1))) (ty := .int) hx hb hts in_J2 tyJ2 tyJ2_ok nmJ2 hown hK hH hS he rfl 0 (by decide) (hts _ q175) (u_same (hts _ q176)) rfl (by decide +kernel) rfl rfl (Nat.le_of_ble_eq_true rfl) dJ2_add_7 (fun H locs _ hH hS => ?_)
  have hH : HP D CL (zA s0) (hset h a (.inr (20, [.int (mcn + (nI 1)), .ref d, .int (nI 0)])) t) H := hH
  have e1 : (hset h a (.inr (20, [.int (mcn + (nI 1)), .ref d, .int (nI 0)])) t) a = some (.inr (20, [.int (mcn + (nI 1)), .ref d, .int (nI 0)]), t) := hset_self _ _ _ _
  refine lv_aload_n hx hb dJ2_add_10 rfl (lv_at hl 0 rfl) ?_
  refine lv_aload_n hx hb dJ2_add_11 rfl (lv_at hl 1 rfl) ?_
  refine lv_aload_n hx hb dJ2_add_12 rfl (lv_at hl 0 rfl) ?_
  refine hp_get (C := RJ2) (T := TJ2) (N := 3) (v := .ref d) hx hb hts in_J2 hown hK hH e1 rfl 1 (by decide) (hts _ q172) (fun _ z => z) rfl dJ2_add_13 ?_
  refine lv_aload_n hx hb dJ2_add_16 rfl (lv_at hl 0 rfl) ?_
  refine hp_get (C := RJ2) (T := TJ2) (N := 3) (v := .int (nI 0)) hx hb hts in_J2 hown hK hH e1 rfl 2 (by decide) (hts _ q173) (fun _ z => z) rfl dJ2_add_17 ?_
  refine hp_callV (As := [.ref x, .ref d, .int (nI 0)]) (rest := []) hx hb hml hown hts hPB hK hH hS (mj_put0 hK0 hG e1 (OBJ.set hxo (fun _ => ⟨_, _, rfl⟩))) e1 rfl rfl 3 (lw_V q580 q582 qs12 q106 q583) (by decide +kernel) ⟨rfl, rfl⟩ (by decide) rfl hl.1 rfl (Nat.le_of_ble_eq_true rfl) (by decide) dJ2_add_20 (fun v2 h4 H locs hp3 _ hH hS => ?_)
  obtain ⟨rfl, q, hq1, hqa, hpw⟩ := hp3
  refine lv_iconst (v := nI 1) hx hb dJ2_add_23 (by decide) ?_
  exact hp_zret hx hb hr rfl hlocks hH hS (by decide) (by decide) dJ2_add_24 (add_fin (j := 1) (L := []) (pw_tr hpw) he (Or.inl (hset_none hq1)) (fun x u q => by rw [hset_none hq1] at q; cases q) hob hxo (by decide) (by decide) (fun i hi => absurd hi (Nat.not_lt_zero _)))
set_option maxHeartbeats 4000000 in
theorem mj_addN (hK0 : va_K D CL (TYS K) s0) {av : Nat → Nat} {ed mi : Nat} (hG : GX s0 wd av ed mi) {a t j : Nat} {L : List Nat} (hA0 : AL (K 4) ed h a t L j) {x : Nat} (hxo : OBJ h x) (heq : L.length = gcap j) (hj : 0 < j ∧ j < 13) : Met l yJ2_add (ws_ yJ2_add cJ2_add 2 ((Option.some Jvm.ClassFile.FieldType.boolean))) (rmk 6 1 (gcap (j + 1))) (va_Pc [.ref a, .ref x] (PB s0 D CL (h))) (QR s0 D CL (fun v h1 => v = some (.int (zI true)) ∧ AL (K 4) ed h1 a t (L ++ [x]) (j + 1) ∧ frT t h h1 ∧ obK h h1)) 1 (gcap (j + 1)) (zA s0) := by
  refine hp_met (by decide) (Nat.le_of_ble_eq_true rfl) hK0 ?_
  intro p e s m below meth cd ls hx hb hr hlocks hml hown hnm hts hK hPB hl hS hH hA
  have hl : lv_has ls 2 [(0, .ref a), (1, .ref x)] := hl
  have hown : s.vm.findClass RJ2 = some m.cls := hown
  obtain ⟨mcn, d, he, hob, hlen, hdd⟩ := hA0
  have hl13 := gcap_lt j hlen.2
  have hll := hlen.1
  rcases hdd with ⟨q1, -⟩ | ⟨q1, f, hf, hfi⟩
  · exact absurd q1 (by omega)
  have hob2 : ∀ i, i < gcap j → ∀ y, f i = some y → OBJ h y := fun i hi y hy => by have z := hfi i (by omega); rw [hy] at z; cases z; exact hob _ (getD_mem (by omega))
  have hg3 := gcap_s hj.1
  have hg2 := gcap_ge hj.1
  rw [heq] at he
  refine lv_aload_n hx hb dJ2_add_0 rfl (lv_at hl 0 rfl) ?_
  refine lv_dup hx hb dJ2_add_1 rfl ?_
  refine hp_get (C := RJ2) (T := TJ2) (N := 3) (v := .int mcn) hx hb hts in_J2 hown hK hH he rfl 0 (by decide) (hts _ q175) (u_same (hts _ q176)) rfl dJ2_add_2 ?_
  refine lv_iconst (v := nI 1) hx hb dJ2_add_5 (by decide) ?_
  refine lv_iadd hx hb dJ2_add_6 ?_
  refine hp_put (C := RJ2) (T := TJ2) (N := 3) (v := .int (mcn + (nI 1))) (ty := .int) hx hb hts in_J2 tyJ2 tyJ2_ok nmJ2 hown hK hH hS he rfl 0 (by decide) (hts _ q175) (u_same (hts _ q176)) rfl (by decide +kernel) rfl rfl (Nat.le_of_ble_eq_true rfl) dJ2_add_7 (fun H locs _ hH hS => ?_)
  have hH : HP D CL (zA s0) (hset h a (.inr (20, [.int (mcn + (nI 1)), .ref d, .int (nI (gcap j))])) t) H := hH
  have e1 : (hset h a (.inr (20, [.int (mcn + (nI 1)), .ref d, .int (nI (gcap j))])) t) d = some (.inl (K 4, gcap j, .inr (.inr (.inr (.inr f)))), t) := (hset_ne _ _ _ (ne_ao hf he)).trans hf
  have e2 : (hset h a (.inr (20, [.int (mcn + (nI 1)), .ref d, .int (nI (gcap j))])) t) a = some (.inr (20, [.int (mcn + (nI 1)), .ref d, .int (nI (gcap j))]), t) := hset_self _ _ _ _
  refine lv_aload_n hx hb dJ2_add_10 rfl (lv_at hl 0 rfl) ?_
  refine lv_aload_n hx hb dJ2_add_11 rfl (lv_at hl 1 rfl) ?_
  refine lv_aload_n hx hb dJ2_add_12 rfl (lv_at hl 0 rfl) ?_
  refine hp_get (C := RJ2) (T := TJ2) (N := 3) (v := .ref d) hx hb hts in_J2 hown hK hH e2 rfl 1 (by decide) (hts _ q172) (fun _ z => z) rfl dJ2_add_13 ?_
  refine lv_aload_n hx hb dJ2_add_16 rfl (lv_at hl 0 rfl) ?_
  refine hp_get (C := RJ2) (T := TJ2) (N := 3) (v := .int (nI (gcap j))) hx hb hts in_J2 hown hK hH e2 rfl 2 (by decide) (hts _ q173) (fun _ z => z) rfl dJ2_add_17 ?_
  refine hp_callV (As := [.ref x, .ref d, .int (nI (gcap j))]) (rest := []) hx hb hml hown hts hPB hK hH hS (mj_putN hK0 hG e2 e1 (fun i hi y hy => OBJ.set (hob2 i hi y hy) (fun _ => ⟨_, _, rfl⟩)) hj (OBJ.set hxo (fun _ => ⟨_, _, rfl⟩))) e2 rfl rfl 3 (lw_V q580 q582 qs12 q106 q583) (by decide +kernel) ⟨rfl, rfl⟩ (by first | decide | (simp [rmk, Value.category]; done) | (simp [rmk, Value.category]; omega)) rfl hl.1 rfl (Nat.le_of_ble_eq_true rfl) (by first | decide | (simp [rmk, Value.category]; done) | (simp [rmk, Value.category]; omega)) dJ2_add_20 (fun v3 h5 H locs hp4 _ hH hS => ?_)
  obtain ⟨rfl, q, hq1, hqa, hpw⟩ := hp4
  refine lv_iconst (v := nI 1) hx hb dJ2_add_23 (by decide) ?_
  exact hp_zret hx hb hr rfl hlocks hH hS (by first | decide | (simp [rmk, Value.category]; done) | (simp [rmk, Value.category]; omega)) (by first | decide | (simp [rmk, Value.category]; done) | (simp [rmk, Value.category]; omega)) dJ2_add_24 (add_fin (j := j + 1) (f := va_cpy f (fun _ => none) 0 0 (gcap j)) (by rw [heq]; exact pw_tr hpw) (heq ▸ he) (Or.inl (hset_none hq1)) (fun x u q => by rw [hset_none hq1] at q; cases q) hob hxo (by omega) (by omega) (fun i hi => (cpy_at (by omega)).trans (hfi i hi)))
end MODEL
