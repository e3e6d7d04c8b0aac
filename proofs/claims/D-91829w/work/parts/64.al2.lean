/-! by gen/mspec.py -/
set_option maxRecDepth 100000
section MODEL
variable {l : Launch} {s0 : State} {D : va_G} {K : Nat → ClassId} {wd : Nat → Nat} {o : Nat} {h : Hp} {I : Nat → Int32} {V : Nat → Nat → Int32} {J : Nat → Nat → Int64}
set_option maxHeartbeats 4000000 in
theorem mj_newLen (hK0 : va_K D CL (TYS K) s0) {n : Nat} (hn0 : 2 ≤ n ∧ n ≤ 100000) : Met l yJ13_newLength (ws_ yJ13_newLength cJ13_newLength 4 ((Option.some Jvm.ClassFile.FieldType.int))) (rmk 1 0 0) (va_Pc [.int (nI n), .int (nI 1), .int (nI (n / 2))] (PB s0 D CL (h))) (QR s0 D CL (fun v h1 => v = some (.int (nI (n + n / 2))) ∧ h1 = h)) 0 0 (zA s0) := by
  refine hp_met (by decide) (Nat.le_of_ble_eq_true rfl) hK0 ?_
  intro p e s m below meth cd ls hx hb hr hlocks hml hown hnm hts hK hPB hl hS hH hA
  have hl : lv_has ls 4 [(0, .int (nI n)), (1, .int (nI 1)), (2, .int (nI (n / 2)))] := hl
  have hown : s.vm.findClass RJ13 = some m.cls := hown
  refine lv_iload_n hx hb dJ13_newLength_0 rfl (lv_at hl 0 rfl) ?_
  refine lv_iload_n hx hb dJ13_newLength_1 rfl (lv_at hl 1 rfl) ?_
  refine lv_iload_n hx hb dJ13_newLength_2 rfl (lv_at hl 2 rfl) ?_
  refine va_mmax hx hb (hml.trans hl.1.symm) hown (hts _ q595) (hts _ q409) (hts _ q114) (hts _ q410) (Nat.le_of_ble_eq_true rfl) (Nat.le_of_ble_eq_true rfl) (Nat.le_of_ble_eq_true rfl) (Nat.le_of_ble_eq_true rfl) dJ13_newLength_3 ?_
  refine lv_top (y := nI (max 1 (n / 2))) (i_maxN (by first | omega | (refine Nat.lt_of_lt_of_le (Nat.mod_lt _ ?_) ?_ <;> omega)) (by first | omega | (refine Nat.lt_of_lt_of_le (Nat.mod_lt _ ?_) ?_ <;> omega))) ?_
  refine lv_iadd hx hb dJ13_newLength_6 ?_
  refine lv_top (y := nI (n + n / 2)) ((nI_add _ _).trans (congrArg nI (by omega))) ?_
  refine lv_istore_n (lv' := [(3, .int (nI (n + n / 2))), (0, .int (nI n)), (1, .int (nI 1)), (2, .int (nI (n / 2)))]) hx hb dJ13_newLength_7 rfl hl (by decide) rfl (fun ls hl => ?_)
  refine lv_iconst (v := nI 0) hx hb dJ13_newLength_8 (by decide) ?_
  refine lv_iload_n hx hb dJ13_newLength_9 rfl (lv_at hl 0 rfl) ?_
  refine lvN_ge (tgt := 21) hx hb (by first | omega | (refine Nat.lt_of_lt_of_le (Nat.mod_lt _ ?_) ?_ <;> omega)) (by first | omega | (refine Nat.lt_of_lt_of_le (Nat.mod_lt _ ?_) ?_ <;> omega)) dJ13_newLength_10 (by decide) (fun c1 => ?_) (fun c1 => ?_)
  · exact absurd c1 (by omega)
  · refine lv_iload_n hx hb dJ13_newLength_13 rfl (lv_at hl 0 rfl) ?_
    refine lv_ldc (v := 2147483639) hx hb hown (hts _ q596) dJ13_newLength_14 ?_
    refine lv_icmp_gt (tgt := 21) hx hb dJ13_newLength_16 (by decide) (fun c2 => ?_) (fun c2 => ?_)
    · exact absurd c2 (nlt_big (by omega))
    · refine lv_iload_n hx hb dJ13_newLength_19 rfl (lv_at hl 0 rfl) ?_
      exact hp_iret hx hb hr hlocks hH hS (by decide) (by decide) dJ13_newLength_20 (⟨rfl, rfl⟩)
set_option maxHeartbeats 4000000 in
theorem mj_cpy2 (hK0 : va_K D CL (TYS K) s0) {av : Nat → Nat} {ed mi : Nat} (hG : GX s0 wd av ed mi) {d n n2 t : Nat} {f : Nat → Option Nat} (hf : h d = some (.inl (K 4, n, .inr (.inr (.inr (.inr f)))), t)) (hob : ∀ i, i < n → ∀ y, f i = some y → OBJ h y) (hn2 : n ≤ n2 ∧ n2 ≤ 2000) : Met l yJ14_copyOf_2 (ws_ yJ14_copyOf_2 cJ14_copyOf_2 4 ((Option.some (Jvm.ClassFile.FieldType.array (Jvm.ClassFile.FieldType.object "java/lang/Object"))))) (rmk 1 1 n2) (va_Pc [.ref d, .int (nI n2), .ref mi] (PB s0 D CL (h))) (QR s0 D CL (fun v h1 => ∃ q, v = some (.ref q) ∧ h q = none ∧ h1 = hset h q (.inl (K 4, n2, .inr (.inr (.inr (.inr (va_cpy f (fun _ => none) 0 0 n)))))) t)) 1 n2 (zA s0) := by
  refine hp_met (by decide) (Nat.le_of_ble_eq_true rfl) hK0 ?_
  intro p e s m below meth cd ls hx hb hr hlocks hml hown hnm hts hK hPB hl hS hH hA
  have hl : lv_has ls 4 [(0, .ref d), (1, .int (nI n2)), (2, .ref mi)] := hl
  have hown : s.vm.findClass RJ14 = some m.cls := hown
  refine lv_aload_n hx hb dJ14_copyOf_2_0 rfl (lv_at hl 2 rfl) ?_
  refine va_ldcM (mi := mi) hx hb hown (hts _ q631) (hG.mr hPB) dJ14_copyOf_2_1 ?_
  refine lv_acmp_ne (rx := (some mi)) (ry := (some mi)) (tgt := 13) hx hb dJ14_copyOf_2_3 (by decide) (fun c1 => ?_) (fun c1 => ?_)
  · exact absurd rfl c1
  · refine lv_iload_n hx hb dJ14_copyOf_2_6 rfl (lv_at hl 1 rfl) ?_
    obtain ⟨nw2, hnw2, nnw2⟩ := hH.fr
    refine hp_newq (n := nI n2) (N' := n2) hx hb hown (hts _ q633) (hG.ao hPB) hK hH hS hA 4 rfl (nI_pos (by first | omega | (refine Nat.lt_of_lt_of_le (Nat.mod_lt _ ?_) ?_ <;> omega))) (nI_clamp (by first | omega | (refine Nat.lt_of_lt_of_le (Nat.mod_lt _ ?_) ?_ <;> omega))) (by first | omega | (refine Nat.lt_of_lt_of_le (Nat.mod_lt _ ?_) ?_ <;> omega)) (by first | decide | (simp [rmk, Value.category]; done) | (simp [rmk, Value.category]; omega)) (by first | decide | (simp [rmk, Value.category]; done) | (simp [rmk, Value.category]; omega)) t dJ14_copyOf_2_7 (fun H _ hH hS => ?_)
    rw [← hnw2] at hH ⊢
    have hH : HP D CL (zA s0) (hset h nw2 (.inl (K 4, n2, .inr (.inr (.inr (.inr (fun _ => none)))))) t) H := hH
    have x3 : d ≠ nw2 := ne_new hf nnw2
    have e4 : (hset h nw2 (.inl (K 4, n2, .inr (.inr (.inr (.inr (fun _ => none)))))) t) d = some (.inl (K 4, n, .inr (.inr (.inr (.inr f)))), t) := (hset_ne _ _ _ (x3)).trans hf
    have e5 : (hset h nw2 (.inl (K 4, n2, .inr (.inr (.inr (.inr (fun _ => none)))))) t) nw2 = some (.inl (K 4, n2, .inr (.inr (.inr (.inr (fun _ => none))))), t) := hset_self _ _ _ _
    refine lv_goto (tgt := 24) hx hb dJ14_copyOf_2_10 (by decide) ?_
    refine lv_astore_n (lv' := [(3, .ref nw2), (0, .ref d), (1, .int (nI n2)), (2, .ref mi)]) hx hb dJ14_copyOf_2_24 rfl hl (by decide) rfl (fun ls hl => ?_)
    refine lv_aload_n hx hb dJ14_copyOf_2_25 rfl (lv_at hl 1 rfl) ?_
    refine lv_iconst (v := nI 0) hx hb dJ14_copyOf_2_26 (by decide) ?_
    refine lv_aload_n hx hb dJ14_copyOf_2_27 rfl (lv_at hl 0 rfl) ?_
    refine lv_iconst (v := nI 0) hx hb dJ14_copyOf_2_28 (by decide) ?_
    refine lv_aload_n hx hb dJ14_copyOf_2_29 rfl (lv_at hl 1 rfl) ?_
    refine hp_alen (v := nI n) hx hb hK hH 4 e4 rfl rfl dJ14_copyOf_2_30 ?_
    refine lv_iload_n hx hb dJ14_copyOf_2_31 rfl (lv_at hl 2 rfl) ?_
    refine va_mmin hx hb (hml.trans hl.1.symm) hown (hts _ q634) (hts _ q412) (hts _ q114) (hts _ q413) (by first | decide | (simp [rmk, Value.category]; done) | (simp [rmk, Value.category]; omega)) (by first | decide | (simp [rmk, Value.category]; done) | (simp [rmk, Value.category]; omega)) (by first | decide | (simp [rmk, Value.category]; done) | (simp [rmk, Value.category]; omega)) (by first | decide | (simp [rmk, Value.category]; done) | (simp [rmk, Value.category]; omega)) dJ14_copyOf_2_32 ?_
    refine lv_top (y := nI n) ((i_minN (by omega) (by omega)).trans (congrArg nI (by omega))) ?_
    refine hp_copyq (n0 := n) (n1 := n2) (n := nI n) (dp := nI 0) (sp := nI 0) hx hb (hml.trans hl.1.symm) hown (hts _ q635) (hts _ q533) (hts _ q532) (hts _ q121) hK hH hS 4 4 e4 e5 rfl rfl (nI_pos (by first | omega | (refine Nat.lt_of_lt_of_le (Nat.mod_lt _ ?_) ?_ <;> omega))) (nI_pos (by first | omega | (refine Nat.lt_of_lt_of_le (Nat.mod_lt _ ?_) ?_ <;> omega))) (nI_pos (by first | omega | (refine Nat.lt_of_lt_of_le (Nat.mod_lt _ ?_) ?_ <;> omega))) (by rw [nI_clamp (by first | omega | (refine Nat.lt_of_lt_of_le (Nat.mod_lt _ ?_) ?_ <;> omega)), nI_clamp (by first | omega | (refine Nat.lt_of_lt_of_le (Nat.mod_lt _ ?_) ?_ <;> omega))]; omega) (by rw [nI_clamp (by first | omega | (refine Nat.lt_of_lt_of_le (Nat.mod_lt _ ?_) ?_ <;> omega)), nI_clamp (by first | omega | (refine Nat.lt_of_lt_of_le (Nat.mod_lt _ ?_) ?_ <;> omega))]; omega) (fun i hi y hy => any_obj hG hPB hK hH (OBJ.new (hob i (by rw [nI_clamp (by omega)] at hi; exact hi) y (by rw [nI_clamp (by omega), Nat.zero_add] at hy; exact hy)) nnw2)) (by first | decide | (simp [rmk, Value.category]; done) | (simp [rmk, Value.category]; omega)) (Nat.le_of_ble_eq_true rfl) dJ14_copyOf_2_35 (fun H locs _ hH hS => ?_)
    rw [nI_clamp (show 0 < 2 ^ 31 by omega), nI_clamp (show n < 2 ^ 31 by omega)] at hH
    have hH : HP D CL (zA s0) (hset (hset h nw2 (.inl (K 4, n2, .inr (.inr (.inr (.inr (fun _ => none)))))) t) nw2 (.inl (K 4, n2, .inr (.inr (.inr (.inr (va_cpy f (fun _ => none) 0 0 n)))))) t) H := hH
    have e6 : (hset (hset h nw2 (.inl (K 4, n2, .inr (.inr (.inr (.inr (fun _ => none)))))) t) nw2 (.inl (K 4, n2, .inr (.inr (.inr (.inr (va_cpy f (fun _ => none) 0 0 n)))))) t) d = some (.inl (K 4, n, .inr (.inr (.inr (.inr f)))), t) := (hset_ne _ _ _ (x3)).trans e4
    have e7 : (hset (hset h nw2 (.inl (K 4, n2, .inr (.inr (.inr (.inr (fun _ => none)))))) t) nw2 (.inl (K 4, n2, .inr (.inr (.inr (.inr (va_cpy f (fun _ => none) 0 0 n)))))) t) nw2 = some (.inl (K 4, n2, .inr (.inr (.inr (.inr (va_cpy f (fun _ => none) 0 0 n))))), t) := hset_self _ _ _ _
    refine lv_aload_n hx hb dJ14_copyOf_2_38 rfl (lv_at hl 0 rfl) ?_
    exact hp_aret hx hb hr (Or.inr ⟨_, rfl⟩) (Or.inr ⟨_, rfl⟩) hlocks hH hS (by first | decide | (simp [rmk, Value.category]; done) | (simp [rmk, Value.category]; omega)) (by first | decide | (simp [rmk, Value.category]; done) | (simp [rmk, Value.category]; omega)) dJ14_copyOf_2_39 (⟨_, rfl, nnw2, hset_hset _ _ _ _ _ _⟩)
set_option maxHeartbeats 4000000 in
theorem mj_cpy (hK0 : va_K D CL (TYS K) s0) {av : Nat → Nat} {ed mi : Nat} (hG : GX s0 wd av ed mi) {d n n2 t : Nat} {f : Nat → Option Nat} (hf : h d = some (.inl (K 4, n, .inr (.inr (.inr (.inr f)))), t)) (hob : ∀ i, i < n → ∀ y, f i = some y → OBJ h y) (hn2 : n ≤ n2 ∧ n2 ≤ 2000) : Met l yJ14_copyOf (ws_ yJ14_copyOf cJ14_copyOf 2 ((Option.some (Jvm.ClassFile.FieldType.array (Jvm.ClassFile.FieldType.object "java/lang/Object"))))) (rmk 2 1 n2) (va_Pc [.ref d, .int (nI n2)] (PB s0 D CL (h))) (QR s0 D CL (fun v h1 => ∃ q, v = some (.ref q) ∧ h q = none ∧ h1 = hset h q (.inl (K 4, n2, .inr (.inr (.inr (.inr (va_cpy f (fun _ => none) 0 0 n)))))) t)) 1 n2 (zA s0) := by
  refine hp_met (by decide) (Nat.le_of_ble_eq_true rfl) hK0 ?_
  intro p e s m below meth cd ls hx hb hr hlocks hml hown hnm hts hK hPB hl hS hH hA
  have hl : lv_has ls 2 [(0, .ref d), (1, .int (nI n2))] := hl
  have hown : s.vm.findClass RJ14 = some m.cls := hown
  refine lv_aload_n hx hb dJ14_copyOf_0 rfl (lv_at hl 0 rfl) ?_
  refine lv_iload_n hx hb dJ14_copyOf_1 rfl (lv_at hl 1 rfl) ?_
  refine lv_aload_n hx hb dJ14_copyOf_2 rfl (lv_at hl 0 rfl) ?_
  refine va_getC (C := "[Ljava/lang/Object;") (mi := mi) hx hb (hml.trans hl.1.symm) hown (hts _ q603) (va_Nw.use rfl (hG.nd hPB q2032)) (hts _ q2031) (hts _ q604) (hts _ q627) (hG.mr hPB) (recv_oa hK hH hf) (by first | decide | (simp [rmk, Value.category]; done) | (simp [rmk, Value.category]; omega)) (Nat.le_of_ble_eq_true rfl) dJ14_copyOf_3 ?_
  refine hp_callS (As := [.ref d, .int (nI n2), .ref mi]) (rest := []) hx hb hml hown hts hPB hH hS (mj_cpy2 hK0 hG (n2 := n2) hf hob hn2) 3 (lw_S q628 q629 q123 q630) (by decide +kernel) ⟨rfl, rfl⟩ (by first | decide | (simp [rmk, Value.category]; done) | (simp [rmk, Value.category]; omega)) rfl hl.1 rfl (Nat.le_of_ble_eq_true rfl) (by first | decide | (simp [rmk, Value.category]; done) | (simp [rmk, Value.category]; omega)) dJ14_copyOf_6 (fun v1 h3 H locs hp2 _ hH hS => ?_)
  obtain ⟨q1, rfl, hq1, hq2⟩ := hp2
  rw [hq2] at hH
  exact hp_aret hx hb hr (Or.inr ⟨_, rfl⟩) (Or.inr ⟨_, rfl⟩) hlocks hH hS (by first | decide | (simp [rmk, Value.category]; done) | (simp [rmk, Value.category]; omega)) (by first | decide | (simp [rmk, Value.category]; done) | (simp [rmk, Value.category]; omega)) dJ14_copyOf_9 (⟨_, rfl, hq1, rfl⟩)
set_option maxHeartbeats 4000000 in
theorem mj_grow0 (hK0 : va_K D CL (TYS K) s0) {av : Nat → Nat} {ed mi : Nat} (hG : GX s0 wd av ed mi) {a t : Nat} {mcn : Int32} (he : h a = some (.inr (20, [.int mcn, .ref ed, .int (nI 0)]), t)) : Met l yJ2_grow_2 (ws_ yJ2_grow_2 cJ2_grow_2 4 ((Option.some (Jvm.ClassFile.FieldType.array (Jvm.ClassFile.FieldType.object "java/lang/Object"))))) (rmk 3 1 10) (va_Pc [.ref a, .int (nI 1)] (PB s0 D CL (h))) (QR s0 D CL (fun v h1 => ∃ q, v = some (.ref q) ∧ h q = none ∧ q ≠ a ∧ h1 = hset (hset h q (.inl (K 4, 10, .inr (.inr (.inr (.inr (fun _ => none)))))) t) a (.inr (20, [.int mcn, .ref q, .int (nI 0)])) t)) 1 10 (zA s0) := by
  refine hp_met (by decide) (Nat.le_of_ble_eq_true rfl) hK0 ?_
  intro p e s m below meth cd ls hx hb hr hlocks hml hown hnm hts hK hPB hl hS hH hA
  have hl : lv_has ls 4 [(0, .ref a), (1, .int (nI 1))] := hl
  have hown : s.vm.findClass RJ2 = some m.cls := hown
  refine lv_aload_n hx hb dJ2_grow_2_0 rfl (lv_at hl 0 rfl) ?_
  refine hp_get (C := RJ2) (T := TJ2) (N := 3) (v := .ref ed) hx hb hts in_J2 hown hK hH he rfl 1 (by decide) (hts _ q172) (fun _ z => z) rfl dJ2_grow_2_1 ?_
  refine va_tlen (v := nI 0) hx hb (hG.ea hPB) hS rfl dJ2_grow_2_4 ?_
  refine lv_istore_n (lv' := [(2, .int (nI 0)), (0, .ref a), (1, .int (nI 1))]) hx hb dJ2_grow_2_5 rfl hl (by decide) rfl (fun ls hl => ?_)
  refine lv_iload_n hx hb dJ2_grow_2_6 rfl (lv_at hl 0 rfl) ?_
  refine lvZ_gt (tgt := 20) hx hb (by first | omega | (refine Nat.lt_of_lt_of_le (Nat.mod_lt _ ?_) ?_ <;> omega)) dJ2_grow_2_7 (by decide) (fun c1 => ?_) (fun c1 => ?_)
  · exact absurd c1 (by decide)
  · refine lv_aload_n hx hb dJ2_grow_2_10 rfl (lv_at hl 1 rfl) ?_
    refine hp_get (C := RJ2) (T := TJ2) (N := 3) (v := .ref ed) hx hb hts in_J2 hown hK hH he rfl 1 (by decide) (hts _ q172) (fun _ z => z) rfl dJ2_grow_2_11 ?_
    refine va_gets hx hb (hG.em hPB) hS hown (hts _ q170) (fun _ z => z) dJ2_grow_2_14 ?_
    refine lv_acmp_eq (rx := (some ed)) (ry := (some ed)) (tgt := 45) hx hb dJ2_grow_2_17 (by decide) (fun c2 => ?_) (fun c2 => ?_)
    · refine lv_aload_n hx hb dJ2_grow_2_45 rfl (lv_at hl 1 rfl) ?_
      refine lv_bipush (v := nI 10) hx hb dJ2_grow_2_46 (by decide) ?_
      refine lv_iload_n hx hb dJ2_grow_2_48 rfl (lv_at hl 2 rfl) ?_
      refine va_mmax hx hb (hml.trans hl.1.symm) hown (hts _ q636) (hts _ q409) (hts _ q114) (hts _ q410) (Nat.le_of_ble_eq_true rfl) (Nat.le_of_ble_eq_true rfl) (Nat.le_of_ble_eq_true rfl) (Nat.le_of_ble_eq_true rfl) dJ2_grow_2_49 ?_
      refine lv_top (y := nI 10) (i_maxN (by omega) (by omega)) ?_
      obtain ⟨nw3, hnw3, nnw3⟩ := hH.fr
      refine hp_newq (n := nI 10) (N' := 10) hx hb hown (hts _ q637) (hG.ao hPB) hK hH hS hA 4 rfl (nI_pos (by first | omega | (refine Nat.lt_of_lt_of_le (Nat.mod_lt _ ?_) ?_ <;> omega))) (nI_clamp (by first | omega | (refine Nat.lt_of_lt_of_le (Nat.mod_lt _ ?_) ?_ <;> omega))) (by first | omega | (refine Nat.lt_of_lt_of_le (Nat.mod_lt _ ?_) ?_ <;> omega)) (by first | decide | (simp [rmk]; done) | (simp [rmk]; omega)) (by first | decide | (simp [rmk]; done) | (simp [rmk]; omega)) t dJ2_grow_2_52 (fun H _ hH hS => ?_)
      rw [← hnw3] at hH ⊢
      have hH : HP D CL (zA s0) (hset h nw3 (.inl (K 4, 10, .inr (.inr (.inr (.inr (fun _ => none)))))) t) H := hH
      have x4 : a ≠ nw3 := ne_new he nnw3
      have e5 : (hset h nw3 (.inl (K 4, 10, .inr (.inr (.inr (.inr (fun _ => none)))))) t) a = some (.inr (20, [.int mcn, .ref ed, .int (nI 0)]), t) := (hset_ne _ _ _ (x4)).trans he
      have e6 : (hset h nw3 (.inl (K 4, 10, .inr (.inr (.inr (.inr (fun _ => none)))))) t) nw3 = some (.inl (K 4, 10, .inr (.inr (.inr (.inr (fun _ => none))))), t) := hset_self _ _ _ _
      refine lv_dup_x1 hx hb dJ2_grow_2_55 rfl rfl ?_
      refine hp_put (C := RJ2) (T := TJ2) (N := 3) (v := .ref nw3) (ty := (.array (.object "java/lang/Object"))) hx hb hts in_J2 tyJ2 tyJ2_ok nmJ2 hown hK hH hS e5 rfl 1 (by decide) (hts _ q172) (fun _ z => z) rfl (by decide +kernel) rfl rfl (Nat.le_of_ble_eq_true rfl) dJ2_grow_2_56 (fun H locs _ hH hS => ?_)
      have hH : HP D CL (zA s0) (hset (hset h nw3 (.inl (K 4, 10, .inr (.inr (.inr (.inr (fun _ => none)))))) t) a (.inr (20, [.int mcn, .ref nw3, .int (nI 0)])) t) H := hH
      have e7 : (hset (hset h nw3 (.inl (K 4, 10, .inr (.inr (.inr (.inr (fun _ => none)))))) t) a (.inr (20, [.int mcn, .ref nw3, .int (nI 0)])) t) nw3 = some (.inl (K 4, 10, .inr (.inr (.inr (.inr (fun _ => none))))), t) := (hset_ne _ _ _ ((Ne.symm x4))).trans e6
      have e8 : (hset (hset h nw3 (.inl (K 4, 10, .inr (.inr (.inr (.inr (fun _ => none)))))) t) a (.inr (20, [.int mcn, .ref nw3, .int (nI 0)])) t) a = some (.inr (20, [.int mcn, .ref nw3, .int (nI 0)]), t) := hset_self _ _ _ _
      exact hp_aret hx hb hr (Or.inr ⟨_, rfl⟩) (Or.inr ⟨_, rfl⟩) hlocks hH hS (by first | decide | (simp [rmk]; done) | (simp [rmk]; omega)) (by first | decide | (simp [rmk]; done) | (simp [rmk]; omega)) dJ2_grow_2_59 (⟨_, rfl, nnw3, fun q => ne_new he nnw3 q.symm, rfl⟩)
    · exact absurd rfl c2
set_option maxHeartbeats 4000000 in
theorem mj_growN (hK0 : va_K D CL (TYS K) s0) {av : Nat → Nat} {ed mi : Nat} (hG : GX s0 wd av ed mi) {a t j d : Nat} {mcn : Int32} {f : Nat → Option Nat} (he : h a = some (.inr (20, [.int mcn, .ref d, .int (nI (gcap j))]), t)) (hf : h d = some (.inl (K 4, gcap j, .inr (.inr (.inr (.inr f)))), t)) (hob : ∀ i, i < gcap j → ∀ y, f i = some y → OBJ h y) (hj : 0 < j ∧ j < 13) : Met l yJ2_grow_2 (ws_ yJ2_grow_2 cJ2_grow_2 4 ((Option.some (Jvm.ClassFile.FieldType.array (Jvm.ClassFile.FieldType.object "java/lang/Object"))))) (rmk 3 1 (gcap (j + 1))) (va_Pc [.ref a, .int (nI (gcap j + 1))] (PB s0 D CL (h))) (QR s0 D CL (fun v h1 => ∃ q, v = some (.ref q) ∧ h q = none ∧ q ≠ a ∧ h1 = hset (hset h q (.inl (K 4, gcap (j + 1), .inr (.inr (.inr (.inr (va_cpy f (fun _ => none) 0 0 (gcap j))))))) t) a (.inr (20, [.int mcn, .ref q, .int (nI (gcap j))])) t)) 1 (gcap (j + 1)) (zA s0) := by
  refine hp_met (by decide) (Nat.le_of_ble_eq_true rfl) hK0 ?_
  intro p e s m below meth cd ls hx hb hr hlocks hml hown hnm hts hK hPB hl hS hH hA
  have hl : lv_has ls 4 [(0, .ref a), (1, .int (nI (gcap j + 1)))] := hl
  have hown : s.vm.findClass RJ2 = some m.cls := hown
  have hg1 := gcap_lt (j + 1) (by omega)
  have hg2 := gcap_ge hj.1
  have hg3 := gcap_s hj.1
  refine lv_aload_n hx hb dJ2_grow_2_0 rfl (lv_at hl 0 rfl) ?_
  refine hp_get (C := RJ2) (T := TJ2) (N := 3) (v := .ref d) hx hb hts in_J2 hown hK hH he rfl 1 (by decide) (hts _ q172) (fun _ z => z) rfl dJ2_grow_2_1 ?_
  refine hp_alen (v := nI (gcap j)) hx hb hK hH 4 hf rfl rfl dJ2_grow_2_4 ?_
  refine lv_istore_n (lv' := [(2, .int (nI (gcap j))), (0, .ref a), (1, .int (nI (gcap j + 1)))]) hx hb dJ2_grow_2_5 rfl hl (by decide) rfl (fun ls hl => ?_)
  refine lv_iload_n hx hb dJ2_grow_2_6 rfl (lv_at hl 0 rfl) ?_
  refine lvZ_gt (tgt := 20) hx hb (by first | omega | (refine Nat.lt_of_lt_of_le (Nat.mod_lt _ ?_) ?_ <;> omega)) dJ2_grow_2_7 (by decide) (fun c1 => ?_) (fun c1 => ?_)
  · refine lv_iload_n hx hb dJ2_grow_2_20 rfl (lv_at hl 0 rfl) ?_
    refine lv_iload_n hx hb dJ2_grow_2_21 rfl (lv_at hl 2 rfl) ?_
    refine lv_iload_n hx hb dJ2_grow_2_22 rfl (lv_at hl 0 rfl) ?_
    refine lv_isub hx hb dJ2_grow_2_23 ?_
    refine lv_top (y := nI 1) ((pk_sub (by omega)).trans (congrArg nI (by omega))) ?_
    refine lv_iload_n hx hb dJ2_grow_2_24 rfl (lv_at hl 0 rfl) ?_
    refine lv_iconst (v := nI 1) hx hb dJ2_grow_2_25 (by decide) ?_
    refine lv_ishr hx hb dJ2_grow_2_26 ?_
    refine lv_top (y := nI (gcap j / 2)) (bi_shr (by omega) (by decide)) ?_
    refine hp_callS (As := [.int (nI (gcap j)), .int (nI 1), .int (nI (gcap j / 2))]) (rest := []) hx hb hml hown hts hPB hH hS (mj_newLen hK0 (n := gcap j) (by omega)) 3 (lw_S q592 q593 q122 q594) (by decide +kernel) ⟨rfl, rfl⟩ (by first | decide | (simp [rmk, Value.category]; done) | (simp [rmk, Value.category]; omega)) rfl hl.1 rfl (Nat.le_of_ble_eq_true rfl) (by first | decide | (simp [rmk, Value.category]; done) | (simp [rmk, Value.category]; omega)) dJ2_grow_2_27 (fun v2 h4 H locs hp3 _ hH hS => ?_)
    obtain ⟨rfl, hq⟩ := hp3
    rw [hq] at hH
    refine lv_top (y := nI (gcap (j + 1))) (congrArg nI hg3.symm) ?_
    refine lv_istore_n (lv' := [(3, .int (nI (gcap (j + 1)))), (2, .int (nI (gcap j))), (0, .ref a), (1, .int (nI (gcap j + 1)))]) hx hb dJ2_grow_2_30 rfl hl (by decide) rfl (fun ls hl => ?_)
    refine lv_aload_n hx hb dJ2_grow_2_31 rfl (lv_at hl 2 rfl) ?_
    refine lv_aload_n hx hb dJ2_grow_2_32 rfl (lv_at hl 2 rfl) ?_
    refine hp_get (C := RJ2) (T := TJ2) (N := 3) (v := .ref d) hx hb hts in_J2 hown hK hH he rfl 1 (by decide) (hts _ q172) (fun _ z => z) rfl dJ2_grow_2_33 ?_
    refine lv_iload_n hx hb dJ2_grow_2_36 rfl (lv_at hl 0 rfl) ?_
    refine hp_callS (As := [.ref d, .int (nI (gcap (j + 1)))]) (rest := [.ref a]) hx hb hml hown hts hPB hH hS (mj_cpy hK0 hG (n2 := gcap (j + 1)) hf hob (by omega)) 2 (lw_S q600 q601 q123 q602) (by decide +kernel) ⟨rfl, rfl⟩ (by first | decide | (simp [rmk, Value.category]; done) | (simp [rmk, Value.category]; omega)) rfl hl.1 rfl (Nat.le_of_ble_eq_true rfl) (by first | decide | (simp [rmk, Value.category]; done) | (simp [rmk, Value.category]; omega)) dJ2_grow_2_37 (fun v5 h7 H locs hp6 _ hH hS => ?_)
    obtain ⟨q1, rfl, hq1, hq2⟩ := hp6
    rw [hq2] at hH
    have hea := (hset_ne h (.inl (K 4, gcap (j + 1), .inr (.inr (.inr (.inr (va_cpy f (fun _ => none) 0 0 (gcap j))))))) t (ne_new he hq1)).trans he
    refine lv_dup_x1 hx hb dJ2_grow_2_40 rfl rfl ?_
    refine hp_put (C := RJ2) (T := TJ2) (N := 3) (v := .ref q1) (ty := (.array (.object "java/lang/Object"))) hx hb hts in_J2 tyJ2 tyJ2_ok nmJ2 hown hK hH hS hea rfl 1 (by decide) (hts _ q172) (fun _ z => z) rfl (by decide +kernel) rfl rfl (Nat.le_of_ble_eq_true rfl) dJ2_grow_2_41 (fun H locs _ hH hS => ?_)
    have hH : HP D CL (zA s0) (hset (hset h q1 (.inl (K 4, gcap (j + 1), .inr (.inr (.inr (.inr (va_cpy f (fun _ => none) 0 0 (gcap j))))))) t) a (.inr (20, [.int mcn, .ref q1, .int (nI (gcap j))])) t) H := hH
    have e8 : (hset (hset h q1 (.inl (K 4, gcap (j + 1), .inr (.inr (.inr (.inr (va_cpy f (fun _ => none) 0 0 (gcap j))))))) t) a (.inr (20, [.int mcn, .ref q1, .int (nI (gcap j))])) t) a = some (.inr (20, [.int mcn, .ref q1, .int (nI (gcap j))]), t) := hset_self _ _ _ _
    exact hp_aret hx hb hr (Or.inr ⟨_, rfl⟩) (Or.inr ⟨_, rfl⟩) hlocks hH hS (by first | decide | (simp [rmk, Value.category]; done) | (simp [rmk, Value.category]; omega)) (by first | decide | (simp [rmk, Value.category]; done) | (simp [rmk, Value.category]; omega)) dJ2_grow_2_44 (⟨_, rfl, hq1, fun q => ne_new he hq1 q.symm, rfl⟩)
  · exact absurd c1 (by omega)
set_option maxHeartbeats 4000000 in
theorem mj_gro0 (hK0 : va_K D CL (TYS K) s0) {av : Nat → Nat} {ed mi : Nat} (hG : GX s0 wd av ed mi) {a t : Nat} {mcn : Int32} (he : h a = some (.inr (20, [.int mcn, .ref ed, .int (nI 0)]), t)) : Met l yJ2_grow (ws_ yJ2_grow cJ2_grow 1 ((Option.some (Jvm.ClassFile.FieldType.array (Jvm.ClassFile.FieldType.object "java/lang/Object"))))) (rmk 4 1 10) (va_Pc [.ref a] (PB s0 D CL (h))) (QR s0 D CL (fun v h1 => ∃ q, v = some (.ref q) ∧ h q = none ∧ q ≠ a ∧ h1 = hset (hset h q (.inl (K 4, 10, .inr (.inr (.inr (.inr (fun _ => none)))))) t) a (.inr (20, [.int mcn, .ref q, .int (nI 0)])) t)) 1 10 (zA s0) := by
  refine hp_met (by decide) (Nat.le_of_ble_eq_true rfl) hK0 ?_
  intro p e s m below meth cd ls hx hb hr hlocks hml hown hnm hts hK hPB hl hS hH hA
  have hl : lv_has ls 1 [(0, .ref a)] := hl
  have hown : s.vm.findClass RJ2 = some m.cls := hown
  refine lv_aload_n hx hb dJ2_grow_0 rfl (lv_at hl 0 rfl) ?_
  refine lv_aload_n hx hb dJ2_grow_1 rfl (lv_at hl 0 rfl) ?_
  refine hp_get (C := RJ2) (T := TJ2) (N := 3) (v := .int (nI 0)) hx hb hts in_J2 hown hK hH he rfl 2 (by decide) (hts _ q173) (fun _ z => z) rfl dJ2_grow_2 ?_
  refine lv_iconst (v := nI 1) hx hb dJ2_grow_5 (by decide) ?_
  refine lv_iadd hx hb dJ2_grow_6 ?_
  refine lv_top (y := nI 1) (nI_add _ _) ?_
  refine hp_callV (As := [.int (nI 1)]) (rest := []) hx hb hml hown hts hPB hK hH hS (mj_grow0 hK0 hG he) he rfl rfl 1 (lw_V q588 q590 qs14 q106 q591) (by decide +kernel) ⟨rfl, rfl⟩ (by first | decide | (simp [rmk]; done) | (simp [rmk]; omega)) rfl hl.1 rfl (Nat.le_of_ble_eq_true rfl) (by decide) dJ2_grow_7 (fun v1 h3 H locs hp2 _ hH hS => ?_)
  obtain ⟨q1, rfl, hq1, hqa, hq2⟩ := hp2
  rw [hq2] at hH
  exact hp_aret hx hb hr (Or.inr ⟨_, rfl⟩) (Or.inr ⟨_, rfl⟩) hlocks hH hS (by first | decide | (simp [rmk]; done) | (simp [rmk]; omega)) (by first | decide | (simp [rmk]; done) | (simp [rmk]; omega)) dJ2_grow_10 (⟨_, rfl, hq1, hqa, rfl⟩)
set_option maxHeartbeats 4000000 in
theorem mj_groN (hK0 : va_K D CL (TYS K) s0) {av : Nat → Nat} {ed mi : Nat} (hG : GX s0 wd av ed mi) {a t j d : Nat} {mcn : Int32} {f : Nat → Option Nat} (he : h a = some (.inr (20, [.int mcn, .ref d, .int (nI (gcap j))]), t)) (hf : h d = some (.inl (K 4, gcap j, .inr (.inr (.inr (.inr f)))), t)) (hob : ∀ i, i < gcap j → ∀ y, f i = some y → OBJ h y) (hj : 0 < j ∧ j < 13) : Met l yJ2_grow (ws_ yJ2_grow cJ2_grow 1 ((Option.some (Jvm.ClassFile.FieldType.array (Jvm.ClassFile.FieldType.object "java/lang/Object"))))) (rmk 4 1 (gcap (j + 1))) (va_Pc [.ref a] (PB s0 D CL (h))) (QR s0 D CL (fun v h1 => ∃ q, v = some (.ref q) ∧ h q = none ∧ q ≠ a ∧ h1 = hset (hset h q (.inl (K 4, gcap (j + 1), .inr (.inr (.inr (.inr (va_cpy f (fun _ => none) 0 0 (gcap j))))))) t) a (.inr (20, [.int mcn, .ref q, .int (nI (gcap j))])) t)) 1 (gcap (j + 1)) (zA s0) := by
  refine hp_met (by decide) (Nat.le_of_ble_eq_true rfl) hK0 ?_
  intro p e s m below meth cd ls hx hb hr hlocks hml hown hnm hts hK hPB hl hS hH hA
  have hl : lv_has ls 1 [(0, .ref a)] := hl
  have hown : s.vm.findClass RJ2 = some m.cls := hown
  have hg1 := gcap_lt (j + 1) (by omega)
  have hg2 := gcap_ge hj.1
  have hg3 := gcap_s hj.1
  refine lv_aload_n hx hb dJ2_grow_0 rfl (lv_at hl 0 rfl) ?_
  refine lv_aload_n hx hb dJ2_grow_1 rfl (lv_at hl 0 rfl) ?_
  refine hp_get (C := RJ2) (T := TJ2) (N := 3) (v := .int (nI (gcap j))) hx hb hts in_J2 hown hK hH he rfl 2 (by decide) (hts _ q173) (fun _ z => z) rfl dJ2_grow_2 ?_
  refine lv_iconst (v := nI 1) hx hb dJ2_grow_5 (by decide) ?_
  refine lv_iadd hx hb dJ2_grow_6 ?_
  refine lv_top (y := nI ((gcap j) + 1)) (nI_add _ _) ?_
  refine hp_callV (As := [.int (nI ((gcap j) + 1))]) (rest := []) hx hb hml hown hts hPB hK hH hS (mj_growN hK0 hG he hf hob hj) he rfl rfl 1 (lw_V q588 q590 qs14 q106 q591) (by decide +kernel) ⟨rfl, rfl⟩ (by first | decide | (simp [rmk, Value.category]; done) | (simp [rmk, Value.category]; omega)) rfl hl.1 rfl (Nat.le_of_ble_eq_true rfl) (by first | decide | (simp [rmk, Value.category]; done) | (simp [rmk, Value.category]; omega)) dJ2_grow_7 (fun v1 h3 H locs hp2 _ hH hS => ?_)
  obtain ⟨q1, rfl, hq1, hqa, hq2⟩ := hp2
  rw [hq2] at hH
  exact hp_aret hx hb hr (Or.inr ⟨_, rfl⟩) (Or.inr ⟨_, rfl⟩) hlocks hH hS (by first | decide | (simp [rmk, Value.category]; done) | (simp [rmk, Value.category]; omega)) (by first | decide | (simp [rmk, Value.category]; done) | (simp [rmk, Value.category]; omega)) dJ2_grow_10 (⟨_, rfl, hq1, hqa, rfl⟩)
end MODEL
