/-! by gen/mspec.py -/
set_option maxRecDepth 100000
section MODEL
variable {l : Launch} {s0 : State} {D : va_G} {K : Nat → ClassId} {wd : Nat → Nat} {o : Nat} {h : Hp} {I : Nat → Int32} {V : Nat → Nat → Int32} {J : Nat → Nat → Int64}
set_option maxHeartbeats 4000000 in
theorem mc_nam_X5 (hK0 : va_K D CL (TYS K) s0) {ta nm tt tn nl f9 e9 : Nat} {tx fn : Nat → Int32} (hta : h ta = some (.inl (K 1, 700, .inl tx), tt)) (hnm9 : h nm = some (.inl (K 1, nl, .inl fn), tn)) (hfe : f9 ≤ e9 ∧ e9 ≤ 700) (hnl : nl ≤ 8) {sa w t : Nat} {f2 f3 f4 f5 : Value} (hsa : h sa = some (.inr (4, [.ref nm, .int (nI w), f2, f3, f4, f5]), t)) : Met l yX4_isNamed (ws_ yX4_isNamed cX4_isNamed 6 ((Option.some Jvm.ClassFile.FieldType.boolean))) (rmk 0 0 0) (va_Pc [.ref sa, .ref ta, .int (nI f9), .int (nI e9)] (PB s0 D CL (h))) (QR s0 D CL (fun v h1 => v = some (.int (zI (decide (e9 - f9 = nl) && allP tx fn f9 nl))) ∧ h1 = h)) 0 0 (zA s0) := by
  refine hp_met (by decide) (Nat.le_of_ble_eq_true rfl) hK0 ?_
  intro p e s m below meth cd ls hx hb hr hlocks hml hown hnm hts hK hPB hl hS hH hA
  have hl : lv_has ls 6 [(0, .ref sa), (1, .ref ta), (2, .int (nI f9)), (3, .int (nI e9))] := hl
  have hown : s.vm.findClass RX4 = some m.cls := hown
  refine lv_iload_n hx hb dX4_isNamed_0 rfl (lv_at hl 3 rfl) ?_
  refine lv_iload_n hx hb dX4_isNamed_1 rfl (lv_at hl 2 rfl) ?_
  refine lv_isub hx hb dX4_isNamed_2 ?_
  refine lv_top (y := nI (e9 - f9)) (pk_sub (by first | omega | (refine Nat.lt_of_lt_of_le (Nat.mod_lt _ ?_) ?_ <;> omega))) ?_
  refine lv_aload_n hx hb dX4_isNamed_3 rfl (lv_at hl 0 rfl) ?_
  refine hp_get (C := RX5) (T := TX5) (N := 6) (v := .ref nm) hx hb hts in_X5 hown hK hH hsa rfl 0 (by decide) (hts _ q552) (fun _ z => z) rfl dX4_isNamed_4 ?_
  refine hp_alen (v := nI nl) hx hb hK hH 1 hnm9 rfl rfl dX4_isNamed_7 ?_
  refine lvN_ne (tgt := 15) hx hb (by first | omega | (refine Nat.lt_of_lt_of_le (Nat.mod_lt _ ?_) ?_ <;> omega)) (by first | omega | (refine Nat.lt_of_lt_of_le (Nat.mod_lt _ ?_) ?_ <;> omega)) dX4_isNamed_8 (by decide) (fun c0 => ?_) (fun c0 => ?_)
  · refine lv_iconst (v := nI 0) hx hb dX4_isNamed_15 (by decide) ?_
    refine lv_top (y := zI (decide (e9 - f9 = nl))) (zI_0 (decide_eq_false c0)) ?_
    refine lv_istore (lv' := [(4, .int (zI (decide (e9 - f9 = nl)))), (0, .ref sa), (1, .ref ta), (2, .int (nI f9)), (3, .int (nI e9))]) hx hb dX4_isNamed_16 hl (by decide) rfl (fun ls hl => ?_)
    refine lv_iconst (v := nI 0) hx hb dX4_isNamed_18 (by decide) ?_
    refine lv_istore (lv' := [(5, .int (nI 0)), (4, .int (zI (decide (e9 - f9 = nl)))), (0, .ref sa), (1, .ref ta), (2, .int (nI f9)), (3, .int (nI e9))]) hx hb dX4_isNamed_19 hl (by decide) rfl (fun ls hl => ?_)
    refine w_loop2 (fun (k : Nat) (is1 : Bool) => nl - k) (fun (k : Nat) (is1 : Bool) H locs ls => (k ≤ nl) ∧ (is1 = (decide (e9 - f9 = nl) && allP tx fn f9 k)) ∧ HP D CL (zA s0) h H ∧ va_S (zA s0) s.heap H locs ∧ lv_has ls 6 [(0, .ref sa), (1, .ref ta), (2, .int (nI f9)), (3, .int (nI e9)), (4, .int (zI is1)), (5, .int (nI k))]) ?_ 0 (decide (e9 - f9 = nl)) ⟨Nat.zero_le _, (Bool.and_true _).symm, hH, hS, lv_sub hl [2, 3, 4, 5, 1, 0] rfl⟩
    intro k is1 ih21 H locs ls hP
    obtain ⟨hkk, his, hH, hS, hl⟩ := hP
    refine lv_iload hx hb dX4_isNamed_21 (lv_at hl 5 rfl) ?_
    refine lv_aload_n hx hb dX4_isNamed_23 rfl (lv_at hl 0 rfl) ?_
    refine hp_get (C := RX5) (T := TX5) (N := 6) (v := .ref nm) hx hb hts in_X5 hown hK hH hsa rfl 0 (by decide) (hts _ q552) (fun _ z => z) rfl dX4_isNamed_24 ?_
    refine hp_alen (v := nI nl) hx hb hK hH 1 hnm9 rfl rfl dX4_isNamed_27 ?_
    refine lvN_ge (tgt := 65) hx hb (by first | omega | (refine Nat.lt_of_lt_of_le (Nat.mod_lt _ ?_) ?_ <;> omega)) (by first | omega | (refine Nat.lt_of_lt_of_le (Nat.mod_lt _ ?_) ?_ <;> omega)) dX4_isNamed_28 (by decide) (fun ck => ?_) (fun ck => ?_)
    · refine lv_iload hx hb dX4_isNamed_65 (lv_at hl 4 rfl) ?_
      exact hp_zret hx hb hr (zI_nar _) hlocks hH hS (by decide) (by decide) dX4_isNamed_67 (⟨congrArg some (congrArg Value.int (congrArg zI (by rw [his, show k = nl by omega]))), rfl⟩)
    · have hen : is1 = true → e9 - f9 = nl := fun q => of_decide_eq_true (is_1 his q)
      refine lv_iload hx hb dX4_isNamed_31 (lv_at hl 4 rfl) ?_
      refine lvB_eq (tgt := 65) hx hb dX4_isNamed_33 (by decide) (fun ci => ?_) (fun ci => ?_)
      · refine lv_iload hx hb dX4_isNamed_65 (lv_at hl 4 rfl) ?_
        exact hp_zret hx hb hr (zI_nar _) hlocks hH hS (by decide) (by decide) dX4_isNamed_67 (⟨congrArg some (congrArg Value.int (congrArg zI (by rw [ci]; exact (is_stop his ci (by omega)).symm))), rfl⟩)
      · have hen2 := hen ci
        refine lv_aload_n hx hb dX4_isNamed_36 rfl (lv_at hl 1 rfl) ?_
        refine lv_iload_n hx hb dX4_isNamed_37 rfl (lv_at hl 2 rfl) ?_
        refine lv_iload hx hb dX4_isNamed_38 (lv_at hl 5 rfl) ?_
        refine lv_iadd hx hb dX4_isNamed_40 ?_
        refine lv_top (y := nI (f9 + k)) (nI_add _ _) ?_
        refine hp_bld (n := 700) (j := f9 + k) (v := tx (f9 + k)) hx hb hK hH 1 hta rfl (by first | omega | (refine Nat.lt_of_lt_of_le (Nat.mod_lt _ ?_) ?_ <;> omega)) (by first | omega | (refine Nat.lt_of_lt_of_le (Nat.mod_lt _ ?_) ?_ <;> omega)) (rfl) dX4_isNamed_41 ?_
        refine lv_aload_n hx hb dX4_isNamed_42 rfl (lv_at hl 0 rfl) ?_
        refine hp_get (C := RX5) (T := TX5) (N := 6) (v := .ref nm) hx hb hts in_X5 hown hK hH hsa rfl 0 (by decide) (hts _ q552) (fun _ z => z) rfl dX4_isNamed_43 ?_
        refine lv_iload hx hb dX4_isNamed_46 (lv_at hl 5 rfl) ?_
        refine hp_bld (n := nl) (j := k) (v := fn k) hx hb hK hH 1 hnm9 rfl (by first | omega | (refine Nat.lt_of_lt_of_le (Nat.mod_lt _ ?_) ?_ <;> omega)) (by first | omega | (refine Nat.lt_of_lt_of_le (Nat.mod_lt _ ?_) ?_ <;> omega)) (rfl) dX4_isNamed_48 ?_
        refine lv_icmp_ne (tgt := 56) hx hb dX4_isNamed_49 (by decide) (fun ce => ?_) (fun ce => ?_)
        · refine lv_iconst (v := nI 0) hx hb dX4_isNamed_56 (by decide) ?_
          refine lv_top (y := zI (decide (tx (f9 + k) = fn k))) (zI_0 (decide_eq_false ce)) ?_
          refine lv_istore (lv' := [(4, .int (zI (decide (tx (f9 + k) = fn k)))), (0, .ref sa), (1, .ref ta), (2, .int (nI f9)), (3, .int (nI e9)), (5, .int (nI k))]) hx hb dX4_isNamed_57 hl (by decide) rfl (fun ls hl => ?_)
          refine lv_iinc (v := nI (k + 1)) (lv' := [(5, .int (nI (k + 1))), (4, .int (zI (decide (tx (f9 + k) = fn k)))), (0, .ref sa), (1, .ref ta), (2, .int (nI f9)), (3, .int (nI e9))]) hx hb dX4_isNamed_59 hl (k := 5) rfl (nI_add k 1) (by decide) rfl (fun ls hl => ?_)
          refine lv_goto (tgt := 21) hx hb dX4_isNamed_62 (by decide) ?_
          exact ih21 (k + 1) _ (by omega) H locs ls ⟨by omega, is_next his ci, hH, hS, lv_sub hl [2, 3, 4, 5, 1, 0] rfl⟩
        · refine lv_iconst (v := nI 1) hx hb dX4_isNamed_52 (by decide) ?_
          refine lv_goto (tgt := 57) hx hb dX4_isNamed_53 (by decide) ?_
          refine lv_top (y := zI (decide (tx (f9 + k) = fn k))) (zI_1 (decide_eq_true ce)) ?_
          refine lv_istore (lv' := [(4, .int (zI (decide (tx (f9 + k) = fn k)))), (0, .ref sa), (1, .ref ta), (2, .int (nI f9)), (3, .int (nI e9)), (5, .int (nI k))]) hx hb dX4_isNamed_57 hl (by decide) rfl (fun ls hl => ?_)
          refine lv_iinc (v := nI (k + 1)) (lv' := [(5, .int (nI (k + 1))), (4, .int (zI (decide (tx (f9 + k) = fn k)))), (0, .ref sa), (1, .ref ta), (2, .int (nI f9)), (3, .int (nI e9))]) hx hb dX4_isNamed_59 hl (k := 5) rfl (nI_add k 1) (by decide) rfl (fun ls hl => ?_)
          refine lv_goto (tgt := 21) hx hb dX4_isNamed_62 (by decide) ?_
          exact ih21 (k + 1) _ (by omega) H locs ls ⟨by omega, is_next his ci, hH, hS, lv_sub hl [2, 3, 4, 5, 1, 0] rfl⟩
  · refine lv_iconst (v := nI 1) hx hb dX4_isNamed_11 (by decide) ?_
    refine lv_goto (tgt := 16) hx hb dX4_isNamed_12 (by decide) ?_
    refine lv_top (y := zI (decide (e9 - f9 = nl))) (zI_1 (decide_eq_true c0)) ?_
    refine lv_istore (lv' := [(4, .int (zI (decide (e9 - f9 = nl)))), (0, .ref sa), (1, .ref ta), (2, .int (nI f9)), (3, .int (nI e9))]) hx hb dX4_isNamed_16 hl (by decide) rfl (fun ls hl => ?_)
    refine lv_iconst (v := nI 0) hx hb dX4_isNamed_18 (by decide) ?_
    refine lv_istore (lv' := [(5, .int (nI 0)), (4, .int (zI (decide (e9 - f9 = nl)))), (0, .ref sa), (1, .ref ta), (2, .int (nI f9)), (3, .int (nI e9))]) hx hb dX4_isNamed_19 hl (by decide) rfl (fun ls hl => ?_)
    refine w_loop2 (fun (k : Nat) (is1 : Bool) => nl - k) (fun (k : Nat) (is1 : Bool) H locs ls => (k ≤ nl) ∧ (is1 = (decide (e9 - f9 = nl) && allP tx fn f9 k)) ∧ HP D CL (zA s0) h H ∧ va_S (zA s0) s.heap H locs ∧ lv_has ls 6 [(0, .ref sa), (1, .ref ta), (2, .int (nI f9)), (3, .int (nI e9)), (4, .int (zI is1)), (5, .int (nI k))]) ?_ 0 (decide (e9 - f9 = nl)) ⟨Nat.zero_le _, (Bool.and_true _).symm, hH, hS, lv_sub hl [2, 3, 4, 5, 1, 0] rfl⟩
    intro k is1 ih21 H locs ls hP
    obtain ⟨hkk, his, hH, hS, hl⟩ := hP
    refine lv_iload hx hb dX4_isNamed_21 (lv_at hl 5 rfl) ?_
    refine lv_aload_n hx hb dX4_isNamed_23 rfl (lv_at hl 0 rfl) ?_
    refine hp_get (C := RX5) (T := TX5) (N := 6) (v := .ref nm) hx hb hts in_X5 hown hK hH hsa rfl 0 (by decide) (hts _ q552) (fun _ z => z) rfl dX4_isNamed_24 ?_
    refine hp_alen (v := nI nl) hx hb hK hH 1 hnm9 rfl rfl dX4_isNamed_27 ?_
    refine lvN_ge (tgt := 65) hx hb (by first | omega | (refine Nat.lt_of_lt_of_le (Nat.mod_lt _ ?_) ?_ <;> omega)) (by first | omega | (refine Nat.lt_of_lt_of_le (Nat.mod_lt _ ?_) ?_ <;> omega)) dX4_isNamed_28 (by decide) (fun ck => ?_) (fun ck => ?_)
    · refine lv_iload hx hb dX4_isNamed_65 (lv_at hl 4 rfl) ?_
      exact hp_zret hx hb hr (zI_nar _) hlocks hH hS (by decide) (by decide) dX4_isNamed_67 (⟨congrArg some (congrArg Value.int (congrArg zI (by rw [his, show k = nl by omega]))), rfl⟩)
    · have hen : is1 = true → e9 - f9 = nl := fun q => of_decide_eq_true (is_1 his q)
      refine lv_iload hx hb dX4_isNamed_31 (lv_at hl 4 rfl) ?_
      refine lvB_eq (tgt := 65) hx hb dX4_isNamed_33 (by decide) (fun ci => ?_) (fun ci => ?_)
      · refine lv_iload hx hb dX4_isNamed_65 (lv_at hl 4 rfl) ?_
        exact hp_zret hx hb hr (zI_nar _) hlocks hH hS (by decide) (by decide) dX4_isNamed_67 (⟨congrArg some (congrArg Value.int (congrArg zI (by rw [ci]; exact (is_stop his ci (by omega)).symm))), rfl⟩)
      · have hen2 := hen ci
        refine lv_aload_n hx hb dX4_isNamed_36 rfl (lv_at hl 1 rfl) ?_
        refine lv_iload_n hx hb dX4_isNamed_37 rfl (lv_at hl 2 rfl) ?_
        refine lv_iload hx hb dX4_isNamed_38 (lv_at hl 5 rfl) ?_
        refine lv_iadd hx hb dX4_isNamed_40 ?_
        refine lv_top (y := nI (f9 + k)) (nI_add _ _) ?_
        refine hp_bld (n := 700) (j := f9 + k) (v := tx (f9 + k)) hx hb hK hH 1 hta rfl (by first | omega | (refine Nat.lt_of_lt_of_le (Nat.mod_lt _ ?_) ?_ <;> omega)) (by first | omega | (refine Nat.lt_of_lt_of_le (Nat.mod_lt _ ?_) ?_ <;> omega)) (rfl) dX4_isNamed_41 ?_
        refine lv_aload_n hx hb dX4_isNamed_42 rfl (lv_at hl 0 rfl) ?_
        refine hp_get (C := RX5) (T := TX5) (N := 6) (v := .ref nm) hx hb hts in_X5 hown hK hH hsa rfl 0 (by decide) (hts _ q552) (fun _ z => z) rfl dX4_isNamed_43 ?_
        refine lv_iload hx hb dX4_isNamed_46 (lv_at hl 5 rfl) ?_
        refine hp_bld (n := nl) (j := k) (v := fn k) hx hb hK hH 1 hnm9 rfl (by first | omega | (refine Nat.lt_of_lt_of_le (Nat.mod_lt _ ?_) ?_ <;> omega)) (by first | omega | (refine Nat.lt_of_lt_of_le (Nat.mod_lt _ ?_) ?_ <;> omega)) (rfl) dX4_isNamed_48 ?_
        refine lv_icmp_ne (tgt := 56) hx hb dX4_isNamed_49 (by decide) (fun ce => ?_) (fun ce => ?_)
        · refine lv_iconst (v := nI 0) hx hb dX4_isNamed_56 (by decide) ?_
          refine lv_top (y := zI (decide (tx (f9 + k) = fn k))) (zI_0 (decide_eq_false ce)) ?_
          refine lv_istore (lv' := [(4, .int (zI (decide (tx (f9 + k) = fn k)))), (0, .ref sa), (1, .ref ta), (2, .int (nI f9)), (3, .int (nI e9)), (5, .int (nI k))]) hx hb dX4_isNamed_57 hl (by decide) rfl (fun ls hl => ?_)
          refine lv_iinc (v := nI (k + 1)) (lv' := [(5, .int (nI (k + 1))), (4, .int (zI (decide (tx (f9 + k) = fn k)))), (0, .ref sa), (1, .ref ta), (2, .int (nI f9)), (3, .int (nI e9))]) hx hb dX4_isNamed_59 hl (k := 5) rfl (nI_add k 1) (by decide) rfl (fun ls hl => ?_)
          refine lv_goto (tgt := 21) hx hb dX4_isNamed_62 (by decide) ?_
          exact ih21 (k + 1) _ (by omega) H locs ls ⟨by omega, is_next his ci, hH, hS, lv_sub hl [2, 3, 4, 5, 1, 0] rfl⟩
        · refine lv_iconst (v := nI 1) hx hb dX4_isNamed_52 (by decide) ?_
          refine lv_goto (tgt := 57) hx hb dX4_isNamed_53 (by decide) ?_
          refine lv_top (y := zI (decide (tx (f9 + k) = fn k))) (zI_1 (decide_eq_true ce)) ?_
          refine lv_istore (lv' := [(4, .int (zI (decide (tx (f9 + k) = fn k)))), (0, .ref sa), (1, .ref ta), (2, .int (nI f9)), (3, .int (nI e9)), (5, .int (nI k))]) hx hb dX4_isNamed_57 hl (by decide) rfl (fun ls hl => ?_)
          refine lv_iinc (v := nI (k + 1)) (lv' := [(5, .int (nI (k + 1))), (4, .int (zI (decide (tx (f9 + k) = fn k)))), (0, .ref sa), (1, .ref ta), (2, .int (nI f9)), (3, .int (nI e9))]) hx hb dX4_isNamed_59 hl (k := 5) rfl (nI_add k 1) (by decide) rfl (fun ls hl => ?_)
          refine lv_goto (tgt := 21) hx hb dX4_isNamed_62 (by decide) ?_
          exact ih21 (k + 1) _ (by omega) H locs ls ⟨by omega, is_next his ci, hH, hS, lv_sub hl [2, 3, 4, 5, 1, 0] rfl⟩
set_option maxHeartbeats 4000000 in
theorem mc_nam_X6 (hK0 : va_K D CL (TYS K) s0) {ta nm tt tn nl f9 e9 : Nat} {tx fn : Nat → Int32} (hta : h ta = some (.inl (K 1, 700, .inl tx), tt)) (hnm9 : h nm = some (.inl (K 1, nl, .inl fn), tn)) (hfe : f9 ≤ e9 ∧ e9 ≤ 700) (hnl : nl ≤ 8) {sa num bits t : Nat} (hsa : h sa = some (.inr (5, [.ref nm, .int (nI num), .int (nI bits)]), t)) : Met l yX4_isNamed (ws_ yX4_isNamed cX4_isNamed 6 ((Option.some Jvm.ClassFile.FieldType.boolean))) (rmk 0 0 0) (va_Pc [.ref sa, .ref ta, .int (nI f9), .int (nI e9)] (PB s0 D CL (h))) (QR s0 D CL (fun v h1 => v = some (.int (zI (decide (e9 - f9 = nl) && allP tx fn f9 nl))) ∧ h1 = h)) 0 0 (zA s0) := by
  refine hp_met (by decide) (Nat.le_of_ble_eq_true rfl) hK0 ?_
  intro p e s m below meth cd ls hx hb hr hlocks hml hown hnm hts hK hPB hl hS hH hA
  have hl : lv_has ls 6 [(0, .ref sa), (1, .ref ta), (2, .int (nI f9)), (3, .int (nI e9))] := hl
  have hown : s.vm.findClass RX4 = some m.cls := hown
  refine lv_iload_n hx hb dX4_isNamed_0 rfl (lv_at hl 3 rfl) ?_
  refine lv_iload_n hx hb dX4_isNamed_1 rfl (lv_at hl 2 rfl) ?_
  refine lv_isub hx hb dX4_isNamed_2 ?_
  refine lv_top (y := nI (e9 - f9)) (pk_sub (by first | omega | (refine Nat.lt_of_lt_of_le (Nat.mod_lt _ ?_) ?_ <;> omega))) ?_
  refine lv_aload_n hx hb dX4_isNamed_3 rfl (lv_at hl 0 rfl) ?_
  refine hp_get (C := RX6) (T := TX6) (N := 3) (v := .ref nm) hx hb hts in_X6 hown hK hH hsa rfl 0 (by decide) (hts _ q552) (fun _ z => z) rfl dX4_isNamed_4 ?_
  refine hp_alen (v := nI nl) hx hb hK hH 1 hnm9 rfl rfl dX4_isNamed_7 ?_
  refine lvN_ne (tgt := 15) hx hb (by first | omega | (refine Nat.lt_of_lt_of_le (Nat.mod_lt _ ?_) ?_ <;> omega)) (by first | omega | (refine Nat.lt_of_lt_of_le (Nat.mod_lt _ ?_) ?_ <;> omega)) dX4_isNamed_8 (by decide) (fun c0 => ?_) (fun c0 => ?_)
  · refine lv_iconst (v := nI 0) hx hb dX4_isNamed_15 (by decide) ?_
    refine lv_top (y := zI (decide (e9 - f9 = nl))) (zI_0 (decide_eq_false c0)) ?_
    refine lv_istore (lv' := [(4, .int (zI (decide (e9 - f9 = nl)))), (0, .ref sa), (1, .ref ta), (2, .int (nI f9)), (3, .int (nI e9))]) hx hb dX4_isNamed_16 hl (by decide) rfl (fun ls hl => ?_)
    refine lv_iconst (v := nI 0) hx hb dX4_isNamed_18 (by decide) ?_
    refine lv_istore (lv' := [(5, .int (nI 0)), (4, .int (zI (decide (e9 - f9 = nl)))), (0, .ref sa), (1, .ref ta), (2, .int (nI f9)), (3, .int (nI e9))]) hx hb dX4_isNamed_19 hl (by decide) rfl (fun ls hl => ?_)
    refine w_loop2 (fun (k : Nat) (is1 : Bool) => nl - k) (fun (k : Nat) (is1 : Bool) H locs ls => (k ≤ nl) ∧ (is1 = (decide (e9 - f9 = nl) && allP tx fn f9 k)) ∧ HP D CL (zA s0) h H ∧ va_S (zA s0) s.heap H locs ∧ lv_has ls 6 [(0, .ref sa), (1, .ref ta), (2, .int (nI f9)), (3, .int (nI e9)), (4, .int (zI is1)), (5, .int (nI k))]) ?_ 0 (decide (e9 - f9 = nl)) ⟨Nat.zero_le _, (Bool.and_true _).symm, hH, hS, lv_sub hl [2, 3, 4, 5, 1, 0] rfl⟩
    intro k is1 ih21 H locs ls hP
    obtain ⟨hkk, his, hH, hS, hl⟩ := hP
    refine lv_iload hx hb dX4_isNamed_21 (lv_at hl 5 rfl) ?_
    refine lv_aload_n hx hb dX4_isNamed_23 rfl (lv_at hl 0 rfl) ?_
    refine hp_get (C := RX6) (T := TX6) (N := 3) (v := .ref nm) hx hb hts in_X6 hown hK hH hsa rfl 0 (by decide) (hts _ q552) (fun _ z => z) rfl dX4_isNamed_24 ?_
    refine hp_alen (v := nI nl) hx hb hK hH 1 hnm9 rfl rfl dX4_isNamed_27 ?_
    refine lvN_ge (tgt := 65) hx hb (by first | omega | (refine Nat.lt_of_lt_of_le (Nat.mod_lt _ ?_) ?_ <;> omega)) (by first | omega | (refine Nat.lt_of_lt_of_le (Nat.mod_lt _ ?_) ?_ <;> omega)) dX4_isNamed_28 (by decide) (fun ck => ?_) (fun ck => ?_)
    · refine lv_iload hx hb dX4_isNamed_65 (lv_at hl 4 rfl) ?_
      exact hp_zret hx hb hr (zI_nar _) hlocks hH hS (by decide) (by decide) dX4_isNamed_67 (⟨congrArg some (congrArg Value.int (congrArg zI (by rw [his, show k = nl by omega]))), rfl⟩)
    · have hen : is1 = true → e9 - f9 = nl := fun q => of_decide_eq_true (is_1 his q)
      refine lv_iload hx hb dX4_isNamed_31 (lv_at hl 4 rfl) ?_
      refine lvB_eq (tgt := 65) hx hb dX4_isNamed_33 (by decide) (fun ci => ?_) (fun ci => ?_)
      · refine lv_iload hx hb dX4_isNamed_65 (lv_at hl 4 rfl) ?_
        exact hp_zret hx hb hr (zI_nar _) hlocks hH hS (by decide) (by decide) dX4_isNamed_67 (⟨congrArg some (congrArg Value.int (congrArg zI (by rw [ci]; exact (is_stop his ci (by omega)).symm))), rfl⟩)
      · have hen2 := hen ci
        refine lv_aload_n hx hb dX4_isNamed_36 rfl (lv_at hl 1 rfl) ?_
        refine lv_iload_n hx hb dX4_isNamed_37 rfl (lv_at hl 2 rfl) ?_
        refine lv_iload hx hb dX4_isNamed_38 (lv_at hl 5 rfl) ?_
        refine lv_iadd hx hb dX4_isNamed_40 ?_
        refine lv_top (y := nI (f9 + k)) (nI_add _ _) ?_
        refine hp_bld (n := 700) (j := f9 + k) (v := tx (f9 + k)) hx hb hK hH 1 hta rfl (by first | omega | (refine Nat.lt_of_lt_of_le (Nat.mod_lt _ ?_) ?_ <;> omega)) (by first | omega | (refine Nat.lt_of_lt_of_le (Nat.mod_lt _ ?_) ?_ <;> omega)) (rfl) dX4_isNamed_41 ?_
        refine lv_aload_n hx hb dX4_isNamed_42 rfl (lv_at hl 0 rfl) ?_
        refine hp_get (C := RX6) (T := TX6) (N := 3) (v := .ref nm) hx hb hts in_X6 hown hK hH hsa rfl 0 (by decide) (hts _ q552) (fun _ z => z) rfl dX4_isNamed_43 ?_
        refine lv_iload hx hb dX4_isNamed_46 (lv_at hl 5 rfl) ?_
        refine hp_bld (n := nl) (j := k) (v := fn k) hx hb hK hH 1 hnm9 rfl (by first | omega | (refine Nat.lt_of_lt_of_le (Nat.mod_lt _ ?_) ?_ <;> omega)) (by first | omega | (refine Nat.lt_of_lt_of_le (Nat.mod_lt _ ?_) ?_ <;> omega)) (rfl) dX4_isNamed_48 ?_
        refine lv_icmp_ne (tgt := 56) hx hb dX4_isNamed_49 (by decide) (fun ce => ?_) (fun ce => ?_)
        · refine lv_iconst (v := nI 0) hx hb dX4_isNamed_56 (by decide) ?_
          refine lv_top (y := zI (decide (tx (f9 + k) = fn k))) (zI_0 (decide_eq_false ce)) ?_
          refine lv_istore (lv' := [(4, .int (zI (decide (tx (f9 + k) = fn k)))), (0, .ref sa), (1, .ref ta), (2, .int (nI f9)), (3, .int (nI e9)), (5, .int (nI k))]) hx hb dX4_isNamed_57 hl (by decide) rfl (fun ls hl => ?_)
          refine lv_iinc (v := nI (k + 1)) (lv' := [(5, .int (nI (k + 1))), (4, .int (zI (decide (tx (f9 + k) = fn k)))), (0, .ref sa), (1, .ref ta), (2, .int (nI f9)), (3, .int (nI e9))]) hx hb dX4_isNamed_59 hl (k := 5) rfl (nI_add k 1) (by decide) rfl (fun ls hl => ?_)
          refine lv_goto (tgt := 21) hx hb dX4_isNamed_62 (by decide) ?_
          exact ih21 (k + 1) _ (by omega) H locs ls ⟨by omega, is_next his ci, hH, hS, lv_sub hl [2, 3, 4, 5, 1, 0] rfl⟩
        · refine lv_iconst (v := nI 1) hx hb dX4_isNamed_52 (by decide) ?_
          refine lv_goto (tgt := 57) hx hb dX4_isNamed_53 (by decide) ?_
          refine lv_top (y := zI (decide (tx (f9 + k) = fn k))) (zI_1 (decide_eq_true ce)) ?_
          refine lv_istore (lv' := [(4, .int (zI (decide (tx (f9 + k) = fn k)))), (0, .ref sa), (1, .ref ta), (2, .int (nI f9)), (3, .int (nI e9)), (5, .int (nI k))]) hx hb dX4_isNamed_57 hl (by decide) rfl (fun ls hl => ?_)
          refine lv_iinc (v := nI (k + 1)) (lv' := [(5, .int (nI (k + 1))), (4, .int (zI (decide (tx (f9 + k) = fn k)))), (0, .ref sa), (1, .ref ta), (2, .int (nI f9)), (3, .int (nI e9))]) hx hb dX4_isNamed_59 hl (k := 5) rfl (nI_add k 1) (by decide) rfl (fun ls hl => ?_)
          refine lv_goto (tgt := 21) hx hb dX4_isNamed_62 (by decide) ?_
          exact ih21 (k + 1) _ (by omega) H locs ls ⟨by omega, is_next his ci, hH, hS, lv_sub hl [2, 3, 4, 5, 1, 0] rfl⟩
  · refine lv_iconst (v := nI 1) hx hb dX4_isNamed_11 (by decide) ?_
    refine lv_goto (tgt := 16) hx hb dX4_isNamed_12 (by decide) ?_
    refine lv_top (y := zI (decide (e9 - f9 = nl))) (zI_1 (decide_eq_true c0)) ?_
    refine lv_istore (lv' := [(4, .int (zI (decide (e9 - f9 = nl)))), (0, .ref sa), (1, .ref ta), (2, .int (nI f9)), (3, .int (nI e9))]) hx hb dX4_isNamed_16 hl (by decide) rfl (fun ls hl => ?_)
    refine lv_iconst (v := nI 0) hx hb dX4_isNamed_18 (by decide) ?_
    refine lv_istore (lv' := [(5, .int (nI 0)), (4, .int (zI (decide (e9 - f9 = nl)))), (0, .ref sa), (1, .ref ta), (2, .int (nI f9)), (3, .int (nI e9))]) hx hb dX4_isNamed_19 hl (by decide) rfl (fun ls hl => ?_)
    refine w_loop2 (fun (k : Nat) (is1 : Bool) => nl - k) (fun (k : Nat) (is1 : Bool) H locs ls => (k ≤ nl) ∧ (is1 = (decide (e9 - f9 = nl) && allP tx fn f9 k)) ∧ HP D CL (zA s0) h H ∧ va_S (zA s0) s.heap H locs ∧ lv_has ls 6 [(0, .ref sa), (1, .ref ta), (2, .int (nI f9)), (3, .int (nI e9)), (4, .int (zI is1)), (5, .int (nI k))]) ?_ 0 (decide (e9 - f9 = nl)) ⟨Nat.zero_le _, (Bool.and_true _).symm, hH, hS, lv_sub hl [2, 3, 4, 5, 1, 0] rfl⟩
    intro k is1 ih21 H locs ls hP
    obtain ⟨hkk, his, hH, hS, hl⟩ := hP
    refine lv_iload hx hb dX4_isNamed_21 (lv_at hl 5 rfl) ?_
    refine lv_aload_n hx hb dX4_isNamed_23 rfl (lv_at hl 0 rfl) ?_
    refine hp_get (C := RX6) (T := TX6) (N := 3) (v := .ref nm) hx hb hts in_X6 hown hK hH hsa rfl 0 (by decide) (hts _ q552) (fun _ z => z) rfl dX4_isNamed_24 ?_
    refine hp_alen (v := nI nl) hx hb hK hH 1 hnm9 rfl rfl dX4_isNamed_27 ?_
    refine lvN_ge (tgt := 65) hx hb (by first | omega | (refine Nat.lt_of_lt_of_le (Nat.mod_lt _ ?_) ?_ <;> omega)) (by first | omega | (refine Nat.lt_of_lt_of_le (Nat.mod_lt _ ?_) ?_ <;> omega)) dX4_isNamed_28 (by decide) (fun ck => ?_) (fun ck => ?_)
    · refine lv_iload hx hb dX4_isNamed_65 (lv_at hl 4 rfl) ?_
      exact hp_zret hx hb hr (zI_nar _) hlocks hH hS (by decide) (by decide) dX4_isNamed_67 (⟨congrArg some (congrArg Value.int (congrArg zI (by rw [his, show k = nl by omega]))), rfl⟩)
    · have hen : is1 = true → e9 - f9 = nl := fun q => of_decide_eq_true (is_1 his q)
      refine lv_iload hx hb dX4_isNamed_31 (lv_at hl 4 rfl) ?_
      refine lvB_eq (tgt := 65) hx hb dX4_isNamed_33 (by decide) (fun ci => ?_) (fun ci => ?_)
      · refine lv_iload hx hb dX4_isNamed_65 (lv_at hl 4 rfl) ?_
        exact hp_zret hx hb hr (zI_nar _) hlocks hH hS (by decide) (by decide) dX4_isNamed_67 (⟨congrArg some (congrArg Value.int (congrArg zI (by rw [ci]; exact (is_stop his ci (by omega)).symm))), rfl⟩)
      · have hen2 := hen ci
        refine lv_aload_n hx hb dX4_isNamed_36 rfl (lv_at hl 1 rfl) ?_
        refine lv_iload_n hx hb dX4_isNamed_37 rfl (lv_at hl 2 rfl) ?_
        refine lv_iload hx hb dX4_isNamed_38 (lv_at hl 5 rfl) ?_
        refine lv_iadd hx hb dX4_isNamed_40 ?_
        refine lv_top (y := nI (f9 + k)) (nI_add _ _) ?_
        refine hp_bld (n := 700) (j := f9 + k) (v := tx (f9 + k)) hx hb hK hH 1 hta rfl (by first | omega | (refine Nat.lt_of_lt_of_le (Nat.mod_lt _ ?_) ?_ <;> omega)) (by first | omega | (refine Nat.lt_of_lt_of_le (Nat.mod_lt _ ?_) ?_ <;> omega)) (rfl) dX4_isNamed_41 ?_
        refine lv_aload_n hx hb dX4_isNamed_42 rfl (lv_at hl 0 rfl) ?_
        refine hp_get (C := RX6) (T := TX6) (N := 3) (v := .ref nm) hx hb hts in_X6 hown hK hH hsa rfl 0 (by decide) (hts _ q552) (fun _ z => z) rfl dX4_isNamed_43 ?_
        refine lv_iload hx hb dX4_isNamed_46 (lv_at hl 5 rfl) ?_
        refine hp_bld (n := nl) (j := k) (v := fn k) hx hb hK hH 1 hnm9 rfl (by first | omega | (refine Nat.lt_of_lt_of_le (Nat.mod_lt _ ?_) ?_ <;> omega)) (by first | omega | (refine Nat.lt_of_lt_of_le (Nat.mod_lt _ ?_) ?_ <;> omega)) (rfl) dX4_isNamed_48 ?_
        refine lv_icmp_ne (tgt := 56) hx hb dX4_isNamed_49 (by decide) (fun ce => ?_) (fun ce => ?_)
        · refine lv_iconst (v := nI 0) hx hb dX4_isNamed_56 (by decide) ?_
          refine lv_top (y := zI (decide (tx (f9 + k) = fn k))) (zI_0 (decide_eq_false ce)) ?_
          refine lv_istore (lv' := [(4, .int (zI (decide (tx (f9 + k) = fn k)))), (0, .ref sa), (1, .ref ta), (2, .int (nI f9)), (3, .int (nI e9)), (5, .int (nI k))]) hx hb dX4_isNamed_57 hl (by decide) rfl (fun ls hl => ?_)
          refine lv_iinc (v := nI (k + 1)) (lv' := [(5, .int (nI (k + 1))), (4, .int (zI (decide (tx (f9 + k) = fn k)))), (0, .ref sa), (1, .ref ta), (2, .int (nI f9)), (3, .int (nI e9))]) hx hb dX4_isNamed_59 hl (k := 5) rfl (nI_add k 1) (by decide) rfl (fun ls hl => ?_)
          refine lv_goto (tgt := 21) hx hb dX4_isNamed_62 (by decide) ?_
          exact ih21 (k + 1) _ (by omega) H locs ls ⟨by omega, is_next his ci, hH, hS, lv_sub hl [2, 3, 4, 5, 1, 0] rfl⟩
        · refine lv_iconst (v := nI 1) hx hb dX4_isNamed_52 (by decide) ?_
          refine lv_goto (tgt := 57) hx hb dX4_isNamed_53 (by decide) ?_
          refine lv_top (y := zI (decide (tx (f9 + k) = fn k))) (zI_1 (decide_eq_true ce)) ?_
          refine lv_istore (lv' := [(4, .int (zI (decide (tx (f9 + k) = fn k)))), (0, .ref sa), (1, .ref ta), (2, .int (nI f9)), (3, .int (nI e9)), (5, .int (nI k))]) hx hb dX4_isNamed_57 hl (by decide) rfl (fun ls hl => ?_)
          refine lv_iinc (v := nI (k + 1)) (lv' := [(5, .int (nI (k + 1))), (4, .int (zI (decide (tx (f9 + k) = fn k)))), (0, .ref sa), (1, .ref ta), (2, .int (nI f9)), (3, .int (nI e9))]) hx hb dX4_isNamed_59 hl (k := 5) rfl (nI_add k 1) (by decide) rfl (fun ls hl => ?_)
          refine lv_goto (tgt := 21) hx hb dX4_isNamed_62 (by decide) ?_
          exact ih21 (k + 1) _ (by omega) H locs ls ⟨by omega, is_next his ci, hH, hS, lv_sub hl [2, 3, 4, 5, 1, 0] rfl⟩
end MODEL
