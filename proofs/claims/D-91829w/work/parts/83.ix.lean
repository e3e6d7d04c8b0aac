/-! by gen/mspec.py -/
set_option maxRecDepth 100000
section MODEL
variable {l : Launch} {s0 : State} {D : va_G} {K : Nat → ClassId} {wd : Nat → Nat} {o : Nat} {h : Hp} {I : Nat → Int32} {V : Nat → Nat → Int32} {J : Nat → Nat → Int64}
set_option maxHeartbeats 4000000 in
theorem mj_canEnc (hK0 : va_K D CL (TYS K) s0) : Met l yJ7_canEncode (ws_ yJ7_canEncode cJ7_canEncode 1 ((Option.some Jvm.ClassFile.FieldType.boolean))) (rmk 0 0 0) (va_Pc [.int (nI 32)] (PB s0 D CL (h))) (QR s0 D CL (fun v h1 => v = some (.int (nI 1)) ∧ h1 = h)) 0 0 (zA s0) := by
  refine hp_met (by decide) (Nat.le_of_ble_eq_true rfl) hK0 ?_
  intro p e s m below meth cd ls hx hb hr hlocks hml hown hnm hts hK hPB hl hS hH hA
  have hl : lv_has ls 1 [(0, .int (nI 32))] := hl
  have hown : s.vm.findClass RJ7 = some m.cls := hown
  refine lv_iload_n hx hb dJ7_canEncode_0 rfl (lv_at hl 0 rfl) ?_
  refine lv_if_lt (tgt := 15) hx hb dJ7_canEncode_1 (by decide) (fun c1 => ?_) (fun c1 => ?_)
  · exact absurd c1 (nI_pos (by decide))
  · refine lv_iload_n hx hb dJ7_canEncode_4 rfl (lv_at hl 0 rfl) ?_
    refine lv_sipush (v := nI 255) hx hb dJ7_canEncode_5 (by decide) ?_
    refine lvN_gt (tgt := 15) hx hb (by first | omega | (refine Nat.lt_of_lt_of_le (Nat.mod_lt _ ?_) ?_ <;> omega)) (by first | omega | (refine Nat.lt_of_lt_of_le (Nat.mod_lt _ ?_) ?_ <;> omega)) dJ7_canEncode_8 (by decide) (fun c2 => ?_) (fun c2 => ?_)
    · exact absurd c2 (by omega)
    · refine lv_iconst (v := nI 1) hx hb dJ7_canEncode_11 (by decide) ?_
      refine lv_goto (tgt := 16) hx hb dJ7_canEncode_12 (by decide) ?_
      exact hp_zret hx hb hr rfl hlocks hH hS (by decide) (by decide) dJ7_canEncode_16 (⟨rfl, rfl⟩)
set_option maxHeartbeats 4000000 in
theorem mj_ixc (hK0 : va_K D CL (TYS K) s0) {av : Nat → Nat} (hX : OX wd av (zA s0) s0 s0.heap) {f9 : Nat} (hf9 : f9 < 44) : Met l yJ7_indexOfChar (ws_ yJ7_indexOfChar cJ7_indexOfChar 6 ((Option.some Jvm.ClassFile.FieldType.int))) (rmk 0 0 0) (va_Pc [.ref (av 9), .int (nI 32), .int (nI f9), .int (nI 44)] (PB s0 D CL (h))) (QR s0 D CL (fun v h1 => ∃ r, v = some (.int (nI r)) ∧ (f9 ≤ r ∧ r < 44 ∧ (WBYT.getD 9 []).getD r 0 = nI 32) ∧ (∀ u, f9 ≤ u → u < r → (WBYT.getD 9 []).getD u 0 ≠ nI 32) ∧ h1 = h)) 0 0 (zA s0) := by
  refine hp_met (by decide) (Nat.le_of_ble_eq_true rfl) hK0 ?_
  intro p e s m below meth cd ls hx hb hr hlocks hml hown hnm hts hK hPB hl hS hH hA
  have hl : lv_has ls 6 [(0, .ref (av 9)), (1, .int (nI 32)), (2, .int (nI f9)), (3, .int (nI 44))] := hl
  have hown : s.vm.findClass RJ7 = some m.cls := hown
  have hG := hX.at hPB
  have hw9 : WLEN.getD 9 0 = 44 := by decide
  refine lv_iload_n hx hb dJ7_indexOfChar_0 rfl (lv_at hl 1 rfl) ?_
  refine lv_i2b (v := nI 32) hx hb dJ7_indexOfChar_1 (by decide) ?_
  refine lv_istore (lv' := [(4, .int (nI 32)), (0, .ref (av 9)), (1, .int (nI 32)), (2, .int (nI f9)), (3, .int (nI 44))]) hx hb dJ7_indexOfChar_2 hl (by decide) rfl (fun ls hl => ?_)
  refine lv_iload_n hx hb dJ7_indexOfChar_4 rfl (lv_at hl 3 rfl) ?_
  refine lv_istore (lv' := [(5, .int (nI f9)), (4, .int (nI 32)), (0, .ref (av 9)), (1, .int (nI 32)), (2, .int (nI f9)), (3, .int (nI 44))]) hx hb dJ7_indexOfChar_5 hl (by decide) rfl (fun ls hl => ?_)
  refine w_loop1 (fun (i : Nat) => 44 - i) (fun (i : Nat) H locs ls => (f9 ≤ i ∧ i ≤ 43) ∧ (∀ u, f9 ≤ u → u < i → (WBYT.getD 9 []).getD u 0 ≠ nI 32) ∧ HP D CL (zA s0) h H ∧ va_S (zA s0) s.heap H locs ∧ lv_has ls 6 [(0, .ref (av 9)), (1, .int (nI 32)), (2, .int (nI f9)), (3, .int (nI 44)), (4, .int (nI 32)), (5, .int (nI i))]) ?_ f9 ⟨⟨Nat.le_refl _, by omega⟩, fun u h1 h2 => absurd (Nat.lt_of_le_of_lt h1 h2) (Nat.lt_irrefl _), hH, hS, lv_sub hl [2, 3, 4, 5, 1, 0] rfl⟩
  intro i ih7 H locs ls hP
  obtain ⟨hii, hno, hH, hS, hl⟩ := hP
  refine lv_iload hx hb dJ7_indexOfChar_7 (lv_at hl 5 rfl) ?_
  refine lv_iload_n hx hb dJ7_indexOfChar_9 rfl (lv_at hl 3 rfl) ?_
  refine lvN_ge (tgt := 31) hx hb (by first | omega | (refine Nat.lt_of_lt_of_le (Nat.mod_lt _ ?_) ?_ <;> omega)) (by first | omega | (refine Nat.lt_of_lt_of_le (Nat.mod_lt _ ?_) ?_ <;> omega)) dJ7_indexOfChar_10 (by decide) (fun c1 => ?_) (fun c1 => ?_)
  · refine lv_iconst (v := (-1)) hx hb dJ7_indexOfChar_31 (by decide) ?_
    exact hp_iret hx hb hr hlocks hH hS (by decide) (by decide) dJ7_indexOfChar_32 (absurd hii (by omega))
  · refine lv_aload_n hx hb dJ7_indexOfChar_13 rfl (lv_at hl 0 rfl) ?_
    refine lv_iload hx hb dJ7_indexOfChar_14 (lv_at hl 5 rfl) ?_
    refine va_tb (v := .int ((WBYT.getD 9 []).getD i 0)) hx hb (hG.ar (by decide)) hS (vp_in_nI (by show i < 44; omega) (by first | omega | (refine Nat.lt_of_lt_of_le (Nat.mod_lt _ ?_) ?_ <;> omega))) (by rw [nI_clamp (by first | omega | (refine Nat.lt_of_lt_of_le (Nat.mod_lt _ ?_) ?_ <;> omega))]) dJ7_indexOfChar_16 ?_
    refine lv_iload hx hb dJ7_indexOfChar_17 (lv_at hl 4 rfl) ?_
    refine lv_icmp_ne (tgt := 25) hx hb dJ7_indexOfChar_19 (by decide) (fun cc => ?_) (fun cc => ?_)
    · refine lv_iinc (v := nI (i + 1)) (lv' := [(5, .int (nI (i + 1))), (0, .ref (av 9)), (1, .int (nI 32)), (2, .int (nI f9)), (3, .int (nI 44)), (4, .int (nI 32))]) hx hb dJ7_indexOfChar_25 hl (k := 5) rfl (nI_add i 1) (by decide) rfl (fun ls hl => ?_)
      refine lv_goto (tgt := 7) hx hb dJ7_indexOfChar_28 (by decide) ?_
      exact ih7 (i + 1) (by omega) H locs ls ⟨⟨by omega, w_stop cc (by omega)⟩, fun u h1 h2 => by rcases Nat.lt_succ_iff_lt_or_eq.mp h2 with z | z; exact hno u h1 z; rw [z]; exact cc, hH, hS, lv_sub hl [1, 2, 3, 4, 5, 0] rfl⟩
    · refine lv_iload hx hb dJ7_indexOfChar_22 (lv_at hl 5 rfl) ?_
      exact hp_iret hx hb hr hlocks hH hS (by decide) (by decide) dJ7_indexOfChar_24 (⟨i, rfl, ⟨by omega, by omega, cc⟩, hno, rfl⟩)
set_option maxHeartbeats 4000000 in
theorem mj_ix (hK0 : va_K D CL (TYS K) s0) {av : Nat → Nat} (hX : OX wd av (zA s0) s0 s0.heap) {f9 : Nat} (hf9 : f9 < 44) : Met l yJ7_indexOf (ws_ yJ7_indexOf cJ7_indexOf 4 ((Option.some Jvm.ClassFile.FieldType.int))) (rmk 1 0 0) (va_Pc [.ref (av 9), .int (nI 32), .int (nI f9), .int (nI 44)] (PB s0 D CL (h))) (QR s0 D CL (fun v h1 => ∃ r, v = some (.int (nI r)) ∧ (f9 ≤ r ∧ r < 44 ∧ (WBYT.getD 9 []).getD r 0 = nI 32) ∧ (∀ u, f9 ≤ u → u < r → (WBYT.getD 9 []).getD u 0 ≠ nI 32) ∧ h1 = h)) 0 0 (zA s0) := by
  refine hp_met (by decide) (Nat.le_of_ble_eq_true rfl) hK0 ?_
  intro p e s m below meth cd ls hx hb hr hlocks hml hown hnm hts hK hPB hl hS hH hA
  have hl : lv_has ls 4 [(0, .ref (av 9)), (1, .int (nI 32)), (2, .int (nI f9)), (3, .int (nI 44))] := hl
  have hown : s.vm.findClass RJ7 = some m.cls := hown
  have hG := hX.at hPB
  have hw9 : WLEN.getD 9 0 = 44 := by decide
  refine lv_iload_n hx hb dJ7_indexOf_0 rfl (lv_at hl 1 rfl) ?_
  refine hp_callS (As := [.int (nI 32)]) (rest := []) hx hb hml hown hts hPB hH hS (mj_canEnc hK0) 1 (lw_S q405 q406 q113 q407) (by decide +kernel) ⟨rfl, rfl⟩ (by decide) rfl hl.1 rfl (Nat.le_of_ble_eq_true rfl) (by decide) dJ7_indexOf_1 (fun v1 h3 H locs hp2 _ hH hS => ?_)
  obtain ⟨rfl, hq⟩ := hp2
  rw [hq] at hH
  refine lv_if_ne (tgt := 9) hx hb dJ7_indexOf_4 (by decide) (fun c4 => ?_) (fun c4 => ?_)
  · refine lv_iload_n hx hb dJ7_indexOf_9 rfl (lv_at hl 2 rfl) ?_
    refine lv_iconst (v := nI 0) hx hb dJ7_indexOf_10 (by decide) ?_
    refine va_mmax hx hb (hml.trans hl.1.symm) hown (hts _ q408) (hts _ q409) (hts _ q114) (hts _ q410) (Nat.le_of_ble_eq_true rfl) (Nat.le_of_ble_eq_true rfl) (Nat.le_of_ble_eq_true rfl) (Nat.le_of_ble_eq_true rfl) dJ7_indexOf_11 ?_
    refine lv_top (y := nI f9) ((i_maxN (by omega) (by omega)).trans (congrArg nI (by omega))) ?_
    refine lv_istore_n (lv' := [(2, .int (nI f9)), (0, .ref (av 9)), (1, .int (nI 32)), (3, .int (nI 44))]) hx hb dJ7_indexOf_14 rfl hl (by decide) rfl (fun ls hl => ?_)
    refine lv_iload_n hx hb dJ7_indexOf_15 rfl (lv_at hl 3 rfl) ?_
    refine lv_aload_n hx hb dJ7_indexOf_16 rfl (lv_at hl 1 rfl) ?_
    refine va_tlen (v := nI (WLEN.getD 9 0)) hx hb (hG.ar (by decide)) hS rfl dJ7_indexOf_17 ?_
    refine va_mmin hx hb (hml.trans hl.1.symm) hown (hts _ q411) (hts _ q412) (hts _ q114) (hts _ q413) (Nat.le_of_ble_eq_true rfl) (Nat.le_of_ble_eq_true rfl) (Nat.le_of_ble_eq_true rfl) (Nat.le_of_ble_eq_true rfl) dJ7_indexOf_18 ?_
    refine lv_top (y := nI 44) ((i_minN (by omega) (by decide)).trans (congrArg nI (by decide))) ?_
    refine lv_istore_n (lv' := [(3, .int (nI 44)), (2, .int (nI f9)), (0, .ref (av 9)), (1, .int (nI 32))]) hx hb dJ7_indexOf_21 rfl hl (by decide) rfl (fun ls hl => ?_)
    refine lv_iload_n hx hb dJ7_indexOf_22 rfl (lv_at hl 1 rfl) ?_
    refine lv_iload_n hx hb dJ7_indexOf_23 rfl (lv_at hl 0 rfl) ?_
    refine lvN_lt (tgt := 29) hx hb (by first | omega | (refine Nat.lt_of_lt_of_le (Nat.mod_lt _ ?_) ?_ <;> omega)) (by first | omega | (refine Nat.lt_of_lt_of_le (Nat.mod_lt _ ?_) ?_ <;> omega)) dJ7_indexOf_24 (by decide) (fun c5 => ?_) (fun c5 => ?_)
    · refine lv_aload_n hx hb dJ7_indexOf_29 rfl (lv_at hl 2 rfl) ?_
      refine lv_iload_n hx hb dJ7_indexOf_30 rfl (lv_at hl 3 rfl) ?_
      refine lv_iload_n hx hb dJ7_indexOf_31 rfl (lv_at hl 1 rfl) ?_
      refine lv_iload_n hx hb dJ7_indexOf_32 rfl (lv_at hl 0 rfl) ?_
      refine hp_callS (As := [.ref (av 9), .int (nI 32), .int (nI f9), .int (nI 44)]) (rest := []) hx hb hml hown hts hPB hH hS (mj_ixc hK0 hX hf9) 4 (lw_S q414 q415 q113 q416) (by decide +kernel) ⟨rfl, rfl⟩ (by decide) rfl hl.1 rfl (Nat.le_of_ble_eq_true rfl) (by decide) dJ7_indexOf_33 (fun v6 h8 H locs hp7 _ hH hS => ?_)
      obtain ⟨r, rfl, hr1, hr2, hq⟩ := hp7
      rw [hq] at hH
      exact hp_iret hx hb hr hlocks hH hS (by decide) (by decide) dJ7_indexOf_36 (⟨r, rfl, hr1, hr2, rfl⟩)
    · exact absurd c5 (by omega)
  · exact absurd c4 (by decide)
set_option maxHeartbeats 4000000 in
theorem mj_indexOf (hK0 : va_K D CL (TYS K) s0) {av : Nat → Nat} (hX : OX wd av (zA s0) s0 s0.heap) {f9 : Nat} (hf9 : f9 < 44) : Met l yJ6_indexOf (ws_ yJ6_indexOf cJ6_indexOf 3 ((Option.some Jvm.ClassFile.FieldType.int))) (rmk 2 0 0) (va_Pc [.ref (wd 9), .int (nI 32), .int (nI f9)] (PB s0 D CL (h))) (QR s0 D CL (fun v h1 => ∃ r, v = some (.int (nI r)) ∧ (f9 ≤ r ∧ r < 44 ∧ (WBYT.getD 9 []).getD r 0 = nI 32) ∧ (∀ u, f9 ≤ u → u < r → (WBYT.getD 9 []).getD u 0 ≠ nI 32) ∧ h1 = h)) 0 0 (zA s0) := by
  refine hp_met (by decide) (Nat.le_of_ble_eq_true rfl) hK0 ?_
  intro p e s m below meth cd ls hx hb hr hlocks hml hown hnm hts hK hPB hl hS hH hA
  have hl : lv_has ls 3 [(0, .ref (wd 9)), (1, .int (nI 32)), (2, .int (nI f9))] := hl
  have hown : s.vm.findClass RJ6 = some m.cls := hown
  have hG := hX.at hPB
  have hw9 : WLEN.getD 9 0 = 44 := by decide
  refine lv_aload_n hx hb dJ6_indexOf_0 rfl (lv_at hl 0 rfl) ?_
  refine hp_callO (As := []) (rest := []) hx hb hml hown hts hPB hH hS (mj_isLatin1 hK0 hX (i := 9) (by decide)) (vk_recv hG.2.2 (by decide) hS) 0 (lw_V q397 q398 q399 q112 q400) (by decide +kernel) ⟨rfl, rfl⟩ (by decide) rfl hl.1 rfl (Nat.le_of_ble_eq_true rfl) (by decide) dJ6_indexOf_1 (fun v1 h3 H locs hp2 _ hH hS => ?_)
  obtain ⟨rfl, hq⟩ := hp2
  rw [hq] at hH
  refine lvZ_eq (tgt := 23) hx hb (by first | omega | (refine Nat.lt_of_lt_of_le (Nat.mod_lt _ ?_) ?_ <;> omega)) dJ6_indexOf_4 (by decide) (fun c4 => ?_) (fun c4 => ?_)
  · exact absurd c4 (by decide)
  · refine lv_aload_n hx hb dJ6_indexOf_7 rfl (lv_at hl 0 rfl) ?_
    refine vk_getf (v := .ref (av 9)) hx hb (hG.vl (by decide)) hS hown (hts _ q2041) (fun _ z => z) dJ6_indexOf_8 ?_
    refine lv_iload_n hx hb dJ6_indexOf_11 rfl (lv_at hl 1 rfl) ?_
    refine lv_iload_n hx hb dJ6_indexOf_12 rfl (lv_at hl 2 rfl) ?_
    refine lv_aload_n hx hb dJ6_indexOf_13 rfl (lv_at hl 0 rfl) ?_
    refine hp_callO (As := []) (rest := [.int (nI f9), .int (nI 32), .ref (av 9)]) hx hb hml hown hts hPB hH hS (mj_length hK0 hX (i := 9) (by decide)) (vk_recv hG.2.2 (by decide) hS) 0 (lw_V q401 q376 q377 q112 q378) (by decide +kernel) ⟨rfl, rfl⟩ (by decide) rfl hl.1 rfl (Nat.le_of_ble_eq_true rfl) (by decide) dJ6_indexOf_14 (fun v5 h7 H locs hp6 _ hH hS => ?_)
    obtain ⟨rfl, hq⟩ := hp6
    rw [hq] at hH
    refine hp_callS (As := [.ref (av 9), .int (nI 32), .int (nI f9), .int (nI 44)]) (rest := []) hx hb hml hown hts hPB hH hS (mj_ix hK0 hX hf9) 4 (lw_S q402 q403 q113 q404) (by decide +kernel) ⟨rfl, rfl⟩ (by decide) rfl hl.1 rfl (Nat.le_of_ble_eq_true rfl) (by decide) dJ6_indexOf_17 (fun v8 h10 H locs hp9 _ hH hS => ?_)
    obtain ⟨r, rfl, hr1, hr2, hq⟩ := hp9
    rw [hq] at hH
    refine lv_goto (tgt := 36) hx hb dJ6_indexOf_20 (by decide) ?_
    exact hp_iret hx hb hr hlocks hH hS (by decide) (by decide) dJ6_indexOf_36 (⟨r, rfl, hr1, hr2, rfl⟩)
end MODEL
