/-! by gen/mspec.py -/
set_option maxRecDepth 100000
section MODEL
variable {l : Launch} {s0 : State} {D : va_G} {K : Nat → ClassId} {wd : Nat → Nat} {o : Nat} {h : Hp} {I : Nat → Int32} {V : Nat → Nat → Int32} {J : Nat → Nat → Int64}
set_option maxHeartbeats 4000000 in
theorem mc_isOver (hK0 : va_K D CL (TYS K) s0) {av : Nat → Nat} {ed mi : Nat} (hG : GX s0 wd av ed mi) {us ss : Value} (hTX : TX s0 us ss) {S : Ab} {rd ta lg lm lr : Nat} {tx : Nat → Int32} (hta : h ta = some (.inl (K 1, 700, .inl tx), 2)) (htx : ∀ k, k < aSz S → tx k = aTx S k) (hsz : aSz S ≤ 700) {t1 t2 : Nat} (hrd : h rd = some (.inr (1, [.ref ta, .int (nI (aSz S)), .int (nI t2), .int (nI t1), .ref lg, .ref lm, .ref lr]), 3)) (hok : tkOK S (t1, t2)) : Met l yX1_isOver (ws_ yX1_isOver cX1_isOver 1 ((Option.some Jvm.ClassFile.FieldType.boolean))) (rmk 0 0 0) (va_Pc [.ref rd] (PB s0 D CL (h))) (QR s0 D CL (fun v h1 => v = some (.int (zI (decide (t1 = aSz S)))) ∧ h1 = h)) 0 0 (zA s0) := by
  refine hp_met (by decide) (Nat.le_of_ble_eq_true rfl) hK0 ?_
  intro p e s m below meth cd ls hx hb hr hlocks hml hown hnm hts hK hPB hl hS hH hA
  have hl : lv_has ls 1 [(0, .ref rd)] := hl
  have hown : s.vm.findClass RX1 = some m.cls := hown
  have hk1 : t1 ≤ t2 ∧ t2 ≤ aSz S := hok.1
  refine lv_aload_n hx hb dX1_isOver_0 rfl (lv_at hl 0 rfl) ?_
  refine hp_get (C := RX1) (T := TX1) (N := 7) (v := .int (nI t1)) hx hb hts in_X1 hown hK hH hrd rfl 3 (by decide) (hts _ q188) (fun _ z => z) rfl dX1_isOver_1 ?_
  refine lv_aload_n hx hb dX1_isOver_4 rfl (lv_at hl 0 rfl) ?_
  refine hp_get (C := RX1) (T := TX1) (N := 7) (v := .int (nI (aSz S))) hx hb hts in_X1 hown hK hH hrd rfl 1 (by decide) (hts _ q186) (fun _ z => z) rfl dX1_isOver_5 ?_
  refine lvN_ne (tgt := 15) hx hb (by first | omega | (refine Nat.lt_of_lt_of_le (Nat.mod_lt _ ?_) ?_ <;> omega)) (by first | omega | (refine Nat.lt_of_lt_of_le (Nat.mod_lt _ ?_) ?_ <;> omega)) dX1_isOver_8 (by decide) (fun c1 => ?_) (fun c1 => ?_)
  · refine lv_iconst (v := nI 0) hx hb dX1_isOver_15 (by decide) ?_
    exact hp_zret hx hb hr rfl hlocks hH hS (by first | decide | omega | (simp only [rmk]; omega)) (by first | decide | omega | (simp only [rmk]; omega)) dX1_isOver_16 (⟨congrArg some (congrArg Value.int (zI_0 (decide_eq_false c1))), rfl⟩)
  · refine lv_iconst (v := nI 1) hx hb dX1_isOver_11 (by decide) ?_
    refine lv_goto (tgt := 16) hx hb dX1_isOver_12 (by decide) ?_
    exact hp_zret hx hb hr rfl hlocks hH hS (by first | decide | omega | (simp only [rmk]; omega)) (by first | decide | omega | (simp only [rmk]; omega)) dX1_isOver_16 (⟨congrArg some (congrArg Value.int (zI_1 (decide_eq_true c1))), rfl⟩)
set_option maxHeartbeats 4000000 in
theorem mc_isWord (hK0 : va_K D CL (TYS K) s0) {av : Nat → Nat} {ed mi : Nat} (hG : GX s0 wd av ed mi) {us ss : Value} (hTX : TX s0 us ss) {S : Ab} {rd ta lg lm lr : Nat} {tx : Nat → Int32} (hta : h ta = some (.inl (K 1, 700, .inl tx), 2)) (htx : ∀ k, k < aSz S → tx k = aTx S k) (hsz : aSz S ≤ 700) {t1 t2 : Nat} (hrd : h rd = some (.inr (1, [.ref ta, .int (nI (aSz S)), .int (nI t2), .int (nI t1), .ref lg, .ref lm, .ref lr]), 3)) (hok : tkOK S (t1, t2)) : Met l yX1_isWord (ws_ yX1_isWord cX1_isWord 1 ((Option.some Jvm.ClassFile.FieldType.boolean))) (rmk 1 0 0) (va_Pc [.ref rd] (PB s0 D CL (h))) (QR s0 D CL (fun v h1 => v = some (.int (zI (inR S t1 97 122))) ∧ h1 = h)) 0 0 (zA s0) := by
  refine hp_met (by decide) (Nat.le_of_ble_eq_true rfl) hK0 ?_
  intro p e s m below meth cd ls hx hb hr hlocks hml hown hnm hts hK hPB hl hS hH hA
  have hl : lv_has ls 1 [(0, .ref rd)] := hl
  have hown : s.vm.findClass RX1 = some m.cls := hown
  have hk1 : t1 ≤ t2 ∧ t2 ≤ aSz S := hok.1
  refine lv_aload_n hx hb dX1_isWord_0 rfl (lv_at hl 0 rfl) ?_
  refine hp_callV (As := []) (rest := []) hx hb hml hown hts hPB hK hH hS (mc_isOver hK0 hG hTX hta htx hsz hrd hok) hrd rfl rfl 0 (lw_V q389 q391 qs7 q103 q392) (by decide +kernel) ⟨rfl, rfl⟩ (by first | decide | omega | (simp only [rmk]; omega)) rfl hl.1 rfl (Nat.le_of_ble_eq_true rfl) (by first | decide | omega | (simp only [rmk]; omega)) dX1_isWord_1 (fun v1 h3 H locs hp2 _ hH hS => ?_)
  obtain ⟨rfl, hq⟩ := hp2
  rw [hq] at hH
  refine lvB_ne (tgt := 26) hx hb dX1_isWord_4 (by decide) (fun c1 => ?_) (fun c1 => ?_)
  · refine lv_iconst (v := nI 0) hx hb dX1_isWord_26 (by decide) ?_
    exact hp_zret hx hb hr rfl hlocks hH hS (by first | decide | omega | (simp only [rmk]; omega)) (by first | decide | omega | (simp only [rmk]; omega)) dX1_isWord_27 (⟨congrArg some (congrArg Value.int (zI_0 (by unfold inR; rw [decide_eq_false (show ¬ t1 < aSz S by have := of_decide_eq_true c1; omega)]; rfl))), rfl⟩)
  · have hne := of_decide_eq_false c1
    refine lv_aload_n hx hb dX1_isWord_7 rfl (lv_at hl 0 rfl) ?_
    refine hp_get (C := RX1) (T := TX1) (N := 7) (v := .ref ta) hx hb hts in_X1 hown hK hH hrd rfl 0 (by decide) (hts _ q185) (fun _ z => z) rfl dX1_isWord_8 ?_
    refine lv_aload_n hx hb dX1_isWord_11 rfl (lv_at hl 0 rfl) ?_
    refine hp_get (C := RX1) (T := TX1) (N := 7) (v := .int (nI t1)) hx hb hts in_X1 hown hK hH hrd rfl 3 (by decide) (hts _ q188) (fun _ z => z) rfl dX1_isWord_12 ?_
    refine hp_bld (n := 700) (j := t1) (v := aTx S t1) hx hb hK hH 1 hta rfl (by first | omega | (refine Nat.lt_of_lt_of_le (Nat.mod_lt _ ?_) ?_ <;> omega)) (by first | omega | (refine Nat.lt_of_lt_of_le (Nat.mod_lt _ ?_) ?_ <;> omega)) (htx _ (by omega)) dX1_isWord_15 ?_
    refine hp_callS (As := [.int (aTx S t1)]) (rest := []) hx hb hml hown hts hPB hH hS (mc_isLetter hK0 (aTx S t1)) 1 (lw_S q288 q289 q103 q290) (by decide +kernel) ⟨rfl, rfl⟩ (by first | decide | omega | (simp only [rmk]; omega)) rfl hl.1 rfl (Nat.le_of_ble_eq_true rfl) (by first | decide | omega | (simp only [rmk]; omega)) dX1_isWord_16 (fun v4 h6 H locs hp5 _ hH hS => ?_)
    obtain ⟨rfl, hq⟩ := hp5
    rw [hq] at hH
    refine lv_top (y := zI (inR S t1 97 122)) (congrArg zI (let_in (show t1 < aSz S by omega) 97 122)) ?_
    refine lvB_eq (tgt := 26) hx hb dX1_isWord_19 (by decide) (fun c2 => ?_) (fun c2 => ?_)
    · refine lv_iconst (v := nI 0) hx hb dX1_isWord_26 (by decide) ?_
      exact hp_zret hx hb hr rfl hlocks hH hS (by first | decide | omega | (simp only [rmk]; omega)) (by first | decide | omega | (simp only [rmk]; omega)) dX1_isWord_27 (⟨congrArg some (congrArg Value.int (zI_0 c2)), rfl⟩)
    · refine lv_iconst (v := nI 1) hx hb dX1_isWord_22 (by decide) ?_
      refine lv_goto (tgt := 27) hx hb dX1_isWord_23 (by decide) ?_
      exact hp_zret hx hb hr rfl hlocks hH hS (by first | decide | omega | (simp only [rmk]; omega)) (by first | decide | omega | (simp only [rmk]; omega)) dX1_isWord_27 (⟨congrArg some (congrArg Value.int (zI_1 c2)), rfl⟩)
set_option maxHeartbeats 4000000 in
theorem mc_word (hK0 : va_K D CL (TYS K) s0) {av : Nat → Nat} {ed mi : Nat} (hG : GX s0 wd av ed mi) {us ss : Value} (hTX : TX s0 us ss) {S : Ab} {rd ta lg lm lr : Nat} {tx : Nat → Int32} (hta : h ta = some (.inl (K 1, 700, .inl tx), 2)) (htx : ∀ k, k < aSz S → tx k = aTx S k) (hsz : aSz S ≤ 700) {t1 t2 : Nat} (hrd : h rd = some (.inr (1, [.ref ta, .int (nI (aSz S)), .int (nI t2), .int (nI t1), .ref lg, .ref lm, .ref lr]), 3)) (hok : tkOK S (t1, t2)) (hWS : vk_R "FirstIn$Reader" 58 WSTR (wd 9) s0) : Met l yX1_word (ws_ yX1_word cX1_word 5 ((Option.some Jvm.ClassFile.FieldType.int))) (rmk 5 0 0) (va_Pc [.ref rd] (PB s0 D CL (h))) (QR s0 D CL (fun v h1 => v = some (.int (oI (wdO S (t1, t2)))) ∧ h1 = h)) 0 0 (zA s0) := by
  refine hp_met (by decide) (Nat.le_of_ble_eq_true rfl) hK0 ?_
  intro p e s m below meth cd ls hx hb hr hlocks hml hown hnm hts hK hPB hl hS hH hA
  have hl : lv_has ls 5 [(0, .ref rd)] := hl
  have hown : s.vm.findClass RX1 = some m.cls := hown
  have hk1 : t1 ≤ t2 ∧ t2 ≤ aSz S := hok.1
  have hGX := hG
  have hX := hG.1
  have hG := hX.at hPB
  refine lv_iconst (v := nI 0) hx hb dX1_word_0 (by decide) ?_
  refine lv_istore_n (lv' := [(1, .int (nI 0)), (0, .ref rd)]) hx hb dX1_word_1 rfl hl (by decide) rfl (fun ls hl => ?_)
  refine lv_iconst (v := nI 0) hx hb dX1_word_2 (by decide) ?_
  refine lv_istore_n (lv' := [(2, .int (nI 0)), (1, .int (nI 0)), (0, .ref rd)]) hx hb dX1_word_3 rfl hl (by decide) rfl (fun ls hl => ?_)
  refine w_loop1 (fun (k9 : Nat) => 9 - k9) (fun (k9 : Nat) H locs ls => (k9 ≤ 9) ∧ (∀ u, u < k9 → wrdB S (t1, t2) (prm u) = false) ∧ HP D CL (zA s0) h H ∧ va_S (zA s0) s.heap H locs ∧ lv_has ls 5 [(0, .ref rd), (1, .int (nI k9)), (2, .int (nI (stF k9)))]) ?_ 0 ⟨Nat.zero_le _, fun u hu => absurd hu (Nat.not_lt_zero _), hH, hS, lv_sub hl [2, 1, 0] rfl⟩
  intro k9 ih4 H locs ls hP
  obtain ⟨hk9, hno, hH, hS, hl⟩ := hP
  have hst : (k9 < 9 → stF k9 + 3 ≤ stF (k9 + 1) ∧ stF (k9 + 1) ≤ 44) ∧ (k9 = 9 → stF k9 = 44) := ⟨fun z => ⟨(stF_ok k9 z).1, (stF_ok k9 z).2.1⟩, fun z => by rw [z]; rfl⟩
  refine lv_iload_n hx hb dX1_word_4 rfl (lv_at hl 2 rfl) ?_
  refine va_ldcS hx hb hown (vk_R.warm hPB.1 hWS) dX1_word_5 ?_
  refine hp_callO (As := []) (rest := [.int (nI (stF k9))]) hx hb hml hown hts hPB hH hS (mj_length hK0 hX (i := 9) (by decide)) (vk_recv hG.2.2 (show 9 < 10 by decide) hS) 0 (lw_V q375 q376 q377 q112 q378) (by decide +kernel) ⟨rfl, rfl⟩ (by first | decide | omega | (simp only [rmk]; omega)) rfl hl.1 rfl (Nat.le_of_ble_eq_true rfl) (by first | decide | omega | (simp only [rmk]; omega)) dX1_word_7 (fun v1 h3 H locs hp2 _ hH hS => ?_)
  obtain ⟨rfl, hq⟩ := hp2
  rw [hq] at hH
  refine lv_top (y := nI 44) rfl ?_
  refine lvN_ge (tgt := 118) hx hb (by first | omega | (refine Nat.lt_of_lt_of_le (Nat.mod_lt _ ?_) ?_ <;> omega)) (by first | omega | (refine Nat.lt_of_lt_of_le (Nat.mod_lt _ ?_) ?_ <;> omega)) dX1_word_10 (by decide) (fun ce => ?_) (fun ce => ?_)
  · refine lv_iconst (v := (-1)) hx hb dX1_word_118 (by decide) ?_
    exact hp_iret hx hb hr hlocks hH hS (by first | decide | omega | (simp only [rmk]; omega)) (by first | decide | omega | (simp only [rmk]; omega)) dX1_word_119 (⟨congrArg some (congrArg Value.int (by rw [wdO_no (fun u hu => hno u (by omega))]; rfl)), rfl⟩)
  · refine lv_aload_n hx hb dX1_word_13 rfl (lv_at hl 0 rfl) ?_
    refine hp_callV (As := []) (rest := []) hx hb hml hown hts hPB hK hH hS (mc_isWord hK0 hGX hTX hta htx hsz hrd hok) hrd rfl rfl 0 (lw_V q385 q387 qs6 q103 q388) (by decide +kernel) ⟨rfl, rfl⟩ (by first | decide | omega | (simp only [rmk]; omega)) rfl hl.1 rfl (Nat.le_of_ble_eq_true rfl) (by first | decide | omega | (simp only [rmk]; omega)) dX1_word_14 (fun v4 h6 H locs hp5 _ hH hS => ?_)
    obtain ⟨rfl, hq⟩ := hp5
    rw [hq] at hH
    refine lvB_eq (tgt := 118) hx hb dX1_word_17 (by decide) (fun cwd => ?_) (fun cwd => ?_)
    · refine lv_iconst (v := (-1)) hx hb dX1_word_118 (by decide) ?_
      exact hp_iret hx hb hr hlocks hH hS (by first | decide | omega | (simp only [rmk]; omega)) (by first | decide | omega | (simp only [rmk]; omega)) dX1_word_119 (⟨congrArg some (congrArg Value.int (by rw [wdO_none hok cwd]; rfl)), rfl⟩)
    · refine va_ldcS hx hb hown (vk_R.warm hPB.1 hWS) dX1_word_20 ?_
      refine lv_bipush (v := nI 32) hx hb dX1_word_22 (by decide) ?_
      refine lv_iload_n hx hb dX1_word_24 rfl (lv_at hl 2 rfl) ?_
      refine hp_callO (As := [.int (nI 32), .int (nI (stF k9))]) (rest := []) hx hb hml hown hts hPB hH hS (mj_indexOf hK0 hX (f9 := stF k9) (by omega)) (vk_recv hG.2.2 (show 9 < 10 by decide) hS) 2 (lw_V q393 q394 q395 q112 q396) (by decide +kernel) ⟨rfl, rfl⟩ (by first | decide | omega | (simp only [rmk]; omega)) rfl hl.1 rfl (Nat.le_of_ble_eq_true rfl) (by first | decide | omega | (simp only [rmk]; omega)) dX1_word_25 (fun v7 h9 H locs hp8 _ hH hS => ?_)
      obtain ⟨r9, rfl, hr1, hr2, hq⟩ := hp8
      rw [hq] at hH
      have er9 := ix_end (show k9 < 9 by omega) hr1 hr2
      subst er9
      refine lv_istore_n (lv' := [(3, .int (nI (stF (k9 + 1) - 1))), (0, .ref rd), (1, .int (nI k9)), (2, .int (nI (stF k9)))]) hx hb dX1_word_28 rfl hl (by decide) rfl (fun ls hl => ?_)
      refine lv_iconst (v := nI 0) hx hb dX1_word_29 (by decide) ?_
      refine lv_istore (lv' := [(4, .int (nI 0)), (3, .int (nI (stF (k9 + 1) - 1))), (0, .ref rd), (1, .int (nI k9)), (2, .int (nI (stF k9)))]) hx hb dX1_word_30 hl (by decide) rfl (fun ls hl => ?_)
      refine w_loop1 (fun (i9 : Nat) => 44 - i9) (fun (i9 : Nat) H locs ls => (i9 ≤ stF (k9 + 1) - 1 - stF k9 ∧ i9 ≤ t2 - t1) ∧ (∀ u, u < i9 → aTx S (t1 + u) = (WBYT.getD 9 []).getD (stF k9 + u) 0) ∧ HP D CL (zA s0) h H ∧ va_S (zA s0) s.heap H locs ∧ lv_has ls 5 [(0, .ref rd), (1, .int (nI k9)), (2, .int (nI (stF k9))), (3, .int (nI (stF (k9 + 1) - 1))), (4, .int (nI i9))]) ?_ 0 ⟨⟨Nat.zero_le _, Nat.zero_le _⟩, fun u hu => absurd hu (Nat.not_lt_zero _), hH, hS, lv_sub hl [2, 3, 4, 1, 0] rfl⟩
      intro i9 ih32 H locs ls hP
      obtain ⟨hi9, hm9, hH, hS, hl⟩ := hP
      refine lv_iload hx hb dX1_word_32 (lv_at hl 4 rfl) ?_
      refine lv_iload_n hx hb dX1_word_34 rfl (lv_at hl 3 rfl) ?_
      refine lv_iload_n hx hb dX1_word_35 rfl (lv_at hl 2 rfl) ?_
      refine lv_isub hx hb dX1_word_36 ?_
      refine lv_top (y := nI ((stF (k9 + 1) - 1) - (stF k9))) (pk_sub (by first | omega | (refine Nat.lt_of_lt_of_le (Nat.mod_lt _ ?_) ?_ <;> omega))) ?_
      refine lvN_ge (tgt := 84) hx hb (by first | omega | (refine Nat.lt_of_lt_of_le (Nat.mod_lt _ ?_) ?_ <;> omega)) (by first | omega | (refine Nat.lt_of_lt_of_le (Nat.mod_lt _ ?_) ?_ <;> omega)) dX1_word_37 (by decide) (fun c1 => ?_) (fun c1 => ?_)
      · have hex9 : i9 = stF (k9 + 1) - 1 - stF k9 ∨ i9 = t2 - t1 ∨ aTx S (t1 + i9) ≠ (WBYT.getD 9 []).getD (stF k9 + i9) 0 := Or.inl (by omega)
        refine lv_iload hx hb dX1_word_84 (lv_at hl 4 rfl) ?_
        refine lv_iload_n hx hb dX1_word_86 rfl (lv_at hl 3 rfl) ?_
        refine lv_iload_n hx hb dX1_word_87 rfl (lv_at hl 2 rfl) ?_
        refine lv_isub hx hb dX1_word_88 ?_
        refine lv_top (y := nI ((stF (k9 + 1) - 1) - (stF k9))) (pk_sub (by first | omega | (refine Nat.lt_of_lt_of_le (Nat.mod_lt _ ?_) ?_ <;> omega))) ?_
        refine lvN_ne (tgt := 108) hx hb (by first | omega | (refine Nat.lt_of_lt_of_le (Nat.mod_lt _ ?_) ?_ <;> omega)) (by first | omega | (refine Nat.lt_of_lt_of_le (Nat.mod_lt _ ?_) ?_ <;> omega)) dX1_word_89 (by decide) (fun c3 => ?_) (fun c3 => ?_)
        · refine lv_iload_n hx hb dX1_word_108 rfl (lv_at hl 3 rfl) ?_
          refine lv_iconst (v := nI 1) hx hb dX1_word_109 (by decide) ?_
          refine lv_iadd hx hb dX1_word_110 ?_
          refine lv_top (y := nI (stF (k9 + 1) - 1 + 1)) (nI_add _ _) ?_
          refine lv_istore_n (lv' := [(2, .int (nI (stF (k9 + 1) - 1 + 1))), (0, .ref rd), (1, .int (nI k9)), (3, .int (nI (stF (k9 + 1) - 1))), (4, .int (nI i9))]) hx hb dX1_word_111 rfl hl (by decide) rfl (fun ls hl => ?_)
          refine lv_iinc (v := nI (k9 + 1)) (lv' := [(1, .int (nI (k9 + 1))), (2, .int (nI (stF (k9 + 1) - 1 + 1))), (0, .ref rd), (3, .int (nI (stF (k9 + 1) - 1))), (4, .int (nI i9))]) hx hb dX1_word_112 hl (k := 2) rfl (nI_add k9 1) (by decide) rfl (fun ls hl => ?_)
          refine lv_goto (tgt := 4) hx hb dX1_word_115 (by decide) ?_
          have hl : lv_has ls 5 [(1, .int (nI (k9 + 1))), (2, .int (nI (stF (k9 + 1)))), (0, .ref rd), (3, .int (nI (stF (k9 + 1) - 1))), (4, .int (nI i9))] := by rw [show nI (stF (k9 + 1)) = nI (stF (k9 + 1) - 1 + 1) from congrArg nI (by omega)]; exact hl
          exact ih4 (k9 + 1) (by omega) H locs ls ⟨by omega, fun u hu => by by_cases e : u = k9; (rw [e]; exact wd_f (tk := (t1, t2)) (i := i9) (show k9 < 9 by omega) hm9 (fun q => absurd q.1 (by omega)) ⟨by omega, by show i9 ≤ t2 - t1; omega⟩ (hex9)); exact hno u (by omega), hH, hS, lv_sub hl [2, 0, 1] rfl⟩
        · refine lv_iload hx hb dX1_word_92 (lv_at hl 4 rfl) ?_
          refine lv_aload_n hx hb dX1_word_94 rfl (lv_at hl 0 rfl) ?_
          refine hp_get (C := RX1) (T := TX1) (N := 7) (v := .int (nI t2)) hx hb hts in_X1 hown hK hH hrd rfl 2 (by decide) (hts _ q187) (fun _ z => z) rfl dX1_word_95 ?_
          refine lv_aload_n hx hb dX1_word_98 rfl (lv_at hl 0 rfl) ?_
          refine hp_get (C := RX1) (T := TX1) (N := 7) (v := .int (nI t1)) hx hb hts in_X1 hown hK hH hrd rfl 3 (by decide) (hts _ q188) (fun _ z => z) rfl dX1_word_99 ?_
          refine lv_isub hx hb dX1_word_102 ?_
          refine lv_top (y := nI (t2 - t1)) (pk_sub (by first | omega | (refine Nat.lt_of_lt_of_le (Nat.mod_lt _ ?_) ?_ <;> omega))) ?_
          refine lvN_ne (tgt := 108) hx hb (by first | omega | (refine Nat.lt_of_lt_of_le (Nat.mod_lt _ ?_) ?_ <;> omega)) (by first | omega | (refine Nat.lt_of_lt_of_le (Nat.mod_lt _ ?_) ?_ <;> omega)) dX1_word_103 (by decide) (fun c4 => ?_) (fun c4 => ?_)
          · refine lv_iload_n hx hb dX1_word_108 rfl (lv_at hl 3 rfl) ?_
            refine lv_iconst (v := nI 1) hx hb dX1_word_109 (by decide) ?_
            refine lv_iadd hx hb dX1_word_110 ?_
            refine lv_top (y := nI (stF (k9 + 1) - 1 + 1)) (nI_add _ _) ?_
            refine lv_istore_n (lv' := [(2, .int (nI (stF (k9 + 1) - 1 + 1))), (0, .ref rd), (1, .int (nI k9)), (3, .int (nI (stF (k9 + 1) - 1))), (4, .int (nI i9))]) hx hb dX1_word_111 rfl hl (by decide) rfl (fun ls hl => ?_)
            refine lv_iinc (v := nI (k9 + 1)) (lv' := [(1, .int (nI (k9 + 1))), (2, .int (nI (stF (k9 + 1) - 1 + 1))), (0, .ref rd), (3, .int (nI (stF (k9 + 1) - 1))), (4, .int (nI i9))]) hx hb dX1_word_112 hl (k := 2) rfl (nI_add k9 1) (by decide) rfl (fun ls hl => ?_)
            refine lv_goto (tgt := 4) hx hb dX1_word_115 (by decide) ?_
            have hl : lv_has ls 5 [(1, .int (nI (k9 + 1))), (2, .int (nI (stF (k9 + 1)))), (0, .ref rd), (3, .int (nI (stF (k9 + 1) - 1))), (4, .int (nI i9))] := by rw [show nI (stF (k9 + 1)) = nI (stF (k9 + 1) - 1 + 1) from congrArg nI (by omega)]; exact hl
            exact ih4 (k9 + 1) (by omega) H locs ls ⟨by omega, fun u hu => by by_cases e : u = k9; (rw [e]; exact wd_f (tk := (t1, t2)) (i := i9) (show k9 < 9 by omega) hm9 (fun q => absurd q.2 (by show ¬ i9 = t2 - t1; omega)) ⟨by omega, by show i9 ≤ t2 - t1; omega⟩ (hex9)); exact hno u (by omega), hH, hS, lv_sub hl [2, 0, 1] rfl⟩
          · refine lv_iload_n hx hb dX1_word_106 rfl (lv_at hl 1 rfl) ?_
            exact hp_iret hx hb hr hlocks hH hS (by first | decide | omega | (simp only [rmk]; omega)) (by first | decide | omega | (simp only [rmk]; omega)) dX1_word_107 (⟨congrArg some (congrArg Value.int (by rw [(wdO_is (S := S) (tk := (t1, t2)) (show k9 < 9 by omega)).mpr (wd_t (i := i9) (by omega) (by omega) (by show i9 = t2 - t1; omega) hm9)]; rfl)), rfl⟩)
      · refine lv_aload_n hx hb dX1_word_40 rfl (lv_at hl 0 rfl) ?_
        refine hp_get (C := RX1) (T := TX1) (N := 7) (v := .int (nI t1)) hx hb hts in_X1 hown hK hH hrd rfl 3 (by decide) (hts _ q188) (fun _ z => z) rfl dX1_word_41 ?_
        refine lv_iload hx hb dX1_word_44 (lv_at hl 4 rfl) ?_
        refine lv_iadd hx hb dX1_word_46 ?_
        refine lv_top (y := nI (t1 + i9)) (nI_add _ _) ?_
        refine lv_aload_n hx hb dX1_word_47 rfl (lv_at hl 0 rfl) ?_
        refine hp_get (C := RX1) (T := TX1) (N := 7) (v := .int (nI t2)) hx hb hts in_X1 hown hK hH hrd rfl 2 (by decide) (hts _ q187) (fun _ z => z) rfl dX1_word_48 ?_
        refine lvN_ge (tgt := 84) hx hb (by first | omega | (refine Nat.lt_of_lt_of_le (Nat.mod_lt _ ?_) ?_ <;> omega)) (by first | omega | (refine Nat.lt_of_lt_of_le (Nat.mod_lt _ ?_) ?_ <;> omega)) dX1_word_51 (by decide) (fun c2 => ?_) (fun c2 => ?_)
        · have hex9 : i9 = stF (k9 + 1) - 1 - stF k9 ∨ i9 = t2 - t1 ∨ aTx S (t1 + i9) ≠ (WBYT.getD 9 []).getD (stF k9 + i9) 0 := Or.inr (Or.inl (by omega))
          refine lv_iload hx hb dX1_word_84 (lv_at hl 4 rfl) ?_
          refine lv_iload_n hx hb dX1_word_86 rfl (lv_at hl 3 rfl) ?_
          refine lv_iload_n hx hb dX1_word_87 rfl (lv_at hl 2 rfl) ?_
          refine lv_isub hx hb dX1_word_88 ?_
          refine lv_top (y := nI ((stF (k9 + 1) - 1) - (stF k9))) (pk_sub (by first | omega | (refine Nat.lt_of_lt_of_le (Nat.mod_lt _ ?_) ?_ <;> omega))) ?_
          refine lvN_ne (tgt := 108) hx hb (by first | omega | (refine Nat.lt_of_lt_of_le (Nat.mod_lt _ ?_) ?_ <;> omega)) (by first | omega | (refine Nat.lt_of_lt_of_le (Nat.mod_lt _ ?_) ?_ <;> omega)) dX1_word_89 (by decide) (fun c3 => ?_) (fun c3 => ?_)
          · refine lv_iload_n hx hb dX1_word_108 rfl (lv_at hl 3 rfl) ?_
            refine lv_iconst (v := nI 1) hx hb dX1_word_109 (by decide) ?_
            refine lv_iadd hx hb dX1_word_110 ?_
            refine lv_top (y := nI (stF (k9 + 1) - 1 + 1)) (nI_add _ _) ?_
            refine lv_istore_n (lv' := [(2, .int (nI (stF (k9 + 1) - 1 + 1))), (0, .ref rd), (1, .int (nI k9)), (3, .int (nI (stF (k9 + 1) - 1))), (4, .int (nI i9))]) hx hb dX1_word_111 rfl hl (by decide) rfl (fun ls hl => ?_)
            refine lv_iinc (v := nI (k9 + 1)) (lv' := [(1, .int (nI (k9 + 1))), (2, .int (nI (stF (k9 + 1) - 1 + 1))), (0, .ref rd), (3, .int (nI (stF (k9 + 1) - 1))), (4, .int (nI i9))]) hx hb dX1_word_112 hl (k := 2) rfl (nI_add k9 1) (by decide) rfl (fun ls hl => ?_)
            refine lv_goto (tgt := 4) hx hb dX1_word_115 (by decide) ?_
            have hl : lv_has ls 5 [(1, .int (nI (k9 + 1))), (2, .int (nI (stF (k9 + 1)))), (0, .ref rd), (3, .int (nI (stF (k9 + 1) - 1))), (4, .int (nI i9))] := by rw [show nI (stF (k9 + 1)) = nI (stF (k9 + 1) - 1 + 1) from congrArg nI (by omega)]; exact hl
            exact ih4 (k9 + 1) (by omega) H locs ls ⟨by omega, fun u hu => by by_cases e : u = k9; (rw [e]; exact wd_f (tk := (t1, t2)) (i := i9) (show k9 < 9 by omega) hm9 (fun q => absurd q.1 (by omega)) ⟨by omega, by show i9 ≤ t2 - t1; omega⟩ (hex9)); exact hno u (by omega), hH, hS, lv_sub hl [2, 0, 1] rfl⟩
          · refine lv_iload hx hb dX1_word_92 (lv_at hl 4 rfl) ?_
            refine lv_aload_n hx hb dX1_word_94 rfl (lv_at hl 0 rfl) ?_
            refine hp_get (C := RX1) (T := TX1) (N := 7) (v := .int (nI t2)) hx hb hts in_X1 hown hK hH hrd rfl 2 (by decide) (hts _ q187) (fun _ z => z) rfl dX1_word_95 ?_
            refine lv_aload_n hx hb dX1_word_98 rfl (lv_at hl 0 rfl) ?_
            refine hp_get (C := RX1) (T := TX1) (N := 7) (v := .int (nI t1)) hx hb hts in_X1 hown hK hH hrd rfl 3 (by decide) (hts _ q188) (fun _ z => z) rfl dX1_word_99 ?_
            refine lv_isub hx hb dX1_word_102 ?_
            refine lv_top (y := nI (t2 - t1)) (pk_sub (by first | omega | (refine Nat.lt_of_lt_of_le (Nat.mod_lt _ ?_) ?_ <;> omega))) ?_
            refine lvN_ne (tgt := 108) hx hb (by first | omega | (refine Nat.lt_of_lt_of_le (Nat.mod_lt _ ?_) ?_ <;> omega)) (by first | omega | (refine Nat.lt_of_lt_of_le (Nat.mod_lt _ ?_) ?_ <;> omega)) dX1_word_103 (by decide) (fun c4 => ?_) (fun c4 => ?_)
            · refine lv_iload_n hx hb dX1_word_108 rfl (lv_at hl 3 rfl) ?_
              refine lv_iconst (v := nI 1) hx hb dX1_word_109 (by decide) ?_
              refine lv_iadd hx hb dX1_word_110 ?_
              refine lv_top (y := nI (stF (k9 + 1) - 1 + 1)) (nI_add _ _) ?_
              refine lv_istore_n (lv' := [(2, .int (nI (stF (k9 + 1) - 1 + 1))), (0, .ref rd), (1, .int (nI k9)), (3, .int (nI (stF (k9 + 1) - 1))), (4, .int (nI i9))]) hx hb dX1_word_111 rfl hl (by decide) rfl (fun ls hl => ?_)
              refine lv_iinc (v := nI (k9 + 1)) (lv' := [(1, .int (nI (k9 + 1))), (2, .int (nI (stF (k9 + 1) - 1 + 1))), (0, .ref rd), (3, .int (nI (stF (k9 + 1) - 1))), (4, .int (nI i9))]) hx hb dX1_word_112 hl (k := 2) rfl (nI_add k9 1) (by decide) rfl (fun ls hl => ?_)
              refine lv_goto (tgt := 4) hx hb dX1_word_115 (by decide) ?_
              have hl : lv_has ls 5 [(1, .int (nI (k9 + 1))), (2, .int (nI (stF (k9 + 1)))), (0, .ref rd), (3, .int (nI (stF (k9 + 1) - 1))), (4, .int (nI i9))] := by rw [show nI (stF (k9 + 1)) = nI (stF (k9 + 1) - 1 + 1) from congrArg nI (by omega)]; exact hl
              exact ih4 (k9 + 1) (by omega) H locs ls ⟨by omega, fun u hu => by by_cases e : u = k9; (rw [e]; exact wd_f (tk := (t1, t2)) (i := i9) (show k9 < 9 by omega) hm9 (fun q => absurd q.2 (by show ¬ i9 = t2 - t1; omega)) ⟨by omega, by show i9 ≤ t2 - t1; omega⟩ (hex9)); exact hno u (by omega), hH, hS, lv_sub hl [2, 0, 1] rfl⟩
            · refine lv_iload_n hx hb dX1_word_106 rfl (lv_at hl 1 rfl) ?_
              exact hp_iret hx hb hr hlocks hH hS (by first | decide | omega | (simp only [rmk]; omega)) (by first | decide | omega | (simp only [rmk]; omega)) dX1_word_107 (⟨congrArg some (congrArg Value.int (by rw [(wdO_is (S := S) (tk := (t1, t2)) (show k9 < 9 by omega)).mpr (wd_t (i := i9) (by omega) (by omega) (by show i9 = t2 - t1; omega) hm9)]; rfl)), rfl⟩)
        · refine lv_aload_n hx hb dX1_word_54 rfl (lv_at hl 0 rfl) ?_
          refine hp_get (C := RX1) (T := TX1) (N := 7) (v := .ref ta) hx hb hts in_X1 hown hK hH hrd rfl 0 (by decide) (hts _ q185) (fun _ z => z) rfl dX1_word_55 ?_
          refine lv_aload_n hx hb dX1_word_58 rfl (lv_at hl 0 rfl) ?_
          refine hp_get (C := RX1) (T := TX1) (N := 7) (v := .int (nI t1)) hx hb hts in_X1 hown hK hH hrd rfl 3 (by decide) (hts _ q188) (fun _ z => z) rfl dX1_word_59 ?_
          refine lv_iload hx hb dX1_word_62 (lv_at hl 4 rfl) ?_
          refine lv_iadd hx hb dX1_word_64 ?_
          refine lv_top (y := nI (t1 + i9)) (nI_add _ _) ?_
          refine hp_bld (n := 700) (j := t1 + i9) (v := aTx S (t1 + i9)) hx hb hK hH 1 hta rfl (by first | omega | (refine Nat.lt_of_lt_of_le (Nat.mod_lt _ ?_) ?_ <;> omega)) (by first | omega | (refine Nat.lt_of_lt_of_le (Nat.mod_lt _ ?_) ?_ <;> omega)) (htx _ (by omega)) dX1_word_65 ?_
          refine va_ldcS hx hb hown (vk_R.warm hPB.1 hWS) dX1_word_66 ?_
          refine lv_iload_n hx hb dX1_word_68 rfl (lv_at hl 2 rfl) ?_
          refine lv_iload hx hb dX1_word_69 (lv_at hl 4 rfl) ?_
          refine lv_iadd hx hb dX1_word_71 ?_
          refine lv_top (y := nI ((stF k9) + i9)) (nI_add _ _) ?_
          refine hp_callO (As := [.int (nI ((stF k9) + i9))]) (rest := [.int (aTx S (t1 + i9))]) hx hb hml hown hts hPB hH hS (mj_charAt hK0 hX (i := 9) (by decide) (k := (stF k9) + i9) (by show _ < 44; omega)) (vk_recv hG.2.2 (show 9 < 10 by decide) hS) 1 (lw_V q466 q467 q468 q112 q469) (by decide +kernel) ⟨rfl, rfl⟩ (by first | decide | omega | (simp only [rmk]; omega)) rfl hl.1 rfl (Nat.le_of_ble_eq_true rfl) (by first | decide | omega | (simp only [rmk]; omega)) dX1_word_72 (fun v10 h12 H locs hp11 _ hH hS => ?_)
          obtain ⟨rfl, hq⟩ := hp11
          rw [hq] at hH
          refine lv_icmp_ne (tgt := 84) hx hb dX1_word_75 (by decide) (fun cm => ?_) (fun cm => ?_)
          · have hex9 : i9 = stF (k9 + 1) - 1 - stF k9 ∨ i9 = t2 - t1 ∨ aTx S (t1 + i9) ≠ (WBYT.getD 9 []).getD (stF k9 + i9) 0 := Or.inr (Or.inr cm)
            refine lv_iload hx hb dX1_word_84 (lv_at hl 4 rfl) ?_
            refine lv_iload_n hx hb dX1_word_86 rfl (lv_at hl 3 rfl) ?_
            refine lv_iload_n hx hb dX1_word_87 rfl (lv_at hl 2 rfl) ?_
            refine lv_isub hx hb dX1_word_88 ?_
            refine lv_top (y := nI ((stF (k9 + 1) - 1) - (stF k9))) (pk_sub (by first | omega | (refine Nat.lt_of_lt_of_le (Nat.mod_lt _ ?_) ?_ <;> omega))) ?_
            refine lvN_ne (tgt := 108) hx hb (by first | omega | (refine Nat.lt_of_lt_of_le (Nat.mod_lt _ ?_) ?_ <;> omega)) (by first | omega | (refine Nat.lt_of_lt_of_le (Nat.mod_lt _ ?_) ?_ <;> omega)) dX1_word_89 (by decide) (fun c3 => ?_) (fun c3 => ?_)
            · refine lv_iload_n hx hb dX1_word_108 rfl (lv_at hl 3 rfl) ?_
              refine lv_iconst (v := nI 1) hx hb dX1_word_109 (by decide) ?_
              refine lv_iadd hx hb dX1_word_110 ?_
              refine lv_top (y := nI (stF (k9 + 1) - 1 + 1)) (nI_add _ _) ?_
              refine lv_istore_n (lv' := [(2, .int (nI (stF (k9 + 1) - 1 + 1))), (0, .ref rd), (1, .int (nI k9)), (3, .int (nI (stF (k9 + 1) - 1))), (4, .int (nI i9))]) hx hb dX1_word_111 rfl hl (by decide) rfl (fun ls hl => ?_)
              refine lv_iinc (v := nI (k9 + 1)) (lv' := [(1, .int (nI (k9 + 1))), (2, .int (nI (stF (k9 + 1) - 1 + 1))), (0, .ref rd), (3, .int (nI (stF (k9 + 1) - 1))), (4, .int (nI i9))]) hx hb dX1_word_112 hl (k := 2) rfl (nI_add k9 1) (by decide) rfl (fun ls hl => ?_)
              refine lv_goto (tgt := 4) hx hb dX1_word_115 (by decide) ?_
              have hl : lv_has ls 5 [(1, .int (nI (k9 + 1))), (2, .int (nI (stF (k9 + 1)))), (0, .ref rd), (3, .int (nI (stF (k9 + 1) - 1))), (4, .int (nI i9))] := by rw [show nI (stF (k9 + 1)) = nI (stF (k9 + 1) - 1 + 1) from congrArg nI (by omega)]; exact hl
              exact ih4 (k9 + 1) (by omega) H locs ls ⟨by omega, fun u hu => by by_cases e : u = k9; (rw [e]; exact wd_f (tk := (t1, t2)) (i := i9) (show k9 < 9 by omega) hm9 (fun q => absurd q.1 (by omega)) ⟨by omega, by show i9 ≤ t2 - t1; omega⟩ (hex9)); exact hno u (by omega), hH, hS, lv_sub hl [2, 0, 1] rfl⟩
            · refine lv_iload hx hb dX1_word_92 (lv_at hl 4 rfl) ?_
              refine lv_aload_n hx hb dX1_word_94 rfl (lv_at hl 0 rfl) ?_
              refine hp_get (C := RX1) (T := TX1) (N := 7) (v := .int (nI t2)) hx hb hts in_X1 hown hK hH hrd rfl 2 (by decide) (hts _ q187) (fun _ z => z) rfl dX1_word_95 ?_
              refine lv_aload_n hx hb dX1_word_98 rfl (lv_at hl 0 rfl) ?_
              refine hp_get (C := RX1) (T := TX1) (N := 7) (v := .int (nI t1)) hx hb hts in_X1 hown hK hH hrd rfl 3 (by decide) (hts _ q188) (fun _ z => z) rfl dX1_word_99 ?_
              refine lv_isub hx hb dX1_word_102 ?_
              refine lv_top (y := nI (t2 - t1)) (pk_sub (by first | omega | (refine Nat.lt_of_lt_of_le (Nat.mod_lt _ ?_) ?_ <;> omega))) ?_
              refine lvN_ne (tgt := 108) hx hb (by first | omega | (refine Nat.lt_of_lt_of_le (Nat.mod_lt _ ?_) ?_ <;> omega)) (by first | omega | (refine Nat.lt_of_lt_of_le (Nat.mod_lt _ ?_) ?_ <;> omega)) dX1_word_103 (by decide) (fun c4 => ?_) (fun c4 => ?_)
              · refine lv_iload_n hx hb dX1_word_108 rfl (lv_at hl 3 rfl) ?_
                refine lv_iconst (v := nI 1) hx hb dX1_word_109 (by decide) ?_
                refine lv_iadd hx hb dX1_word_110 ?_
                refine lv_top (y := nI (stF (k9 + 1) - 1 + 1)) (nI_add _ _) ?_
                refine lv_istore_n (lv' := [(2, .int (nI (stF (k9 + 1) - 1 + 1))), (0, .ref rd), (1, .int (nI k9)), (3, .int (nI (stF (k9 + 1) - 1))), (4, .int (nI i9))]) hx hb dX1_word_111 rfl hl (by decide) rfl (fun ls hl => ?_)
                refine lv_iinc (v := nI (k9 + 1)) (lv' := [(1, .int (nI (k9 + 1))), (2, .int (nI (stF (k9 + 1) - 1 + 1))), (0, .ref rd), (3, .int (nI (stF (k9 + 1) - 1))), (4, .int (nI i9))]) hx hb dX1_word_112 hl (k := 2) rfl (nI_add k9 1) (by decide) rfl (fun ls hl => ?_)
                refine lv_goto (tgt := 4) hx hb dX1_word_115 (by decide) ?_
                have hl : lv_has ls 5 [(1, .int (nI (k9 + 1))), (2, .int (nI (stF (k9 + 1)))), (0, .ref rd), (3, .int (nI (stF (k9 + 1) - 1))), (4, .int (nI i9))] := by rw [show nI (stF (k9 + 1)) = nI (stF (k9 + 1) - 1 + 1) from congrArg nI (by omega)]; exact hl
                exact ih4 (k9 + 1) (by omega) H locs ls ⟨by omega, fun u hu => by by_cases e : u = k9; (rw [e]; exact wd_f (tk := (t1, t2)) (i := i9) (show k9 < 9 by omega) hm9 (fun q => absurd q.2 (by show ¬ i9 = t2 - t1; omega)) ⟨by omega, by show i9 ≤ t2 - t1; omega⟩ (hex9)); exact hno u (by omega), hH, hS, lv_sub hl [2, 0, 1] rfl⟩
              · refine lv_iload_n hx hb dX1_word_106 rfl (lv_at hl 1 rfl) ?_
                exact hp_iret hx hb hr hlocks hH hS (by first | decide | omega | (simp only [rmk]; omega)) (by first | decide | omega | (simp only [rmk]; omega)) dX1_word_107 (⟨congrArg some (congrArg Value.int (by rw [(wdO_is (S := S) (tk := (t1, t2)) (show k9 < 9 by omega)).mpr (wd_t (i := i9) (by omega) (by omega) (by show i9 = t2 - t1; omega) hm9)]; rfl)), rfl⟩)
          · refine lv_iinc (v := nI (i9 + 1)) (lv' := [(4, .int (nI (i9 + 1))), (0, .ref rd), (1, .int (nI k9)), (2, .int (nI (stF k9))), (3, .int (nI (stF (k9 + 1) - 1)))]) hx hb dX1_word_78 hl (k := 4) rfl (nI_add i9 1) (by decide) rfl (fun ls hl => ?_)
            refine lv_goto (tgt := 32) hx hb dX1_word_81 (by decide) ?_
            exact ih32 (i9 + 1) (by omega) H locs ls ⟨by omega, fun u hu => by by_cases e : u = i9; (rw [e]; exact cm); exact hm9 u (by omega), hH, hS, lv_sub hl [1, 2, 3, 4, 0] rfl⟩
end MODEL
