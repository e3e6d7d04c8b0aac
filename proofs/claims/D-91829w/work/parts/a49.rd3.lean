/-! by gen/mspec.py -/
set_option maxRecDepth 100000
section MODEL
variable {l : Launch} {s0 : State} {D : va_G} {K : Nat → ClassId} {wd : Nat → Nat} {o : Nat} {h : Hp} {I : Nat → Int32} {V : Nat → Nat → Int32} {J : Nat → Nat → Int64}
set_option maxHeartbeats 4000000 in
theorem mc_needsWord (hK0 : va_K D CL (TYS K) s0) {av : Nat → Nat} {ed mi : Nat} (hG : GX s0 wd av ed mi) {us ss : Value} (hTX : TX s0 us ss) {S : Ab} {rd ta lg lm lr : Nat} {tx : Nat → Int32} (hta : h ta = some (.inl (K 1, 700, .inl tx), 2)) (htx : ∀ k, k < aSz S → tx k = aTx S k) (hsz : aSz S ≤ 700) {t1 t2 : Nat} (hrd : h rd = some (.inr (1, [.ref ta, .int (nI (aSz S)), .int (nI t2), .int (nI t1), .ref lg, .ref lm, .ref lr]), 3)) (hok : tkOK S (t1, t2)) (hWS : vk_R "FirstIn$Reader" 58 WSTR (wd 9) s0) {w9 : Nat} (hw9 : w9 < 9) : MetT l yX1_needsWord (ws_ yX1_needsWord cX1_needsWord 2 ((Option.none : Option Jvm.ClassFile.FieldType))) (rmk 7 1 7) (va_Pc [.ref rd, .int (nI w9)] (PB s0 D CL (h))) (QT s0 D CL (fun v h1 => v = none ∧ pasE S (wrdB S (t1, t2) (prm w9)) (t1, t2) = .ok (nx S t2) ∧ h1 = hset h rd (.inr (1, [.ref ta, .int (nI (aSz S)), .int (nI ((nx S t2).2)), .int (nI ((nx S t2).1)), .ref lg, .ref lm, .ref lr])) 3) (fun a h1 => ∃ n, pasE S (wrdB S (t1, t2) (prm w9)) (t1, t2) = .error n ∧ TRW h rd lg lm lr n a h1)) 1 7 (zA s0) := by
  refine hpT_met (by decide) (Nat.le_of_ble_eq_true rfl) hK0 ?_
  intro p e s m below meth cd ls hx hb hr hlocks hml hown hnm hts hK hPB hl hS hH hA hout
  have hl : lv_has ls 2 [(0, .ref rd), (1, .int (nI w9))] := hl
  have hown : s.vm.findClass RX1 = some m.cls := hown
  have hk1 : t1 ≤ t2 ∧ t2 ≤ aSz S := hok.1
  refine lv_aload_n hx hb dX1_needsWord_0 rfl (lv_at hl 0 rfl) ?_
  refine hp_callV (As := []) (rest := []) hx hb hml hown hts hPB hK hH hS (mc_word hK0 hG hTX hta htx hsz hrd hok hWS) hrd rfl rfl 0 (lw_V q370 q372 qs5 q103 q373) (by decide +kernel) ⟨rfl, rfl⟩ (by first | decide | omega | (simp only [rmk]; omega)) rfl hl.1 rfl (Nat.le_of_ble_eq_true rfl) (by first | decide | omega | (simp only [rmk]; omega)) dX1_needsWord_1 (fun v1 h3 H locs hp2 _ hH hS => ?_)
  obtain ⟨rfl, hq⟩ := hp2
  rw [hq] at hH
  refine lv_iload_n hx hb dX1_needsWord_4 rfl (lv_at hl 1 rfl) ?_
  refine lv_icmp_eq (tgt := 13) hx hb dX1_needsWord_5 (by decide) (fun cw9 => ?_) (fun cw9 => ?_)
  · refine lv_aload_n hx hb dX1_needsWord_13 rfl (lv_at hl 0 rfl) ?_
    refine hp_callVT (As := []) (rest := []) hx hb hml hown hts hPB hK hH hS (mc_next hK0 hG hTX hta htx hsz hrd (by omega)) hrd rfl rfl 0 (lw_V q284 q286 qs1 q103 q287) (by decide +kernel) ⟨rfl, rfl⟩ (by first | decide | omega | (simp only [rmk]; omega)) rfl hl.1 rfl (Nat.le_of_ble_eq_true rfl) (by first | decide | omega | (simp only [rmk]; omega)) hlocks (hout _) (by first | decide | omega | (simp only [rmk]; omega)) dX1_needsWord_14 (fun a9 h9 ht9 => ⟨_, pasE_b ((wdO_is hw9).mp ((oI_9 (fun k e => wdO_lt e) hw9).mp cw9)) ht9.1, ht9.2⟩) (fun v4 h6 H locs hp5 _ hH hS => ?_)
    obtain ⟨rfl, hbd, hq⟩ := hp5
    rw [hq] at hH
    refine w_mono mq_t ?_
    exact hp_vret hx hb hr hlocks hH hS (by first | decide | omega | (simp only [rmk]; omega)) (by first | decide | omega | (simp only [rmk]; omega)) dX1_needsWord_17 (⟨rfl, pasE_ok ((wdO_is hw9).mp ((oI_9 (fun k e => wdO_lt e) hw9).mp cw9)) hbd, rfl⟩)
  · refine lv_aload_n hx hb dX1_needsWord_8 rfl (lv_at hl 0 rfl) ?_
    refine hp_callV (As := []) (rest := []) hx hb hml hown hts hPB hK hH hS (mc_wrong hK0 hG hTX hrd (tf := 30)) hrd rfl rfl 0 (lw_V q294 q296 qs2 q103 q297) (by decide +kernel) ⟨rfl, rfl⟩ (by first | decide | omega | (simp only [rmk]; omega)) rfl hl.1 rfl (Nat.le_of_ble_eq_true rfl) (by first | decide | omega | (simp only [rmk]; omega)) dX1_needsWord_9 (fun v8 h10 H locs hp9 _ hH hS => ?_)
    obtain ⟨q7, rfl, hnq7, hqq7⟩ := hp9
    rw [hqq7] at hH
    exact hp_throw hx hb hlocks (hout _) hH hS (by first | decide | omega | (simp only [rmk]; omega)) (by first | decide | omega | (simp only [rmk]; omega)) dX1_needsWord_12 (⟨_, pasE_f (Bool.eq_false_iff.mpr (fun q => cw9 ((oI_9 (fun k e => wdO_lt e) hw9).mpr ((wdO_is hw9).mpr q)))), ⟨30, hset_self _ _ _ _⟩, ⟨_, _, _, _, (hset_ne _ _ _ (ne_new hrd hnq7)).trans hrd⟩, frT.rf.new hnq7, exH.ob (exH.new hnq7)⟩)
set_option maxHeartbeats 4000000 in
theorem mc_over (hK0 : va_K D CL (TYS K) s0) {av : Nat → Nat} {ed mi : Nat} (hG : GX s0 wd av ed mi) {us ss : Value} (hTX : TX s0 us ss) {S : Ab} {rd ta lg lm lr : Nat} {tx : Nat → Int32} (hta : h ta = some (.inl (K 1, 700, .inl tx), 2)) (htx : ∀ k, k < aSz S → tx k = aTx S k) (hsz : aSz S ≤ 700) {t1 t2 : Nat} (hrd : h rd = some (.inr (1, [.ref ta, .int (nI (aSz S)), .int (nI t2), .int (nI t1), .ref lg, .ref lm, .ref lr]), 3)) (hok : tkOK S (t1, t2)) : MetT l yX1_over (ws_ yX1_over cX1_over 1 ((Option.none : Option Jvm.ClassFile.FieldType))) (rmk 7 1 7) (va_Pc [.ref rd] (PB s0 D CL (h))) (QT s0 D CL (fun v h1 => v = none ∧ pasE S (isCl S (t1, t2)) (t1, t2) = .ok (nx S t2) ∧ h1 = hset h rd (.inr (1, [.ref ta, .int (nI (aSz S)), .int (nI ((nx S t2).2)), .int (nI ((nx S t2).1)), .ref lg, .ref lm, .ref lr])) 3) (fun a h1 => ∃ n, pasE S (isCl S (t1, t2)) (t1, t2) = .error n ∧ TRW h rd lg lm lr n a h1)) 1 7 (zA s0) := by
  refine hpT_met (by decide) (Nat.le_of_ble_eq_true rfl) hK0 ?_
  intro p e s m below meth cd ls hx hb hr hlocks hml hown hnm hts hK hPB hl hS hH hA hout
  have hl : lv_has ls 1 [(0, .ref rd)] := hl
  have hown : s.vm.findClass RX1 = some m.cls := hown
  have hk1 : t1 ≤ t2 ∧ t2 ≤ aSz S := hok.1
  refine lv_aload_n hx hb dX1_over_0 rfl (lv_at hl 0 rfl) ?_
  refine hp_callV (As := []) (rest := []) hx hb hml hown hts hPB hK hH hS (mc_isOver hK0 hG hTX hta htx hsz hrd hok) hrd rfl rfl 0 (lw_V q389 q391 qs7 q103 q392) (by decide +kernel) ⟨rfl, rfl⟩ (by first | decide | omega | (simp only [rmk]; omega)) rfl hl.1 rfl (Nat.le_of_ble_eq_true rfl) (by first | decide | omega | (simp only [rmk]; omega)) dX1_over_1 (fun v1 h3 H locs hp2 _ hH hS => ?_)
  obtain ⟨rfl, hq⟩ := hp2
  rw [hq] at hH
  refine lvB_ne (tgt := 21) hx hb dX1_over_4 (by decide) (fun c1 => ?_) (fun c1 => ?_)
  · refine lv_aload_n hx hb dX1_over_21 rfl (lv_at hl 0 rfl) ?_
    refine hp_callV (As := []) (rest := []) hx hb hml hown hts hPB hK hH hS (mc_wrong hK0 hG hTX hrd (tf := 30)) hrd rfl rfl 0 (lw_V q294 q296 qs2 q103 q297) (by decide +kernel) ⟨rfl, rfl⟩ (by first | decide | omega | (simp only [rmk]; omega)) rfl hl.1 rfl (Nat.le_of_ble_eq_true rfl) (by first | decide | omega | (simp only [rmk]; omega)) dX1_over_22 (fun v5 h7 H locs hp6 _ hH hS => ?_)
    obtain ⟨q4, rfl, hnq4, hqq4⟩ := hp6
    rw [hqq4] at hH
    exact hp_throw hx hb hlocks (hout _) hH hS (by first | decide | omega | (simp only [rmk]; omega)) (by first | decide | omega | (simp only [rmk]; omega)) dX1_over_25 (⟨_, pasE_f ((show (decide (t1 < aSz S) && decide (aTx S t1 = 59)) = false from by rw [decide_eq_false (show ¬ t1 < aSz S by have := of_decide_eq_true c1; omega)]; rfl)), ⟨30, hset_self _ _ _ _⟩, ⟨_, _, _, _, (hset_ne _ _ _ (ne_new hrd hnq4)).trans hrd⟩, frT.rf.new hnq4, exH.ob (exH.new hnq4)⟩)
  · have hne := of_decide_eq_false c1
    refine lv_aload_n hx hb dX1_over_7 rfl (lv_at hl 0 rfl) ?_
    refine hp_get (C := RX1) (T := TX1) (N := 7) (v := .ref ta) hx hb hts in_X1 hown hK hH hrd rfl 0 (by decide) (hts _ q185) (fun _ z => z) rfl dX1_over_8 ?_
    refine lv_aload_n hx hb dX1_over_11 rfl (lv_at hl 0 rfl) ?_
    refine hp_get (C := RX1) (T := TX1) (N := 7) (v := .int (nI t1)) hx hb hts in_X1 hown hK hH hrd rfl 3 (by decide) (hts _ q188) (fun _ z => z) rfl dX1_over_12 ?_
    refine hp_bld (n := 700) (j := t1) (v := aTx S t1) hx hb hK hH 1 hta rfl (by first | omega | (refine Nat.lt_of_lt_of_le (Nat.mod_lt _ ?_) ?_ <;> omega)) (by first | omega | (refine Nat.lt_of_lt_of_le (Nat.mod_lt _ ?_) ?_ <;> omega)) (htx _ (by omega)) dX1_over_15 ?_
    refine lv_bipush (v := nI 59) hx hb dX1_over_16 (by decide) ?_
    refine lv_icmp_eq (tgt := 26) hx hb dX1_over_18 (by decide) (fun c2 => ?_) (fun c2 => ?_)
    · refine lv_aload_n hx hb dX1_over_26 rfl (lv_at hl 0 rfl) ?_
      refine hp_callVT (As := []) (rest := []) hx hb hml hown hts hPB hK hH hS (mc_next hK0 hG hTX hta htx hsz hrd (by omega)) hrd rfl rfl 0 (lw_V q284 q286 qs1 q103 q287) (by decide +kernel) ⟨rfl, rfl⟩ (by first | decide | omega | (simp only [rmk]; omega)) rfl hl.1 rfl (Nat.le_of_ble_eq_true rfl) (by first | decide | omega | (simp only [rmk]; omega)) hlocks (hout _) (by first | decide | omega | (simp only [rmk]; omega)) dX1_over_27 (fun a9 h9 ht9 => ⟨_, pasE_b ((show (decide (t1 < aSz S) && decide (aTx S t1 = 59)) = true from by rw [decide_eq_true (show t1 < aSz S by omega), show decide (aTx S t1 = 59) = true from decide_eq_true c2]; rfl)) ht9.1, ht9.2⟩) (fun v8 h10 H locs hp9 _ hH hS => ?_)
      obtain ⟨rfl, hbd, hq⟩ := hp9
      rw [hq] at hH
      refine w_mono mq_t ?_
      exact hp_vret hx hb hr hlocks hH hS (by first | decide | omega | (simp only [rmk]; omega)) (by first | decide | omega | (simp only [rmk]; omega)) dX1_over_30 (⟨rfl, pasE_ok (show (decide (t1 < aSz S) && decide (aTx S t1 = 59)) = true from by rw [decide_eq_true (show t1 < aSz S by omega), show decide (aTx S t1 = 59) = true from decide_eq_true c2]; rfl) hbd, rfl⟩)
    · refine lv_aload_n hx hb dX1_over_21 rfl (lv_at hl 0 rfl) ?_
      refine hp_callV (As := []) (rest := []) hx hb hml hown hts hPB hK hH hS (mc_wrong hK0 hG hTX hrd (tf := 30)) hrd rfl rfl 0 (lw_V q294 q296 qs2 q103 q297) (by decide +kernel) ⟨rfl, rfl⟩ (by first | decide | omega | (simp only [rmk]; omega)) rfl hl.1 rfl (Nat.le_of_ble_eq_true rfl) (by first | decide | omega | (simp only [rmk]; omega)) dX1_over_22 (fun v12 h14 H locs hp13 _ hH hS => ?_)
      obtain ⟨q11, rfl, hnq11, hqq11⟩ := hp13
      rw [hqq11] at hH
      exact hp_throw hx hb hlocks (hout _) hH hS (by first | decide | omega | (simp only [rmk]; omega)) (by first | decide | omega | (simp only [rmk]; omega)) dX1_over_25 (⟨_, pasE_f ((show (decide (t1 < aSz S) && decide (aTx S t1 = 59)) = false from by rw [show decide (aTx S t1 = 59) = false from decide_eq_false c2, Bool.and_false])), ⟨30, hset_self _ _ _ _⟩, ⟨_, _, _, _, (hset_ne _ _ _ (ne_new hrd hnq11)).trans hrd⟩, frT.rf.new hnq11, exH.ob (exH.new hnq11)⟩)
set_option maxHeartbeats 4000000 in
theorem mc_number (hK0 : va_K D CL (TYS K) s0) {av : Nat → Nat} {ed mi : Nat} (hG : GX s0 wd av ed mi) {us ss : Value} (hTX : TX s0 us ss) {S : Ab} {rd ta lg lm lr : Nat} {tx : Nat → Int32} (hta : h ta = some (.inl (K 1, 700, .inl tx), 2)) (htx : ∀ k, k < aSz S → tx k = aTx S k) (hsz : aSz S ≤ 700) {t1 t2 : Nat} (hrd : h rd = some (.inr (1, [.ref ta, .int (nI (aSz S)), .int (nI t2), .int (nI t1), .ref lg, .ref lm, .ref lr]), 3)) (hok : tkOK S (t1, t2)) {lo hi : Nat} (hhi : hi ≤ 99) (hlo : lo ≤ 99) : MetT l yX1_number (ws_ yX1_number cX1_number 5 ((Option.some Jvm.ClassFile.FieldType.int))) (rmk 7 1 7) (va_Pc [.ref rd, .int (nI lo), .int (nI hi)] (PB s0 D CL (h))) (QT s0 D CL (fun v h1 => v = some (.int (nI (nuV S (t1, t2)))) ∧ pasE S (nuB S (t1, t2) lo hi) (t1, t2) = .ok (nx S t2) ∧ h1 = hset h rd (.inr (1, [.ref ta, .int (nI (aSz S)), .int (nI ((nx S t2).2)), .int (nI ((nx S t2).1)), .ref lg, .ref lm, .ref lr])) 3) (fun a h1 => ∃ n, pasE S (nuB S (t1, t2) lo hi) (t1, t2) = .error n ∧ TRW h rd lg lm lr n a h1)) 1 7 (zA s0) := by
  refine hpT_met (by decide) (Nat.le_of_ble_eq_true rfl) hK0 ?_
  intro p e s m below meth cd ls hx hb hr hlocks hml hown hnm hts hK hPB hl hS hH hA hout
  have hl : lv_has ls 5 [(0, .ref rd), (1, .int (nI lo)), (2, .int (nI hi))] := hl
  have hown : s.vm.findClass RX1 = some m.cls := hown
  have hk1 : t1 ≤ t2 ∧ t2 ≤ aSz S := hok.1
  refine lv_aload_n hx hb dX1_number_0 rfl (lv_at hl 0 rfl) ?_
  refine hp_callV (As := []) (rest := []) hx hb hml hown hts hPB hK hH hS (mc_isOver hK0 hG hTX hta htx hsz hrd hok) hrd rfl rfl 0 (lw_V q389 q391 qs7 q103 q392) (by decide +kernel) ⟨rfl, rfl⟩ (by first | decide | omega | (simp only [rmk]; omega)) rfl hl.1 rfl (Nat.le_of_ble_eq_true rfl) (by first | decide | omega | (simp only [rmk]; omega)) dX1_number_1 (fun v1 h3 H locs hp2 _ hH hS => ?_)
  obtain ⟨rfl, hq⟩ := hp2
  rw [hq] at hH
  refine lvB_ne (tgt := 22) hx hb dX1_number_4 (by decide) (fun c1 => ?_) (fun c1 => ?_)
  · refine lv_aload_n hx hb dX1_number_22 rfl (lv_at hl 0 rfl) ?_
    refine hp_callV (As := []) (rest := []) hx hb hml hown hts hPB hK hH hS (mc_wrong hK0 hG hTX hrd (tf := 30)) hrd rfl rfl 0 (lw_V q294 q296 qs2 q103 q297) (by decide +kernel) ⟨rfl, rfl⟩ (by first | decide | omega | (simp only [rmk]; omega)) rfl hl.1 rfl (Nat.le_of_ble_eq_true rfl) (by first | decide | omega | (simp only [rmk]; omega)) dX1_number_23 (fun v5 h7 H locs hp6 _ hH hS => ?_)
    obtain ⟨q4, rfl, hnq4, hqq4⟩ := hp6
    rw [hqq4] at hH
    exact hp_throw hx hb hlocks (hout _) hH hS (by first | decide | omega | (simp only [rmk]; omega)) (by first | decide | omega | (simp only [rmk]; omega)) dX1_number_26 (⟨_, pasE_f ((show (inR S t1 48 57 && _) = false from by unfold inR; rw [decide_eq_false (show ¬ t1 < aSz S by have := of_decide_eq_true c1; omega)]; rfl)), ⟨30, hset_self _ _ _ _⟩, ⟨_, _, _, _, (hset_ne _ _ _ (ne_new hrd hnq4)).trans hrd⟩, frT.rf.new hnq4, exH.ob (exH.new hnq4)⟩)
  · have hne := of_decide_eq_false c1
    refine lv_aload_n hx hb dX1_number_7 rfl (lv_at hl 0 rfl) ?_
    refine hp_get (C := RX1) (T := TX1) (N := 7) (v := .ref ta) hx hb hts in_X1 hown hK hH hrd rfl 0 (by decide) (hts _ q185) (fun _ z => z) rfl dX1_number_8 ?_
    refine lv_aload_n hx hb dX1_number_11 rfl (lv_at hl 0 rfl) ?_
    refine hp_get (C := RX1) (T := TX1) (N := 7) (v := .int (nI t1)) hx hb hts in_X1 hown hK hH hrd rfl 3 (by decide) (hts _ q188) (fun _ z => z) rfl dX1_number_12 ?_
    refine hp_bld (n := 700) (j := t1) (v := aTx S t1) hx hb hK hH 1 hta rfl (by first | omega | (refine Nat.lt_of_lt_of_le (Nat.mod_lt _ ?_) ?_ <;> omega)) (by first | omega | (refine Nat.lt_of_lt_of_le (Nat.mod_lt _ ?_) ?_ <;> omega)) (htx _ (by omega)) dX1_number_15 ?_
    refine hp_callS (As := [.int (aTx S t1)]) (rest := []) hx hb hml hown hts hPB hH hS (mc_isDigit hK0 (aTx S t1)) 1 (lw_S q291 q292 q103 q293) (by decide +kernel) ⟨rfl, rfl⟩ (by first | decide | omega | (simp only [rmk]; omega)) rfl hl.1 rfl (Nat.le_of_ble_eq_true rfl) (by first | decide | omega | (simp only [rmk]; omega)) dX1_number_16 (fun v8 h10 H locs hp9 _ hH hS => ?_)
    obtain ⟨rfl, hq⟩ := hp9
    rw [hq] at hH
    refine lv_top (y := zI (inR S t1 48 57)) (congrArg zI (let_in (show t1 < aSz S by omega) 48 57)) ?_
    refine lvB_ne (tgt := 27) hx hb dX1_number_19 (by decide) (fun c2 => ?_) (fun c2 => ?_)
    · refine lv_iconst (v := nI 0) hx hb dX1_number_27 (by decide) ?_
      refine lv_istore_n (lv' := [(3, .int (nI 0)), (0, .ref rd), (1, .int (nI lo)), (2, .int (nI hi))]) hx hb dX1_number_28 rfl hl (by decide) rfl (fun ls hl => ?_)
      refine lv_aload_n hx hb dX1_number_29 rfl (lv_at hl 1 rfl) ?_
      refine hp_get (C := RX1) (T := TX1) (N := 7) (v := .int (nI t1)) hx hb hts in_X1 hown hK hH hrd rfl 3 (by decide) (hts _ q188) (fun _ z => z) rfl dX1_number_30 ?_
      refine lv_istore (lv' := [(4, .int (nI t1)), (3, .int (nI 0)), (0, .ref rd), (1, .int (nI lo)), (2, .int (nI hi))]) hx hb dX1_number_33 hl (by decide) rfl (fun ls hl => ?_)
      refine w_loop1 (fun (i : Nat) => t2 - t1 - i) (fun (i : Nat) H locs ls => (i ≤ t2 - t1) ∧ HP D CL (zA s0) h H ∧ va_S (zA s0) s.heap H locs ∧ lv_has ls 5 [(0, .ref rd), (1, .int (nI lo)), (2, .int (nI hi)), (3, .int (nI (nuC S t1 i))), (4, .int (nI (t1 + i)))]) ?_ 0 ⟨Nat.zero_le _, hH, hS, lv_sub hl [2, 3, 4, 1, 0] rfl⟩
      intro i ih35 H locs ls hP
      obtain ⟨hi9, hH, hS, hl⟩ := hP
      have hnc := nuC_le S t1 i
      refine lv_iload hx hb dX1_number_35 (lv_at hl 4 rfl) ?_
      refine lv_aload_n hx hb dX1_number_37 rfl (lv_at hl 0 rfl) ?_
      refine hp_get (C := RX1) (T := TX1) (N := 7) (v := .int (nI t2)) hx hb hts in_X1 hown hK hH hrd rfl 2 (by decide) (hts _ q187) (fun _ z => z) rfl dX1_number_38 ?_
      refine lvN_ge (tgt := 72) hx hb (by first | omega | (refine Nat.lt_of_lt_of_le (Nat.mod_lt _ ?_) ?_ <;> omega)) (by first | omega | (refine Nat.lt_of_lt_of_le (Nat.mod_lt _ ?_) ?_ <;> omega)) dX1_number_41 (by decide) (fun ck => ?_) (fun ck => ?_)
      · have ei9 : i = t2 - t1 := by omega
        refine lv_iload_n hx hb dX1_number_72 rfl (lv_at hl 3 rfl) ?_
        refine lv_iload_n hx hb dX1_number_73 rfl (lv_at hl 1 rfl) ?_
        refine lv_iload_n hx hb dX1_number_74 rfl (lv_at hl 2 rfl) ?_
        refine hp_callSN (As := [.int (nI (nuC S t1 i)), .int (nI lo), .int (nI hi)]) (rest := []) hx hb hml hown hts hPB hH hS (mc_in hK0 (nI (nuC S t1 i)) (nI lo) (nI hi)) 3 (hG.nm hPB q490) q269 q102 q270 (by decide +kernel) ⟨rfl, rfl⟩ (by first | decide | omega | (simp only [rmk]; omega)) rfl hl.1 rfl (Nat.le_of_ble_eq_true rfl) (by first | decide | omega | (simp only [rmk]; omega)) dX1_number_75 (fun v11 h13 H locs hp12 _ hH hS => ?_)
        obtain ⟨rfl, hq⟩ := hp12
        rw [hq] at hH
        refine lv_top (y := zI (decide (lo ≤ nuC S t1 i) && decide (nuC S t1 i ≤ hi))) (congrArg zI (in_nk (by omega) (by omega) (by omega))) ?_
        refine lvB_ne (tgt := 86) hx hb dX1_number_78 (by decide) (fun c3 => ?_) (fun c3 => ?_)
        · have hle9 := of_decide_eq_true (Bool.and_eq_true_iff.mp c3).2
          refine lv_aload_n hx hb dX1_number_86 rfl (lv_at hl 0 rfl) ?_
          refine hp_callVT (As := []) (rest := []) hx hb hml hown hts hPB hK hH hS (mc_next hK0 hG hTX hta htx hsz hrd (by omega)) hrd rfl rfl 0 (lw_V q284 q286 qs1 q103 q287) (by decide +kernel) ⟨rfl, rfl⟩ (by first | decide | omega | (simp only [rmk]; omega)) rfl hl.1 rfl (Nat.le_of_ble_eq_true rfl) (by first | decide | omega | (simp only [rmk]; omega)) hlocks (hout _) (by first | decide | omega | (simp only [rmk]; omega)) dX1_number_87 (fun a9 h9 ht9 => ⟨_, pasE_b ((nu_in (t2 := t2) (lo := lo) c2 hhi).1.symm.trans (by rw [← ei9]; exact c3)) ht9.1, ht9.2⟩) (fun v14 h16 H locs hp15 _ hH hS => ?_)
          obtain ⟨rfl, hbd, hq⟩ := hp15
          rw [hq] at hH
          have hl : lv_has ls 5 [(0, .ref rd), (1, .int (nI lo)), (2, .int (nI hi)), (3, .int (nI (nuV S (t1, t2)))), (4, .int (nI (t1 + i)))] := by rw [show nI (nuV S (t1, t2)) = nI (nuC S t1 i) from congrArg nI (by rw [← (nu_in (t2 := t2) (lo := lo) c2 hhi).2 (by rw [← ei9]; exact hle9), ei9])]; exact hl
          refine lv_iload_n hx hb dX1_number_90 rfl (lv_at hl 3 rfl) ?_
          refine w_mono mq_t ?_
          exact hp_iret hx hb hr hlocks hH hS (by first | decide | omega | (simp only [rmk]; omega)) (by first | decide | omega | (simp only [rmk]; omega)) dX1_number_91 (⟨rfl, pasE_ok ((nu_in (t2 := t2) (lo := lo) c2 hhi).1.symm.trans (by rw [← ei9]; exact c3)) hbd, rfl⟩)
        · refine lv_aload_n hx hb dX1_number_81 rfl (lv_at hl 0 rfl) ?_
          refine hp_callV (As := []) (rest := []) hx hb hml hown hts hPB hK hH hS (mc_wrong hK0 hG hTX hrd (tf := 30)) hrd rfl rfl 0 (lw_V q294 q296 qs2 q103 q297) (by decide +kernel) ⟨rfl, rfl⟩ (by first | decide | omega | (simp only [rmk]; omega)) rfl hl.1 rfl (Nat.le_of_ble_eq_true rfl) (by first | decide | omega | (simp only [rmk]; omega)) dX1_number_82 (fun v18 h20 H locs hp19 _ hH hS => ?_)
          obtain ⟨q17, rfl, hnq17, hqq17⟩ := hp19
          rw [hqq17] at hH
          exact hp_throw hx hb hlocks (hout _) hH hS (by first | decide | omega | (simp only [rmk]; omega)) (by first | decide | omega | (simp only [rmk]; omega)) dX1_number_85 (⟨_, pasE_f ((nu_in (t2 := t2) (lo := lo) c2 hhi).1.symm.trans (by rw [← ei9]; exact c3)), ⟨30, hset_self _ _ _ _⟩, ⟨_, _, _, _, (hset_ne _ _ _ (ne_new hrd hnq17)).trans hrd⟩, frT.rf.new hnq17, exH.ob (exH.new hnq17)⟩)
      · refine lv_sipush (v := nI 1000) hx hb dX1_number_44 (by decide) ?_
        refine lv_bipush (v := nI 10) hx hb dX1_number_47 (by decide) ?_
        refine lv_iload_n hx hb dX1_number_49 rfl (lv_at hl 3 rfl) ?_
        refine lv_imul hx hb dX1_number_50 ?_
        refine lv_top (y := nI (10 * (nuC S t1 i))) (pk_mul _ _) ?_
        refine lv_aload_n hx hb dX1_number_51 rfl (lv_at hl 0 rfl) ?_
        refine hp_get (C := RX1) (T := TX1) (N := 7) (v := .ref ta) hx hb hts in_X1 hown hK hH hrd rfl 0 (by decide) (hts _ q185) (fun _ z => z) rfl dX1_number_52 ?_
        refine lv_iload hx hb dX1_number_55 (lv_at hl 4 rfl) ?_
        refine hp_bld (n := 700) (j := t1 + i) (v := nI (48 + dN S (t1 + i))) hx hb hK hH 1 hta rfl (by first | omega | (refine Nat.lt_of_lt_of_le (Nat.mod_lt _ ?_) ?_ <;> omega)) (by first | omega | (refine Nat.lt_of_lt_of_le (Nat.mod_lt _ ?_) ?_ <;> omega)) ((htx _ (by omega)).trans (dig_eq (hok.2.2.2 c2 _ (by show t1 ≤ t1 + i; omega) (by show t1 + i < t2; omega))).1) dX1_number_57 ?_
        have hd9 := (dig_eq (hok.2.2.2 c2 (t1 + i) (by show t1 ≤ t1 + i; omega) (by show t1 + i < t2; omega))).2
        refine lv_iadd hx hb dX1_number_58 ?_
        refine lv_top (y := nI ((10 * (nuC S t1 i)) + (48 + dN S (t1 + i)))) (nI_add _ _) ?_
        refine lv_bipush (v := nI 48) hx hb dX1_number_59 (by decide) ?_
        refine lv_isub hx hb dX1_number_61 ?_
        refine lv_top (y := nI (((10 * (nuC S t1 i)) + (48 + dN S (t1 + i))) - 48)) (pk_sub (by first | omega | (refine Nat.lt_of_lt_of_le (Nat.mod_lt _ ?_) ?_ <;> omega))) ?_
        refine va_mmin hx hb (hml.trans hl.1.symm) hown (hts _ q675) (hts _ q412) (hts _ q114) (hts _ q413) (by first | decide | omega | (simp only [rmk]; omega)) (by first | decide | omega | (simp only [rmk]; omega)) (by first | decide | omega | (simp only [rmk]; omega)) (by first | decide | omega | (simp only [rmk]; omega)) dX1_number_62 ?_
        refine lv_top (y := nI (min 1000 (((10 * (nuC S t1 i)) + (48 + dN S (t1 + i))) - 48))) (i_minN (by first | omega | (refine Nat.lt_of_lt_of_le (Nat.mod_lt _ ?_) ?_ <;> omega)) (by first | omega | (refine Nat.lt_of_lt_of_le (Nat.mod_lt _ ?_) ?_ <;> omega))) ?_
        refine lv_istore_n (lv' := [(3, .int (nI (min 1000 (((10 * (nuC S t1 i)) + (48 + dN S (t1 + i))) - 48)))), (0, .ref rd), (1, .int (nI lo)), (2, .int (nI hi)), (4, .int (nI (t1 + i)))]) hx hb dX1_number_65 rfl hl (by decide) rfl (fun ls hl => ?_)
        refine lv_iinc (v := nI (t1 + i + 1)) (lv' := [(4, .int (nI (t1 + i + 1))), (3, .int (nI (min 1000 (((10 * (nuC S t1 i)) + (48 + dN S (t1 + i))) - 48)))), (0, .ref rd), (1, .int (nI lo)), (2, .int (nI hi))]) hx hb dX1_number_66 hl (k := 4) rfl (nI_add (t1 + i) 1) (by decide) rfl (fun ls hl => ?_)
        refine lv_goto (tgt := 35) hx hb dX1_number_69 (by decide) ?_
        have hl : lv_has ls 5 [(4, .int (nI (t1 + i + 1))), (3, .int (nI (nuC S t1 (i + 1)))), (0, .ref rd), (1, .int (nI lo)), (2, .int (nI hi))] := by rw [show nI (nuC S t1 (i + 1)) = nI (min 1000 (((10 * (nuC S t1 i)) + (48 + dN S (t1 + i))) - 48)) from congrArg nI (by rw [nuC]; omega)]; exact hl
        exact ih35 (i + 1) (by omega) H locs ls ⟨by omega, hH, hS, lv_sub hl [2, 3, 4, 1, 0] rfl⟩
    · refine lv_aload_n hx hb dX1_number_22 rfl (lv_at hl 0 rfl) ?_
      refine hp_callV (As := []) (rest := []) hx hb hml hown hts hPB hK hH hS (mc_wrong hK0 hG hTX hrd (tf := 30)) hrd rfl rfl 0 (lw_V q294 q296 qs2 q103 q297) (by decide +kernel) ⟨rfl, rfl⟩ (by first | decide | omega | (simp only [rmk]; omega)) rfl hl.1 rfl (Nat.le_of_ble_eq_true rfl) (by first | decide | omega | (simp only [rmk]; omega)) dX1_number_23 (fun v22 h24 H locs hp23 _ hH hS => ?_)
      obtain ⟨q21, rfl, hnq21, hqq21⟩ := hp23
      rw [hqq21] at hH
      exact hp_throw hx hb hlocks (hout _) hH hS (by first | decide | omega | (simp only [rmk]; omega)) (by first | decide | omega | (simp only [rmk]; omega)) dX1_number_26 (⟨_, pasE_f ((show (inR S t1 48 57 && _) = false from by rw [c2]; rfl)), ⟨30, hset_self _ _ _ _⟩, ⟨_, _, _, _, (hset_ne _ _ _ (ne_new hrd hnq21)).trans hrd⟩, frT.rf.new hnq21, exH.ob (exH.new hnq21)⟩)
set_option maxHeartbeats 4000000 in
theorem mc_isName (hK0 : va_K D CL (TYS K) s0) {av : Nat → Nat} {ed mi : Nat} (hG : GX s0 wd av ed mi) {us ss : Value} (hTX : TX s0 us ss) {S : Ab} {rd ta lg lm lr : Nat} {tx : Nat → Int32} (hta : h ta = some (.inl (K 1, 700, .inl tx), 2)) (htx : ∀ k, k < aSz S → tx k = aTx S k) (hsz : aSz S ≤ 700) {t1 t2 : Nat} (hrd : h rd = some (.inr (1, [.ref ta, .int (nI (aSz S)), .int (nI t2), .int (nI t1), .ref lg, .ref lm, .ref lr]), 3)) (hok : tkOK S (t1, t2)) (hWS : vk_R "FirstIn$Reader" 58 WSTR (wd 9) s0) : Met l yX1_isName (ws_ yX1_isName cX1_isName 1 ((Option.some Jvm.ClassFile.FieldType.boolean))) (rmk 6 0 0) (va_Pc [.ref rd] (PB s0 D CL (h))) (QR s0 D CL (fun v h1 => v = some (.int (zI ((namS S (t1, t2)).isSome))) ∧ h1 = h)) 0 0 (zA s0) := by
  refine hp_met (by decide) (Nat.le_of_ble_eq_true rfl) hK0 ?_
  intro p e s m below meth cd ls hx hb hr hlocks hml hown hnm hts hK hPB hl hS hH hA
  have hl : lv_has ls 1 [(0, .ref rd)] := hl
  have hown : s.vm.findClass RX1 = some m.cls := hown
  have hk1 : t1 ≤ t2 ∧ t2 ≤ aSz S := hok.1
  refine lv_aload_n hx hb dX1_isName_0 rfl (lv_at hl 0 rfl) ?_
  refine hp_callV (As := []) (rest := []) hx hb hml hown hts hPB hK hH hS (mc_isWord hK0 hG hTX hta htx hsz hrd hok) hrd rfl rfl 0 (lw_V q385 q387 qs6 q103 q388) (by decide +kernel) ⟨rfl, rfl⟩ (by first | decide | omega | (simp only [rmk]; omega)) rfl hl.1 rfl (Nat.le_of_ble_eq_true rfl) (by first | decide | omega | (simp only [rmk]; omega)) dX1_isName_1 (fun v1 h3 H locs hp2 _ hH hS => ?_)
  obtain ⟨rfl, hq⟩ := hp2
  rw [hq] at hH
  refine lvB_eq (tgt := 33) hx hb dX1_isName_4 (by decide) (fun c1 => ?_) (fun c1 => ?_)
  · refine lv_iconst (v := nI 0) hx hb dX1_isName_33 (by decide) ?_
    exact hp_zret hx hb hr rfl hlocks hH hS (by first | decide | omega | (simp only [rmk]; omega)) (by first | decide | omega | (simp only [rmk]; omega)) dX1_isName_34 (⟨congrArg some (congrArg Value.int (zI_0 (by rw [nam_is, c1]; rfl))), rfl⟩)
  · refine lv_aload_n hx hb dX1_isName_7 rfl (lv_at hl 0 rfl) ?_
    refine hp_callV (As := []) (rest := []) hx hb hml hown hts hPB hK hH hS (mc_word hK0 hG hTX hta htx hsz hrd hok hWS) hrd rfl rfl 0 (lw_V q370 q372 qs5 q103 q373) (by decide +kernel) ⟨rfl, rfl⟩ (by first | decide | omega | (simp only [rmk]; omega)) rfl hl.1 rfl (Nat.le_of_ble_eq_true rfl) (by first | decide | omega | (simp only [rmk]; omega)) dX1_isName_8 (fun v4 h6 H locs hp5 _ hH hS => ?_)
    obtain ⟨rfl, hq⟩ := hp5
    rw [hq] at hH
    refine lv_iconst (v := (-1)) hx hb dX1_isName_11 (by decide) ?_
    refine lv_icmp_ne (tgt := 33) hx hb dX1_isName_12 (by decide) (fun c2 => ?_) (fun c2 => ?_)
    · refine lv_iconst (v := nI 0) hx hb dX1_isName_33 (by decide) ?_
      exact hp_zret hx hb hr rfl hlocks hH hS (by first | decide | omega | (simp only [rmk]; omega)) (by first | decide | omega | (simp only [rmk]; omega)) dX1_isName_34 (⟨congrArg some (congrArg Value.int (zI_0 (by rw [nam_is, c1, decide_eq_false (fun q => c2 ((oI_no (fun k e => wdO_lt e)).mpr q))]; rfl))), rfl⟩)
    · refine lv_aload_n hx hb dX1_isName_15 rfl (lv_at hl 0 rfl) ?_
      refine hp_get (C := RX1) (T := TX1) (N := 7) (v := .int (nI t2)) hx hb hts in_X1 hown hK hH hrd rfl 2 (by decide) (hts _ q187) (fun _ z => z) rfl dX1_isName_16 ?_
      refine lv_aload_n hx hb dX1_isName_19 rfl (lv_at hl 0 rfl) ?_
      refine hp_get (C := RX1) (T := TX1) (N := 7) (v := .int (nI t1)) hx hb hts in_X1 hown hK hH hrd rfl 3 (by decide) (hts _ q188) (fun _ z => z) rfl dX1_isName_20 ?_
      refine lv_isub hx hb dX1_isName_23 ?_
      refine lv_top (y := nI (t2 - t1)) (pk_sub (by first | omega | (refine Nat.lt_of_lt_of_le (Nat.mod_lt _ ?_) ?_ <;> omega))) ?_
      refine lv_bipush (v := nI 8) hx hb dX1_isName_24 (by decide) ?_
      refine lvN_gt (tgt := 33) hx hb (by first | omega | (refine Nat.lt_of_lt_of_le (Nat.mod_lt _ ?_) ?_ <;> omega)) (by first | omega | (refine Nat.lt_of_lt_of_le (Nat.mod_lt _ ?_) ?_ <;> omega)) dX1_isName_26 (by decide) (fun c3 => ?_) (fun c3 => ?_)
      · refine lv_iconst (v := nI 0) hx hb dX1_isName_33 (by decide) ?_
        exact hp_zret hx hb hr rfl hlocks hH hS (by first | decide | omega | (simp only [rmk]; omega)) (by first | decide | omega | (simp only [rmk]; omega)) dX1_isName_34 (⟨congrArg some (congrArg Value.int (zI_0 (by rw [nam_is, c1, decide_eq_true ((oI_no (fun k e => wdO_lt e)).mp c2), decide_eq_false (show ¬ t2 - t1 ≤ 8 by omega)]; rfl))), rfl⟩)
      · refine lv_iconst (v := nI 1) hx hb dX1_isName_29 (by decide) ?_
        refine lv_goto (tgt := 34) hx hb dX1_isName_30 (by decide) ?_
        exact hp_zret hx hb hr rfl hlocks hH hS (by first | decide | omega | (simp only [rmk]; omega)) (by first | decide | omega | (simp only [rmk]; omega)) dX1_isName_34 (⟨congrArg some (congrArg Value.int (zI_1 (by rw [nam_is, c1, decide_eq_true ((oI_no (fun k e => wdO_lt e)).mp c2), decide_eq_true (show t2 - t1 ≤ 8 by omega)]; rfl))), rfl⟩)
end MODEL
