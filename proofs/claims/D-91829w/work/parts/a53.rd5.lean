/-! by gen/mspec.py -/
set_option maxRecDepth 100000
section MODEL
variable {l : Launch} {s0 : State} {D : va_G} {K : Nat → ClassId} {wd : Nat → Nat} {o : Nat} {h : Hp} {I : Nat → Int32} {V : Nat → Nat → Int32} {J : Nat → Nat → Int64}
set_option maxHeartbeats 4000000 in
theorem mc_newName (hK0 : va_K D CL (TYS K) s0) {av : Nat → Nat} {ed mi : Nat} (hG : GX s0 wd av ed mi) {us ss : Value} (hTX : TX s0 us ss) (hWS : vk_R "FirstIn$Reader" 58 WSTR (wd 9) s0) {S : Ab} (hO : SOK S) (hO2 : SO2 S) {h0 : Hp} {tb rd ta lg lm lr : Nat} {tx : Nat → Int32} (htx : ∀ k, k < aSz S → tx k = aTx S k) (htb : 30 ≤ tb) {Y : Dr} (hDY : drOK Y) {nm : Nat → Nat} {Ls : Nat → List Nat} {Jn : Nat → Nat} {t1 t2 : Nat} (hR : RS K ed S h0 tb rd ta lg lm lr tx Y (t1, t2) nm Ls Jn h) (hok : tkOK S (t1, t2)) : MetT l yX1_newName (ws_ yX1_newName cX1_newName 2 ((Option.some (Jvm.ClassFile.FieldType.array Jvm.ClassFile.FieldType.byte)))) (rmk 8 2 15) (va_Pc [.ref rd] (PB s0 D CL (h))) (QT s0 D CL (fun v h1 => ∃ q, v = some (.ref q) ∧ pasE S (newB Y (namS S (t1, t2))) (t1, t2) = .ok (nx S t2) ∧ NMA K h1 q (tb + 1) (tokL S (t1, t2)) ∧ RS K ed S h0 tb rd ta lg lm lr tx Y (nx S t2) nm Ls Jn h1 ∧ frT 3 h h1 ∧ obK h h1) (fun a h1 => ∃ n, pasE S (newB Y (namS S (t1, t2))) (t1, t2) = .error n ∧ TR K ed h0 rd lg lm lr n a h1)) 2 15 (zA s0) := by
  refine hpT_met (by decide) (Nat.le_of_ble_eq_true rfl) hK0 ?_
  intro p e s m below meth cd ls hx hb hr hlocks hml hown hnm hts hK hPB hl hS hH hA hout
  have hl : lv_has ls 2 [(0, .ref rd)] := hl
  have hown : s.vm.findClass RX1 = some m.cls := hown
  have hk1 : t1 ≤ t2 ∧ t2 ≤ aSz S := hok.1
  have hsz := hO.sz
  have hta := hR.cT
  have hrd := hR.cR
  have hyl := hDY.1
  refine lv_aload_n hx hb dX1_newName_0 rfl (lv_at hl 0 rfl) ?_
  refine hp_callV (As := []) (rest := []) hx hb hml hown hts hPB hK hH hS (mc_isName hK0 hG hTX hta htx hsz hrd hok hWS) hrd rfl rfl 0 (lw_V q497 q499 qs9 q103 q500) (by decide +kernel) ⟨rfl, rfl⟩ (by first | decide | omega | (simp only [rmk]; omega)) rfl hl.1 rfl (Nat.le_of_ble_eq_true rfl) (by first | decide | omega | (simp only [rmk]; omega)) dX1_newName_1 (fun v1 h3 H locs hp2 _ hH hS => ?_)
  obtain ⟨rfl, hq⟩ := hp2
  rw [hq] at hH
  refine lvB_eq (tgt := 21) hx hb dX1_newName_4 (by decide) (fun c1 => ?_) (fun c1 => ?_)
  · refine lv_aload_n hx hb dX1_newName_21 rfl (lv_at hl 0 rfl) ?_
    refine hp_callV (As := []) (rest := []) hx hb hml hown hts hPB hK hH hS (mc_wrong hK0 hG hTX hrd (tf := 30)) hrd rfl rfl 0 (lw_V q294 q296 qs2 q103 q297) (by decide +kernel) ⟨rfl, rfl⟩ (by first | decide | omega | (simp only [rmk]; omega)) rfl hl.1 rfl (Nat.le_of_ble_eq_true rfl) (by first | decide | omega | (simp only [rmk]; omega)) dX1_newName_22 (fun v5 h7 H locs hp6 _ hH hS => ?_)
    obtain ⟨q4, rfl, hnq4, hqq4⟩ := hp6
    rw [hqq4] at hH
    exact hp_throw hx hb hlocks (hout _) hH hS (by first | decide | omega | (simp only [rmk]; omega)) (by first | decide | omega | (simp only [rmk]; omega)) dX1_newName_25 (⟨_, pasE_f (newB_f0 c1), hR.wr hnq4⟩)
  · refine lv_aload_n hx hb dX1_newName_7 rfl (lv_at hl 0 rfl) ?_
    refine hp_callV (As := []) (rest := []) hx hb hml hown hts hPB hK hH hS (mc_guestHere hK0 hG hTX hWS hO hO2 htx htb hDY hR hok) hrd rfl rfl 0 (lw_V q501 q503 qs10 q103 q504) (by decide +kernel) ⟨rfl, rfl⟩ (by first | decide | omega | (simp only [rmk]; omega)) rfl hl.1 rfl (Nat.le_of_ble_eq_true rfl) (by first | decide | omega | (simp only [rmk]; omega)) dX1_newName_8 (fun v9 h11 H locs hp10 _ hH hS => ?_)
    rcases hp10.1 with ⟨k8, hk8, hf0, rfl⟩ | ⟨hf0, rfl⟩
    · have hq := hp10.2; rw [hq] at hH
      refine lv_ifnonnull (tgt := 21) hx hb dX1_newName_11 (by decide) ?_
      refine lv_aload_n hx hb dX1_newName_21 rfl (lv_at hl 0 rfl) ?_
      refine hp_callV (As := []) (rest := []) hx hb hml hown hts hPB hK hH hS (mc_wrong hK0 hG hTX hrd (tf := 30)) hrd rfl rfl 0 (lw_V q294 q296 qs2 q103 q297) (by decide +kernel) ⟨rfl, rfl⟩ (by first | decide | omega | (simp only [rmk]; omega)) rfl hl.1 rfl (Nat.le_of_ble_eq_true rfl) (by first | decide | omega | (simp only [rmk]; omega)) dX1_newName_22 (fun v13 h15 H locs hp14 _ hH hS => ?_)
      obtain ⟨q12, rfl, hnq12, hqq12⟩ := hp14
      rw [hqq12] at hH
      exact hp_throw hx hb hlocks (hout _) hH hS (by first | decide | omega | (simp only [rmk]; omega)) (by first | decide | omega | (simp only [rmk]; omega)) dX1_newName_25 (⟨_, pasE_f (newB_f1 c1 hf0), hR.wr hnq12⟩)
    · have hq := hp10.2; rw [hq] at hH
      refine lv_ifnonnullN hx hb dX1_newName_11 ?_
      refine lv_aload_n hx hb dX1_newName_14 rfl (lv_at hl 0 rfl) ?_
      refine hp_callV (As := []) (rest := []) hx hb hml hown hts hPB hK hH hS (mc_markHere hK0 hG hTX hWS hO hO2 htx htb hDY hR hok) hrd rfl rfl 0 (lw_V q523 q525 qs11 q103 q526) (by decide +kernel) ⟨rfl, rfl⟩ (by first | decide | omega | (simp only [rmk]; omega)) rfl hl.1 rfl (Nat.le_of_ble_eq_true rfl) (by first | decide | omega | (simp only [rmk]; omega)) dX1_newName_15 (fun v17 h19 H locs hp18 _ hH hS => ?_)
      rcases hp18.1 with ⟨k16, hk16, hf1, rfl⟩ | ⟨hf1, rfl⟩
      · have hq := hp18.2; rw [hq] at hH
        refine lv_ifnull hx hb dX1_newName_18 ?_
        refine lv_aload_n hx hb dX1_newName_21 rfl (lv_at hl 0 rfl) ?_
        refine hp_callV (As := []) (rest := []) hx hb hml hown hts hPB hK hH hS (mc_wrong hK0 hG hTX hrd (tf := 30)) hrd rfl rfl 0 (lw_V q294 q296 qs2 q103 q297) (by decide +kernel) ⟨rfl, rfl⟩ (by first | decide | omega | (simp only [rmk]; omega)) rfl hl.1 rfl (Nat.le_of_ble_eq_true rfl) (by first | decide | omega | (simp only [rmk]; omega)) dX1_newName_22 (fun v21 h23 H locs hp22 _ hH hS => ?_)
        obtain ⟨q20, rfl, hnq20, hqq20⟩ := hp22
        rw [hqq20] at hH
        exact hp_throw hx hb hlocks (hout _) hH hS (by first | decide | omega | (simp only [rmk]; omega)) (by first | decide | omega | (simp only [rmk]; omega)) dX1_newName_25 (⟨_, pasE_f (newB_f2 c1 hf0 hf1), hR.wr hnq20⟩)
      · have hq := hp18.2; rw [hq] at hH
        refine lv_ifnullN (tgt := 26) hx hb dX1_newName_18 (by decide) ?_
        refine lv_aload_n hx hb dX1_newName_26 rfl (lv_at hl 0 rfl) ?_
        refine hp_get (C := RX1) (T := TX1) (N := 7) (v := .int (nI t2)) hx hb hts in_X1 hown hK hH hrd rfl 2 (by decide) (hts _ q187) (fun _ z => z) rfl dX1_newName_27 ?_
        refine lv_aload_n hx hb dX1_newName_30 rfl (lv_at hl 0 rfl) ?_
        refine hp_get (C := RX1) (T := TX1) (N := 7) (v := .int (nI t1)) hx hb hts in_X1 hown hK hH hrd rfl 3 (by decide) (hts _ q188) (fun _ z => z) rfl dX1_newName_31 ?_
        refine lv_isub hx hb dX1_newName_34 ?_
        refine lv_top (y := nI (t2 - t1)) (pk_sub (by first | omega | (refine Nat.lt_of_lt_of_le (Nat.mod_lt _ ?_) ?_ <;> omega))) ?_
        have hl8 : t2 - t1 ≤ 8 := by have := nam_is (S := S) (t1 := t1) (t2 := t2); rw [c1] at this; exact of_decide_eq_true (Bool.and_eq_true_iff.mp (Bool.and_eq_true_iff.mp this.symm).2).2
        obtain ⟨nq, hnq, nnq⟩ := hH.fr
        refine hp_newa (atype := .byte) (ty := .byte) (n := nI (t2 - t1)) (N' := t2 - t1) (a0 := (t2 - t1, .inl (fun _ => 0))) hx hb (hts _ q184) rfl hK hH hS hA 1 rfl (fun z => z) (fun _ => rfl) (nI_pos (by first | omega | (refine Nat.lt_of_lt_of_le (Nat.mod_lt _ ?_) ?_ <;> omega))) (nI_clamp (by first | omega | (refine Nat.lt_of_lt_of_le (Nat.mod_lt _ ?_) ?_ <;> omega))) (by show _ * 1 ≤ _; omega) (by first | decide | omega | (simp only [rmk]; omega)) (by first | decide | omega | (simp only [rmk]; omega)) (tb + 1) dX1_newName_35 (fun H _ hH hS => ?_)
        rw [← hnq] at hH ⊢
        have hH : HP D CL (zA s0) (hset h nq (.inl (K 1, t2 - t1, .inl (fun _ => 0))) (tb + 1)) H := hH
        have x24 : rd ≠ nq := ne_new hrd nnq
        have x25 : ta ≠ nq := ne_new hta nnq
        have e26 : (hset h nq (.inl (K 1, t2 - t1, .inl (fun _ => 0))) (tb + 1)) rd = some (.inr (1, [.ref ta, .int (nI (aSz S)), .int (nI t2), .int (nI t1), .ref lg, .ref lm, .ref lr]), 3) := (hset_ne _ _ _ (x24)).trans hrd
        have e27 : (hset h nq (.inl (K 1, t2 - t1, .inl (fun _ => 0))) (tb + 1)) ta = some (.inl (K 1, 700, .inl tx), 2) := (hset_ne _ _ _ (x25)).trans hta
        have e28 : (hset h nq (.inl (K 1, t2 - t1, .inl (fun _ => 0))) (tb + 1)) nq = some (.inl (K 1, t2 - t1, .inl (fun _ => 0)), (tb + 1)) := hset_self _ _ _ _
        refine lv_astore_n (lv' := [(1, .ref nq), (0, .ref rd)]) hx hb dX1_newName_37 rfl hl (by decide) rfl (fun ls hl => ?_)
        refine lv_aload_n hx hb dX1_newName_38 rfl (lv_at hl 1 rfl) ?_
        refine hp_get (C := RX1) (T := TX1) (N := 7) (v := .ref ta) hx hb hts in_X1 hown hK hH e26 rfl 0 (by decide) (hts _ q185) (fun _ z => z) rfl dX1_newName_39 ?_
        refine lv_aload_n hx hb dX1_newName_42 rfl (lv_at hl 1 rfl) ?_
        refine hp_get (C := RX1) (T := TX1) (N := 7) (v := .int (nI t1)) hx hb hts in_X1 hown hK hH e26 rfl 3 (by decide) (hts _ q188) (fun _ z => z) rfl dX1_newName_43 ?_
        refine lv_aload_n hx hb dX1_newName_46 rfl (lv_at hl 0 rfl) ?_
        refine lv_iconst (v := nI 0) hx hb dX1_newName_47 (by decide) ?_
        refine lv_aload_n hx hb dX1_newName_48 rfl (lv_at hl 0 rfl) ?_
        refine hp_alen (v := nI (t2 - t1)) hx hb hK hH 1 e28 rfl rfl dX1_newName_49 ?_
        refine hp_copyi (n := nI (t2 - t1)) (dp := nI 0) (sp := nI t1) hx hb (hml.trans hl.1.symm) hown (hts _ q531) (hts _ q533) (hts _ q532) (hts _ q121) hK hH hS 1 1 e27 e28 rfl rfl rfl (nI_pos (by first | omega | (refine Nat.lt_of_lt_of_le (Nat.mod_lt _ ?_) ?_ <;> omega))) (nI_pos (by first | omega | (refine Nat.lt_of_lt_of_le (Nat.mod_lt _ ?_) ?_ <;> omega))) (nI_pos (by first | omega | (refine Nat.lt_of_lt_of_le (Nat.mod_lt _ ?_) ?_ <;> omega))) (by rw [nI_clamp (show t1 < 2 ^ 31 by omega), nI_clamp (show t2 - t1 < 2 ^ 31 by omega)]; omega) (by rw [nI_clamp (show 0 < 2 ^ 31 by omega), nI_clamp (show t2 - t1 < 2 ^ 31 by omega)]; omega) (fun i hi => by rw [nI_clamp (show t2 - t1 < 2 ^ 31 by omega)] at hi; rw [nI_clamp (show t1 < 2 ^ 31 by omega), htx _ (by omega)]; exact hO2.2 _ (by omega)) (by first | decide | omega | (simp only [rmk]; omega)) (Nat.le_of_ble_eq_true rfl) dX1_newName_50 (fun H locs _ hH hS => ?_)
        rw [nI_clamp (show t1 < 2 ^ 31 by omega), nI_clamp (show 0 < 2 ^ 31 by omega), nI_clamp (show t2 - t1 < 2 ^ 31 by omega)] at hH
        have hH : HP D CL (zA s0) (hset (hset h nq (.inl (K 1, t2 - t1, .inl (fun _ => 0))) (tb + 1)) nq (.inl (K 1, t2 - t1, .inl (va_cpy tx (fun _ => 0) t1 0 (t2 - t1)))) (tb + 1)) H := hH
        have e29 : (hset (hset h nq (.inl (K 1, t2 - t1, .inl (fun _ => 0))) (tb + 1)) nq (.inl (K 1, t2 - t1, .inl (va_cpy tx (fun _ => 0) t1 0 (t2 - t1)))) (tb + 1)) rd = some (.inr (1, [.ref ta, .int (nI (aSz S)), .int (nI t2), .int (nI t1), .ref lg, .ref lm, .ref lr]), 3) := (hset_ne _ _ _ (x24)).trans e26
        have e30 : (hset (hset h nq (.inl (K 1, t2 - t1, .inl (fun _ => 0))) (tb + 1)) nq (.inl (K 1, t2 - t1, .inl (va_cpy tx (fun _ => 0) t1 0 (t2 - t1)))) (tb + 1)) ta = some (.inl (K 1, 700, .inl tx), 2) := (hset_ne _ _ _ (x25)).trans e27
        have e31 : (hset (hset h nq (.inl (K 1, t2 - t1, .inl (fun _ => 0))) (tb + 1)) nq (.inl (K 1, t2 - t1, .inl (va_cpy tx (fun _ => 0) t1 0 (t2 - t1)))) (tb + 1)) nq = some (.inl (K 1, t2 - t1, .inl (va_cpy tx (fun _ => 0) t1 0 (t2 - t1))), (tb + 1)) := hset_self _ _ _ _
        have hxn : exH h (hset (hset h nq (.inl (K 1, t2 - t1, .inl (fun _ => 0))) (tb + 1)) nq (.inl (K 1, t2 - t1, .inl (va_cpy tx (fun _ => 0) t1 0 (t2 - t1)))) (tb + 1)) := ex_set (exH.new nnq) nnq
        have hR2 := hR.X htb hxn
        refine lv_aload_n hx hb dX1_newName_53 rfl (lv_at hl 1 rfl) ?_
        refine hp_callVT (As := []) (rest := []) hx hb hml hown hts hPB hK hH hS (mc_next hK0 hG hTX e30 htx hsz e29 (by omega)) e29 rfl rfl 0 (lw_V q284 q286 qs1 q103 q287) (by decide +kernel) ⟨rfl, rfl⟩ (by first | decide | omega | (simp only [rmk]; omega)) rfl hl.1 rfl (Nat.le_of_ble_eq_true rfl) (by first | decide | omega | (simp only [rmk]; omega)) hlocks (hout _) (by first | decide | omega | (simp only [rmk]; omega)) dX1_newName_54 (fun a9 h9 ht9 => ⟨_, pasE_b (newB_t c1 hf0 hf1) ht9.1, hR2.thr ht9.2⟩) (fun v32 h34 H locs hp33 _ hH hS => ?_)
        obtain ⟨rfl, hbd, hq⟩ := hp33
        rw [hq] at hH
        refine lv_aload_n hx hb dX1_newName_57 rfl (lv_at hl 0 rfl) ?_
        refine w_mono mq_t ?_
        exact hp_aret hx hb hr (Or.inr ⟨_, rfl⟩) (Or.inr ⟨_, rfl⟩) hlocks hH hS (by first | decide | omega | (simp only [rmk]; omega)) (by first | decide | omega | (simp only [rmk]; omega)) dX1_newName_58 (⟨nq, rfl, pasE_ok (newB_t c1 hf0 hf1) hbd, (nma_cpy htx (by omega) e31).keep (fun b e q => set_fr hR2.cR _ _ _ q (by omega)), hR2.nx htb, fun b e u q n => set_fr hR2.cR _ _ _ (hxn _ _ _ q) n, (exH.ob hxn).tr (ob_o hR2.cR)⟩)
set_option maxHeartbeats 4000000 in
theorem mc_side (hK0 : va_K D CL (TYS K) s0) {av : Nat → Nat} {ed mi : Nat} (hG : GX s0 wd av ed mi) {us ss : Value} (hTX : TX s0 us ss) (hWS : vk_R "FirstIn$Reader" 58 WSTR (wd 9) s0) {S : Ab} (hO : SOK S) (hO2 : SO2 S) {h0 : Hp} {tb rd ta lg lm lr : Nat} {tx : Nat → Int32} (htx : ∀ k, k < aSz S → tx k = aTx S k) (htb : 30 ≤ tb) {Y : Dr} (hDY : drOK Y) {nm : Nat → Nat} {Ls : Nat → List Nat} {Jn : Nat → Nat} {t1 t2 : Nat} (hR : RS K ed S h0 tb rd ta lg lm lr tx Y (t1, t2) nm Ls Jn h) (hok : tkOK S (t1, t2)) : MetT l yX1_side (ws_ yX1_side cX1_side 2 ((Option.some (Jvm.ClassFile.FieldType.object "FirstIn$Side")))) (rmk 8 1 7) (va_Pc [.ref rd] (PB s0 D CL (h))) (QT s0 D CL (fun v h1 => v = some (.ref (sdA Ls (sdV Y (namS S (t1, t2))))) ∧ pasE S (sdB Y (namS S (t1, t2))) (t1, t2) = .ok (nx S t2) ∧ h1 = hset h rd (.inr (1, [.ref ta, .int (nI (aSz S)), .int (nI ((nx S t2).2)), .int (nI ((nx S t2).1)), .ref lg, .ref lm, .ref lr])) 3) (fun a h1 => ∃ n, pasE S (sdB Y (namS S (t1, t2))) (t1, t2) = .error n ∧ TR K ed h0 rd lg lm lr n a h1)) 1 7 (zA s0) := by
  refine hpT_met (by decide) (Nat.le_of_ble_eq_true rfl) hK0 ?_
  intro p e s m below meth cd ls hx hb hr hlocks hml hown hnm hts hK hPB hl hS hH hA hout
  have hl : lv_has ls 2 [(0, .ref rd)] := hl
  have hown : s.vm.findClass RX1 = some m.cls := hown
  have hk1 : t1 ≤ t2 ∧ t2 ≤ aSz S := hok.1
  have hsz := hO.sz
  have hta := hR.cT
  have hrd := hR.cR
  have hyl := hDY.1
  refine lv_aload_n hx hb dX1_side_0 rfl (lv_at hl 0 rfl) ?_
  refine hp_callV (As := []) (rest := []) hx hb hml hown hts hPB hK hH hS (mc_isName hK0 hG hTX hta htx hsz hrd hok hWS) hrd rfl rfl 0 (lw_V q497 q499 qs9 q103 q500) (by decide +kernel) ⟨rfl, rfl⟩ (by first | decide | omega | (simp only [rmk]; omega)) rfl hl.1 rfl (Nat.le_of_ble_eq_true rfl) (by first | decide | omega | (simp only [rmk]; omega)) dX1_side_1 (fun v1 h3 H locs hp2 _ hH hS => ?_)
  obtain ⟨rfl, hq⟩ := hp2
  rw [hq] at hH
  refine lvB_ne (tgt := 12) hx hb dX1_side_4 (by decide) (fun c1 => ?_) (fun c1 => ?_)
  · refine lv_aload_n hx hb dX1_side_12 rfl (lv_at hl 0 rfl) ?_
    refine hp_callV (As := []) (rest := []) hx hb hml hown hts hPB hK hH hS (mc_guestHere hK0 hG hTX hWS hO hO2 htx htb hDY hR hok) hrd rfl rfl 0 (lw_V q501 q503 qs10 q103 q504) (by decide +kernel) ⟨rfl, rfl⟩ (by first | decide | omega | (simp only [rmk]; omega)) rfl hl.1 rfl (Nat.le_of_ble_eq_true rfl) (by first | decide | omega | (simp only [rmk]; omega)) dX1_side_13 (fun v5 h7 H locs hp6 _ hH hS => ?_)
    rcases hp6.1 with ⟨k4, hk4, hf0, rfl⟩ | ⟨hf0, rfl⟩
    · have hq := hp6.2; rw [hq] at hH
      refine lv_astore_n (lv' := [(1, .ref ((Ls 0).getD k4 0)), (0, .ref rd)]) hx hb dX1_side_16 rfl hl (by decide) rfl (fun ls hl => ?_)
      refine lv_aload_n hx hb dX1_side_17 rfl (lv_at hl 0 rfl) ?_
      refine lv_ifnonnull (tgt := 26) hx hb dX1_side_18 (by decide) ?_
      refine lv_aload_n hx hb dX1_side_26 rfl (lv_at hl 0 rfl) ?_
      refine lv_ifnonnull (tgt := 35) hx hb dX1_side_27 (by decide) ?_
      refine lv_aload_n hx hb dX1_side_35 rfl (lv_at hl 1 rfl) ?_
      refine hp_callVT (As := []) (rest := []) hx hb hml hown hts hPB hK hH hS (mc_next hK0 hG hTX hta htx hsz hrd (by omega)) hrd rfl rfl 0 (lw_V q284 q286 qs1 q103 q287) (by decide +kernel) ⟨rfl, rfl⟩ (by first | decide | omega | (simp only [rmk]; omega)) rfl hl.1 rfl (Nat.le_of_ble_eq_true rfl) (by first | decide | omega | (simp only [rmk]; omega)) hlocks (hout _) (by first | decide | omega | (simp only [rmk]; omega)) dX1_side_36 (fun a9 h9 ht9 => ⟨_, pasE_b ((sd_g (gst_some c1 hf0)).1) ht9.1, hR.thr ht9.2⟩) (fun v8 h10 H locs hp9 _ hH hS => ?_)
      obtain ⟨rfl, hbd, hq⟩ := hp9
      rw [hq] at hH
      refine lv_aload_n hx hb dX1_side_39 rfl (lv_at hl 0 rfl) ?_
      refine w_mono mq_t ?_
      exact hp_aret hx hb hr (Or.inl ⟨_, rfl⟩) (Or.inr ⟨_, rfl⟩) hlocks hH hS (by first | decide | omega | (simp only [rmk]; omega)) (by first | decide | omega | (simp only [rmk]; omega)) dX1_side_40 (⟨congrArg some (congrArg Value.ref (by rw [(sd_g (gst_some c1 hf0)).2, sdA_g (by omega)])), pasE_ok ((sd_g (gst_some c1 hf0)).1) hbd, rfl⟩)
    · have hq := hp6.2; rw [hq] at hH
      refine lv_astore_nN (lv' := [(1, .null), (0, .ref rd)]) hx hb dX1_side_16 rfl hl (by decide) rfl (fun ls hl => ?_)
      refine lv_aload_nN hx hb dX1_side_17 rfl (lv_at hl 0 rfl) ?_
      refine lv_ifnonnullN hx hb dX1_side_18 ?_
      refine lv_aload_n hx hb dX1_side_21 rfl (lv_at hl 1 rfl) ?_
      refine hp_callV (As := []) (rest := []) hx hb hml hown hts hPB hK hH hS (mc_markHere hK0 hG hTX hWS hO hO2 htx htb hDY hR hok) hrd rfl rfl 0 (lw_V q523 q525 qs11 q103 q526) (by decide +kernel) ⟨rfl, rfl⟩ (by first | decide | omega | (simp only [rmk]; omega)) rfl hl.1 rfl (Nat.le_of_ble_eq_true rfl) (by first | decide | omega | (simp only [rmk]; omega)) dX1_side_22 (fun v12 h14 H locs hp13 _ hH hS => ?_)
      rcases hp13.1 with ⟨k11, hk11, hf1, rfl⟩ | ⟨hf1, rfl⟩
      · have hq := hp13.2; rw [hq] at hH
        refine lv_astore_n (lv' := [(1, .ref ((Ls 1).getD k11 0)), (0, .ref rd)]) hx hb dX1_side_25 rfl hl (by decide) rfl (fun ls hl => ?_)
        refine lv_aload_n hx hb dX1_side_26 rfl (lv_at hl 0 rfl) ?_
        refine lv_ifnonnull (tgt := 35) hx hb dX1_side_27 (by decide) ?_
        refine lv_aload_n hx hb dX1_side_35 rfl (lv_at hl 1 rfl) ?_
        refine hp_callVT (As := []) (rest := []) hx hb hml hown hts hPB hK hH hS (mc_next hK0 hG hTX hta htx hsz hrd (by omega)) hrd rfl rfl 0 (lw_V q284 q286 qs1 q103 q287) (by decide +kernel) ⟨rfl, rfl⟩ (by first | decide | omega | (simp only [rmk]; omega)) rfl hl.1 rfl (Nat.le_of_ble_eq_true rfl) (by first | decide | omega | (simp only [rmk]; omega)) hlocks (hout _) (by first | decide | omega | (simp only [rmk]; omega)) dX1_side_36 (fun a9 h9 ht9 => ⟨_, pasE_b ((sd_m (gst_some c1 hf0) (mrk_some c1 hf1)).1) ht9.1, hR.thr ht9.2⟩) (fun v15 h17 H locs hp16 _ hH hS => ?_)
        obtain ⟨rfl, hbd, hq⟩ := hp16
        rw [hq] at hH
        refine lv_aload_n hx hb dX1_side_39 rfl (lv_at hl 0 rfl) ?_
        refine w_mono mq_t ?_
        exact hp_aret hx hb hr (Or.inl ⟨_, rfl⟩) (Or.inr ⟨_, rfl⟩) hlocks hH hS (by first | decide | omega | (simp only [rmk]; omega)) (by first | decide | omega | (simp only [rmk]; omega)) dX1_side_40 (⟨congrArg some (congrArg Value.ref (by rw [(sd_m (gst_some c1 hf0) (mrk_some c1 hf1)).2, sdA_m])), pasE_ok ((sd_m (gst_some c1 hf0) (mrk_some c1 hf1)).1) hbd, rfl⟩)
      · have hq := hp13.2; rw [hq] at hH
        refine lv_astore_nN (lv' := [(1, .null), (0, .ref rd)]) hx hb dX1_side_25 rfl hl (by decide) rfl (fun ls hl => ?_)
        refine lv_aload_nN hx hb dX1_side_26 rfl (lv_at hl 0 rfl) ?_
        refine lv_ifnonnullN hx hb dX1_side_27 ?_
        refine lv_aload_n hx hb dX1_side_30 rfl (lv_at hl 1 rfl) ?_
        refine hp_callV (As := []) (rest := []) hx hb hml hown hts hPB hK hH hS (mc_wrong hK0 hG hTX hrd (tf := 30)) hrd rfl rfl 0 (lw_V q294 q296 qs2 q103 q297) (by decide +kernel) ⟨rfl, rfl⟩ (by first | decide | omega | (simp only [rmk]; omega)) rfl hl.1 rfl (Nat.le_of_ble_eq_true rfl) (by first | decide | omega | (simp only [rmk]; omega)) dX1_side_31 (fun v19 h21 H locs hp20 _ hH hS => ?_)
        obtain ⟨q18, rfl, hnq18, hqq18⟩ := hp20
        rw [hqq18] at hH
        exact hp_throw hx hb hlocks (hout _) hH hS (by first | decide | omega | (simp only [rmk]; omega)) (by first | decide | omega | (simp only [rmk]; omega)) dX1_side_34 (⟨_, pasE_f (sd_n (gst_some c1 hf0) (mrk_some c1 hf1)), hR.wr hnq18⟩)
  · refine lv_aload_n hx hb dX1_side_7 rfl (lv_at hl 0 rfl) ?_
    refine hp_callV (As := []) (rest := []) hx hb hml hown hts hPB hK hH hS (mc_wrong hK0 hG hTX hrd (tf := 30)) hrd rfl rfl 0 (lw_V q294 q296 qs2 q103 q297) (by decide +kernel) ⟨rfl, rfl⟩ (by first | decide | omega | (simp only [rmk]; omega)) rfl hl.1 rfl (Nat.le_of_ble_eq_true rfl) (by first | decide | omega | (simp only [rmk]; omega)) dX1_side_8 (fun v23 h25 H locs hp24 _ hH hS => ?_)
    obtain ⟨q22, rfl, hnq22, hqq22⟩ := hp24
    rw [hqq22] at hH
    exact hp_throw hx hb hlocks (hout _) hH hS (by first | decide | omega | (simp only [rmk]; omega)) (by first | decide | omega | (simp only [rmk]; omega)) dX1_side_11 (⟨_, pasE_f (sd_n (gst_none c1).1 (gst_none c1).2), hR.wr hnq22⟩)
set_option maxHeartbeats 4000000 in
theorem mc_member (hK0 : va_K D CL (TYS K) s0) {av : Nat → Nat} {ed mi : Nat} (hG : GX s0 wd av ed mi) {us ss : Value} (hTX : TX s0 us ss) (hWS : vk_R "FirstIn$Reader" 58 WSTR (wd 9) s0) {S : Ab} (hO : SOK S) (hO2 : SO2 S) {h0 : Hp} {tb rd ta lg lm lr : Nat} {tx : Nat → Int32} (htx : ∀ k, k < aSz S → tx k = aTx S k) (htb : 30 ≤ tb) {Y : Dr} (hDY : drOK Y) {nm : Nat → Nat} {Ls : Nat → List Nat} {Jn : Nat → Nat} {t1 t2 : Nat} (hR : RS K ed S h0 tb rd ta lg lm lr tx Y (t1, t2) nm Ls Jn h) (hok : tkOK S (t1, t2)) (ht0 : ∀ b e u, h0 b = some (e, u) → u < tb) {ma nq mn9 b9 : Nat} (hma : h ma = some (.inr (5, [.ref nq, .int (nI mn9), .int (nI b9)]), tb + 2 + Y.2.1.length)) (hb9 : b9 < 1024) (hml5 : Y.2.1.length < 5) : MetT l yX1_member (ws_ yX1_member cX1_member 3 ((Option.none : Option Jvm.ClassFile.FieldType))) (rmk 8 1 7) (va_Pc [.ref rd, .ref ma] (PB s0 D CL (h))) (QT s0 D CL (fun v h1 => v = none ∧ ∃ g, gstO Y (namS S (t1, t2)) = some g ∧ pasE S (mbOk Y (namS S (t1, t2)) b9) (t1, t2) = .ok (nx S t2) ∧ h1 ma = some (.inr (5, [.ref nq, .int (nI mn9), .int (nI (b9 ||| 2 ^ g))]), tb + 2 + Y.2.1.length) ∧ RS K ed S h0 tb rd ta lg lm lr tx Y (nx S t2) nm Ls Jn h1 ∧ fr3 (tb + 2 + Y.2.1.length) h h1 ∧ obK h h1) (fun a h1 => ∃ n, pasE S (mbOk Y (namS S (t1, t2)) b9) (t1, t2) = .error n ∧ TR K ed h0 rd lg lm lr n a h1)) 1 7 (zA s0) := by
  refine hpT_met (by decide) (Nat.le_of_ble_eq_true rfl) hK0 ?_
  intro p e s m below meth cd ls hx hb hr hlocks hml hown hnm hts hK hPB hl hS hH hA hout
  have hl : lv_has ls 3 [(0, .ref rd), (1, .ref ma)] := hl
  have hown : s.vm.findClass RX1 = some m.cls := hown
  have hk1 : t1 ≤ t2 ∧ t2 ≤ aSz S := hok.1
  have hsz := hO.sz
  have hta := hR.cT
  have hrd := hR.cR
  have hyl := hDY.1
  refine lv_aload_n hx hb dX1_member_0 rfl (lv_at hl 0 rfl) ?_
  refine hp_callV (As := []) (rest := []) hx hb hml hown hts hPB hK hH hS (mc_isName hK0 hG hTX hta htx hsz hrd hok hWS) hrd rfl rfl 0 (lw_V q497 q499 qs9 q103 q500) (by decide +kernel) ⟨rfl, rfl⟩ (by first | decide | omega | (simp only [rmk]; omega)) rfl hl.1 rfl (Nat.le_of_ble_eq_true rfl) (by first | decide | omega | (simp only [rmk]; omega)) dX1_member_1 (fun v1 h3 H locs hp2 _ hH hS => ?_)
  obtain ⟨rfl, hq⟩ := hp2
  rw [hq] at hH
  refine lvB_eq (tgt := 14) hx hb dX1_member_4 (by decide) (fun c1 => ?_) (fun c1 => ?_)
  · refine lv_null hx hb dX1_member_14 ?_
    refine lv_astore_nN (lv' := [(2, .null), (0, .ref rd), (1, .ref ma)]) hx hb dX1_member_15 rfl hl (by decide) rfl (fun ls hl => ?_)
    refine lv_aload_nN hx hb dX1_member_16 rfl (lv_at hl 0 rfl) ?_
    refine lv_ifnullN (tgt := 35) hx hb dX1_member_17 (by decide) ?_
    refine lv_aload_n hx hb dX1_member_35 rfl (lv_at hl 1 rfl) ?_
    refine hp_callV (As := []) (rest := []) hx hb hml hown hts hPB hK hH hS (mc_wrong hK0 hG hTX hrd (tf := 30)) hrd rfl rfl 0 (lw_V q294 q296 qs2 q103 q297) (by decide +kernel) ⟨rfl, rfl⟩ (by first | decide | omega | (simp only [rmk]; omega)) rfl hl.1 rfl (Nat.le_of_ble_eq_true rfl) (by first | decide | omega | (simp only [rmk]; omega)) dX1_member_36 (fun v5 h7 H locs hp6 _ hH hS => ?_)
    obtain ⟨q4, rfl, hnq4, hqq4⟩ := hp6
    rw [hqq4] at hH
    exact hp_throw hx hb hlocks (hout _) hH hS (by first | decide | omega | (simp only [rmk]; omega)) (by first | decide | omega | (simp only [rmk]; omega)) dX1_member_39 (⟨_, pasE_f (mb_0 (gst_none c1).1), hR.wr hnq4⟩)
  · refine lv_aload_n hx hb dX1_member_7 rfl (lv_at hl 0 rfl) ?_
    refine hp_callV (As := []) (rest := []) hx hb hml hown hts hPB hK hH hS (mc_guestHere hK0 hG hTX hWS hO hO2 htx htb hDY hR hok) hrd rfl rfl 0 (lw_V q501 q503 qs10 q103 q504) (by decide +kernel) ⟨rfl, rfl⟩ (by first | decide | omega | (simp only [rmk]; omega)) rfl hl.1 rfl (Nat.le_of_ble_eq_true rfl) (by first | decide | omega | (simp only [rmk]; omega)) dX1_member_8 (fun v9 h11 H locs hp10 _ hH hS => ?_)
    rcases hp10.1 with ⟨k8, hk8, hf0, rfl⟩ | ⟨hf0, rfl⟩
    · have hq := hp10.2; rw [hq] at hH
      refine lv_goto (tgt := 15) hx hb dX1_member_11 (by decide) ?_
      refine lv_astore_n (lv' := [(2, .ref ((Ls 0).getD k8 0)), (0, .ref rd), (1, .ref ma)]) hx hb dX1_member_15 rfl hl (by decide) rfl (fun ls hl => ?_)
      refine lv_aload_n hx hb dX1_member_16 rfl (lv_at hl 0 rfl) ?_
      refine lv_ifnull hx hb dX1_member_17 ?_
      refine lv_aload_n hx hb dX1_member_20 rfl (lv_at hl 2 rfl) ?_
      refine hp_getN (C := RX6) (T := TX6) (N := 3) (v := .int (nI b9)) hx hb hts in_X6 hown hK hH hma rfl 2 (by decide) (hG.nf hPB q649) (fun _ z => z) rfl dX1_member_21 ?_
      refine lv_aload_n hx hb dX1_member_24 rfl (lv_at hl 0 rfl) ?_
      refine hp_get (C := RX5) (T := TX5) (N := 6) (v := .int (nI k8)) hx hb hts in_X5 hown hK hH (hR.g (show k8 < Y.1.length by omega)) rfl 1 (by decide) (hts _ q561) (u_same (hts _ q555)) rfl dX1_member_25 ?_
      refine lv_ishr hx hb dX1_member_28 ?_
      refine lv_top (y := nI (b9 / 2 ^ k8)) (bi_shr (by first | omega | (refine Nat.lt_of_lt_of_le (Nat.mod_lt _ ?_) ?_ <;> omega)) (by first | omega | (refine Nat.lt_of_lt_of_le (Nat.mod_lt _ ?_) ?_ <;> omega))) ?_
      refine lv_iconst (v := nI 1) hx hb dX1_member_29 (by decide) ?_
      refine lv_iand hx hb dX1_member_30 ?_
      refine lv_top (y := zI (Nat.testBit b9 k8)) ((bi_and _ _).trans (bi_z _ _)) ?_
      refine lv_iconst (v := nI 1) hx hb dX1_member_31 (by decide) ?_
      refine lvB_ne1 (tgt := 40) hx hb dX1_member_32 (by decide) (fun c2 => ?_) (fun c2 => ?_)
      · refine lv_aload_n hx hb dX1_member_40 rfl (lv_at hl 2 rfl) ?_
        refine lv_dup hx hb dX1_member_41 rfl ?_
        refine hp_getN (C := RX6) (T := TX6) (N := 3) (v := .int (nI b9)) hx hb hts in_X6 hown hK hH hma rfl 2 (by decide) (hG.nf hPB q649) (fun _ z => z) rfl dX1_member_42 ?_
        refine lv_iconst (v := nI 1) hx hb dX1_member_45 (by decide) ?_
        refine lv_aload_n hx hb dX1_member_46 rfl (lv_at hl 0 rfl) ?_
        refine hp_get (C := RX5) (T := TX5) (N := 6) (v := .int (nI k8)) hx hb hts in_X5 hown hK hH (hR.g (show k8 < Y.1.length by omega)) rfl 1 (by decide) (hts _ q561) (u_same (hts _ q555)) rfl dX1_member_47 ?_
        refine lv_ishl hx hb dX1_member_50 ?_
        refine lv_top (y := nI (2 ^ k8)) (bi_shl1 (by first | omega | (refine Nat.lt_of_lt_of_le (Nat.mod_lt _ ?_) ?_ <;> omega))) ?_
        refine lv_ior hx hb dX1_member_51 ?_
        refine lv_top (y := nI (b9 ||| (2 ^ k8))) (bi_or _ _) ?_
        refine hp_putN (C := RX6) (T := TX6) (N := 3) (v := .int (nI (b9 ||| (2 ^ k8)))) (ty := .int) hx hb hts in_X6 tyX6 tyX6_ok nmX6 hown hK hH hS hma rfl 2 (by decide) (hG.nf hPB q649) (fun _ z => z) rfl (by decide +kernel) rfl rfl (Nat.le_of_ble_eq_true rfl) dX1_member_52 (fun H locs _ hH hS => ?_)
        have hH : HP D CL (zA s0) (hset h ma (.inr (5, [.ref nq, .int (nI mn9), .int (nI (b9 ||| (2 ^ k8)))])) (tb + 2 + Y.2.1.length)) H := hH
        have e12 : (hset h ma (.inr (5, [.ref nq, .int (nI mn9), .int (nI (b9 ||| (2 ^ k8)))])) (tb + 2 + Y.2.1.length)) rd = some (.inr (1, [.ref ta, .int (nI (aSz S)), .int (nI t2), .int (nI t1), .ref lg, .ref lm, .ref lr]), 3) := (hset_ne _ _ _ (ne_ci hrd hma (by decide))).trans hrd
        have e13 : (hset h ma (.inr (5, [.ref nq, .int (nI mn9), .int (nI (b9 ||| (2 ^ k8)))])) (tb + 2 + Y.2.1.length)) ta = some (.inl (K 1, 700, .inl tx), 2) := (hset_ne _ _ _ (ne_ao hta hma)).trans hta
        have e14 : (hset h ma (.inr (5, [.ref nq, .int (nI mn9), .int (nI (b9 ||| (2 ^ k8)))])) (tb + 2 + Y.2.1.length)) ((Ls 0).getD k8 0) = some (.inr (4, [.ref (nm (100 + k8)), .int (nI k8), .int (zI true), .int (zI false), .int (-1), .int (-1)]), tb) := (hset_ne _ _ _ (ne_ci (hR.g (show k8 < Y.1.length by omega)) hma (by decide))).trans (hR.g (show k8 < Y.1.length by omega))
        have e15 : (hset h ma (.inr (5, [.ref nq, .int (nI mn9), .int (nI (b9 ||| (2 ^ k8)))])) (tb + 2 + Y.2.1.length)) ma = some (.inr (5, [.ref nq, .int (nI mn9), .int (nI (b9 ||| (2 ^ k8)))]), (tb + 2 + Y.2.1.length)) := hset_self _ _ _ _
        have hf9 : fr3 (tb + 2 + Y.2.1.length) h (hset h ma (.inr (5, [.ref nq, .int (nI mn9), .int (nI (b9 ||| (2 ^ k8)))])) (tb + 2 + Y.2.1.length)) := fun b e u q _ n => set_fr hma b e u q n
        have hR2 := hR.kT htb ht0 (T := tb + 2 + Y.2.1.length) ⟨Nat.le_refl _, Or.inl (by omega)⟩ hf9 (ob_o hma) e12
        refine lv_aload_n hx hb dX1_member_55 rfl (lv_at hl 1 rfl) ?_
        refine hp_callVT (As := []) (rest := []) hx hb hml hown hts hPB hK hH hS (mc_next hK0 hG hTX e13 htx hsz e12 (by omega)) e12 rfl rfl 0 (lw_V q284 q286 qs1 q103 q287) (by decide +kernel) ⟨rfl, rfl⟩ (by first | decide | omega | (simp only [rmk]; omega)) rfl hl.1 rfl (Nat.le_of_ble_eq_true rfl) (by first | decide | omega | (simp only [rmk]; omega)) hlocks (hout _) (by first | decide | omega | (simp only [rmk]; omega)) dX1_member_56 (fun a9 h9 ht9 => ⟨_, pasE_b ((mb_1 (gst_some c1 hf0)).trans (by rw [c2]; rfl)) ht9.1, hR2.thr ht9.2⟩) (fun v16 h18 H locs hp17 _ hH hS => ?_)
        obtain ⟨rfl, hbd, hq⟩ := hp17
        rw [hq] at hH
        refine w_mono mq_t ?_
        exact hp_vret hx hb hr hlocks hH hS (by first | decide | omega | (simp only [rmk]; omega)) (by first | decide | omega | (simp only [rmk]; omega)) dX1_member_59 (⟨rfl, k8, gst_some c1 hf0, pasE_ok ((mb_1 (gst_some c1 hf0)).trans (by rw [c2]; rfl)) hbd, set_fr hR2.cR _ _ _ e15 (by omega), hR2.nx htb, fun b e u q n1 n2 => set_fr hR2.cR _ _ _ (hf9 _ _ _ q n1 n2) n1, (ob_o hma).tr (ob_o hR2.cR)⟩)
      · refine lv_aload_n hx hb dX1_member_35 rfl (lv_at hl 1 rfl) ?_
        refine hp_callV (As := []) (rest := []) hx hb hml hown hts hPB hK hH hS (mc_wrong hK0 hG hTX hrd (tf := 30)) hrd rfl rfl 0 (lw_V q294 q296 qs2 q103 q297) (by decide +kernel) ⟨rfl, rfl⟩ (by first | decide | omega | (simp only [rmk]; omega)) rfl hl.1 rfl (Nat.le_of_ble_eq_true rfl) (by first | decide | omega | (simp only [rmk]; omega)) dX1_member_36 (fun v20 h22 H locs hp21 _ hH hS => ?_)
        obtain ⟨q19, rfl, hnq19, hqq19⟩ := hp21
        rw [hqq19] at hH
        exact hp_throw hx hb hlocks (hout _) hH hS (by first | decide | omega | (simp only [rmk]; omega)) (by first | decide | omega | (simp only [rmk]; omega)) dX1_member_39 (⟨_, pasE_f ((mb_1 (gst_some c1 hf0)).trans (by rw [c2]; rfl)), hR.wr hnq19⟩)
    · have hq := hp10.2; rw [hq] at hH
      refine lv_goto (tgt := 15) hx hb dX1_member_11 (by decide) ?_
      refine lv_astore_nN (lv' := [(2, .null), (0, .ref rd), (1, .ref ma)]) hx hb dX1_member_15 rfl hl (by decide) rfl (fun ls hl => ?_)
      refine lv_aload_nN hx hb dX1_member_16 rfl (lv_at hl 0 rfl) ?_
      refine lv_ifnullN (tgt := 35) hx hb dX1_member_17 (by decide) ?_
      refine lv_aload_n hx hb dX1_member_35 rfl (lv_at hl 1 rfl) ?_
      refine hp_callV (As := []) (rest := []) hx hb hml hown hts hPB hK hH hS (mc_wrong hK0 hG hTX hrd (tf := 30)) hrd rfl rfl 0 (lw_V q294 q296 qs2 q103 q297) (by decide +kernel) ⟨rfl, rfl⟩ (by first | decide | omega | (simp only [rmk]; omega)) rfl hl.1 rfl (Nat.le_of_ble_eq_true rfl) (by first | decide | omega | (simp only [rmk]; omega)) dX1_member_36 (fun v24 h26 H locs hp25 _ hH hS => ?_)
      obtain ⟨q23, rfl, hnq23, hqq23⟩ := hp25
      rw [hqq23] at hH
      exact hp_throw hx hb hlocks (hout _) hH hS (by first | decide | omega | (simp only [rmk]; omega)) (by first | decide | omega | (simp only [rmk]; omega)) dX1_member_39 (⟨_, pasE_f (mb_0 (gst_some c1 hf0)), hR.wr hnq23⟩)
end MODEL
