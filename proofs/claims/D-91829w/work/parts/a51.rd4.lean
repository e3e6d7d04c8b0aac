/-! by gen/mspec.py -/
set_option maxRecDepth 100000
section MODEL
variable {l : Launch} {s0 : State} {D : va_G} {K : Nat → ClassId} {wd : Nat → Nat} {o : Nat} {h : Hp} {I : Nat → Int32} {V : Nat → Nat → Int32} {J : Nat → Nat → Int64}
set_option maxHeartbeats 4000000 in
theorem mc_guestHere (hK0 : va_K D CL (TYS K) s0) {av : Nat → Nat} {ed mi : Nat} (hG : GX s0 wd av ed mi) {us ss : Value} (hTX : TX s0 us ss) (hWS : vk_R "FirstIn$Reader" 58 WSTR (wd 9) s0) {S : Ab} (hO : SOK S) (hO2 : SO2 S) {h0 : Hp} {tb rd ta lg lm lr : Nat} {tx : Nat → Int32} (htx : ∀ k, k < aSz S → tx k = aTx S k) (htb : 30 ≤ tb) {Y : Dr} (hDY : drOK Y) {nm : Nat → Nat} {Ls : Nat → List Nat} {Jn : Nat → Nat} {t1 t2 : Nat} (hR : RS K ed S h0 tb rd ta lg lm lr tx Y (t1, t2) nm Ls Jn h) (hok : tkOK S (t1, t2)) : Met l yX1_guestHere (ws_ yX1_guestHere cX1_guestHere 2 ((Option.some (Jvm.ClassFile.FieldType.object "FirstIn$Guest")))) (rmk 5 0 0) (va_Pc [.ref rd] (PB s0 D CL (h))) (QR s0 D CL (fun v h1 => ((∃ k, k < Y.1.length ∧ fnd (Y.1) (tokL S (t1, t2)) = some k ∧ v = some (.ref ((Ls 0).getD k 0))) ∨ (fnd (Y.1) (tokL S (t1, t2)) = none ∧ v = some .null)) ∧ h1 = h)) 0 0 (zA s0) := by
  refine hp_met (by decide) (Nat.le_of_ble_eq_true rfl) hK0 ?_
  intro p e s m below meth cd ls hx hb hr hlocks hml hown hnm hts hK hPB hl hS hH hA
  have hl : lv_has ls 2 [(0, .ref rd)] := hl
  have hown : s.vm.findClass RX1 = some m.cls := hown
  have hk1 : t1 ≤ t2 ∧ t2 ≤ aSz S := hok.1
  have hsz := hO.sz
  have hta := hR.cT
  have hrd := hR.cR
  have hyl := hDY.1
  refine lv_iconst (v := nI 0) hx hb dX1_guestHere_0 (by decide) ?_
  refine lv_istore_n (lv' := [(1, .int (nI 0)), (0, .ref rd)]) hx hb dX1_guestHere_1 rfl hl (by decide) rfl (fun ls hl => ?_)
  refine w_loop1 (fun (k : Nat) => Y.1.length - k) (fun (k : Nat) H locs ls => (k ≤ Y.1.length) ∧ (∀ u, u < k → Y.1.getD u [] ≠ tokL S (t1, t2)) ∧ HP D CL (zA s0) h H ∧ va_S (zA s0) s.heap H locs ∧ lv_has ls 2 [(0, .ref rd), (1, .int (nI k))]) ?_ 0 ⟨Nat.zero_le _, fun u hu => absurd hu (Nat.not_lt_zero _), hH, hS, lv_sub hl [1, 0] rfl⟩
  intro k ih2 H locs ls hP
  obtain ⟨hk, hno, hH, hS, hl⟩ := hP
  refine lv_iload_n hx hb dX1_guestHere_2 rfl (lv_at hl 1 rfl) ?_
  refine lv_aload_n hx hb dX1_guestHere_3 rfl (lv_at hl 0 rfl) ?_
  refine hp_get (C := RX1) (T := TX1) (N := 7) (v := .ref lg) hx hb hts in_X1 hown hK hH hrd rfl 4 (by decide) (hts _ q189) (fun _ z => z) rfl dX1_guestHere_4 ?_
  refine hp_siz hx hb hml hown hts hPB hK0 hK hH hS hG hR.aG hR.ng q486 (by first | decide | (simp only [rmk]; omega)) hl.1 rfl (Nat.le_of_ble_eq_true rfl) (by first | decide | omega | (simp only [rmk]; omega)) dX1_guestHere_7 (fun H locs hH hS => ?_)
  refine lvN_ge (tgt := 60) hx hb (by first | omega | (refine Nat.lt_of_lt_of_le (Nat.mod_lt _ ?_) ?_ <;> omega)) (by first | omega | (refine Nat.lt_of_lt_of_le (Nat.mod_lt _ ?_) ?_ <;> omega)) dX1_guestHere_10 (by decide) (fun ck => ?_) (fun ck => ?_)
  · refine lv_null hx hb dX1_guestHere_60 ?_
    exact hp_aret hx hb hr (Or.inl ⟨_, rfl⟩) (Or.inl rfl) hlocks hH hS (by first | decide | omega | (simp only [rmk]; omega)) (by first | decide | omega | (simp only [rmk]; omega)) dX1_guestHere_61 (⟨Or.inr ⟨fnd_no (fun u hu => hno u (by omega)), rfl⟩, rfl⟩)
  · refine lv_aload_n hx hb dX1_guestHere_13 rfl (lv_at hl 0 rfl) ?_
    refine hp_get (C := RX1) (T := TX1) (N := 7) (v := .ref lg) hx hb hts in_X1 hown hK hH hrd rfl 4 (by decide) (hts _ q189) (fun _ z => z) rfl dX1_guestHere_14 ?_
    refine lv_iload_n hx hb dX1_guestHere_17 rfl (lv_at hl 1 rfl) ?_
    refine hp_lget hx hb hml hown hts hPB hK0 hK hH hS hG hR.aG (k9 := k) (by rw [hR.ng]; omega) q505 (by first | decide | (simp only [rmk]; omega)) hl.1 rfl (Nat.le_of_ble_eq_true rfl) (by first | decide | omega | (simp only [rmk]; omega)) dX1_guestHere_18 (fun H locs hH hS => ?_)
    refine va_castE hx hb hown (hts _ q491) (hp_rec hK hH (hR.g (show k < Y.1.length by omega)) rfl) dX1_guestHere_21 ?_
    obtain ⟨fn9, hnf9, hfe9⟩ := hR.gn (show k < Y.1.length by omega)
    have hnl9 := (hDY.2.1 _ (memL (d := []) (show k < Y.1.length by omega))).1.2
    refine lv_aload_n hx hb dX1_guestHere_24 rfl (lv_at hl 0 rfl) ?_
    refine hp_get (C := RX1) (T := TX1) (N := 7) (v := .ref ta) hx hb hts in_X1 hown hK hH hrd rfl 0 (by decide) (hts _ q185) (fun _ z => z) rfl dX1_guestHere_25 ?_
    refine lv_aload_n hx hb dX1_guestHere_28 rfl (lv_at hl 0 rfl) ?_
    refine hp_get (C := RX1) (T := TX1) (N := 7) (v := .int (nI t1)) hx hb hts in_X1 hown hK hH hrd rfl 3 (by decide) (hts _ q188) (fun _ z => z) rfl dX1_guestHere_29 ?_
    refine lv_aload_n hx hb dX1_guestHere_32 rfl (lv_at hl 0 rfl) ?_
    refine hp_get (C := RX1) (T := TX1) (N := 7) (v := .int (nI t2)) hx hb hts in_X1 hown hK hH hrd rfl 2 (by decide) (hts _ q187) (fun _ z => z) rfl dX1_guestHere_33 ?_
    refine hp_callU (As := [.ref ta, .int (nI t1), .int (nI t2)]) (rest := []) (owner := "FirstIn$Side") (x := ⟨"FirstIn$Guest", "isNamed", "([BII)Z"⟩) hx hb hml hown hts hPB hK hH hS (mc_nam_X5 hK0 hta hnf9 (f9 := t1) (e9 := t2) (by omega) (hnl9) (hR.g (show k < Y.1.length by omega))) (hR.g (show k < Y.1.length by omega)) rfl rfl 3 (va_cwU 3 hts (lw_U q517 q518 q520 q521 q118 q522) rfl rfl rfl rfl (by decide +kernel) (by first | decide | omega | (simp only [rmk]; omega))) rfl hl.1 rfl (Nat.le_of_ble_eq_true rfl) (by first | decide | omega | (simp only [rmk]; omega)) dX1_guestHere_36 (fun v1 h3 H locs hp2 _ hH hS => ?_)
    obtain ⟨rfl, hq⟩ := hp2
    rw [hq] at hH
    refine lv_top (y := zI (decide (Y.1.getD k [] = tokL S (t1, t2)))) (congrArg zI (nam_eq htx (by omega) hfe9)) ?_
    refine lvB_eq (tgt := 54) hx hb dX1_guestHere_39 (by decide) (fun c1 => ?_) (fun c1 => ?_)
    · refine lv_iinc (v := nI (k + 1)) (lv' := [(1, .int (nI (k + 1))), (0, .ref rd)]) hx hb dX1_guestHere_54 hl (k := 1) rfl (nI_add k 1) (by decide) rfl (fun ls hl => ?_)
      refine lv_goto (tgt := 2) hx hb dX1_guestHere_57 (by decide) ?_
      exact ih2 (k + 1) (by omega) H locs ls ⟨by omega, fun u hu => by by_cases e : u = k; (rw [e]; exact of_decide_eq_false c1); exact hno u (by omega), hH, hS, lv_sub hl [1, 0] rfl⟩
    · refine lv_aload_n hx hb dX1_guestHere_42 rfl (lv_at hl 0 rfl) ?_
      refine hp_get (C := RX1) (T := TX1) (N := 7) (v := .ref lg) hx hb hts in_X1 hown hK hH hrd rfl 4 (by decide) (hts _ q189) (fun _ z => z) rfl dX1_guestHere_43 ?_
      refine lv_iload_n hx hb dX1_guestHere_46 rfl (lv_at hl 1 rfl) ?_
      refine hp_lget hx hb hml hown hts hPB hK0 hK hH hS hG hR.aG (k9 := k) (by rw [hR.ng]; omega) q505 (by first | decide | (simp only [rmk]; omega)) hl.1 rfl (Nat.le_of_ble_eq_true rfl) (by first | decide | omega | (simp only [rmk]; omega)) dX1_guestHere_47 (fun H locs hH hS => ?_)
      refine va_castE hx hb hown (hts _ q491) (hp_rec hK hH (hR.g (show k < Y.1.length by omega)) rfl) dX1_guestHere_50 ?_
      exact hp_aret hx hb hr (Or.inl ⟨_, rfl⟩) (Or.inr ⟨_, rfl⟩) hlocks hH hS (by first | decide | omega | (simp only [rmk]; omega)) (by first | decide | omega | (simp only [rmk]; omega)) dX1_guestHere_53 (⟨Or.inl ⟨k, by omega, fnd_is (by omega) (of_decide_eq_true c1) hno, rfl⟩, rfl⟩)
set_option maxHeartbeats 4000000 in
theorem mc_markHere (hK0 : va_K D CL (TYS K) s0) {av : Nat → Nat} {ed mi : Nat} (hG : GX s0 wd av ed mi) {us ss : Value} (hTX : TX s0 us ss) (hWS : vk_R "FirstIn$Reader" 58 WSTR (wd 9) s0) {S : Ab} (hO : SOK S) (hO2 : SO2 S) {h0 : Hp} {tb rd ta lg lm lr : Nat} {tx : Nat → Int32} (htx : ∀ k, k < aSz S → tx k = aTx S k) (htb : 30 ≤ tb) {Y : Dr} (hDY : drOK Y) {nm : Nat → Nat} {Ls : Nat → List Nat} {Jn : Nat → Nat} {t1 t2 : Nat} (hR : RS K ed S h0 tb rd ta lg lm lr tx Y (t1, t2) nm Ls Jn h) (hok : tkOK S (t1, t2)) : Met l yX1_markHere (ws_ yX1_markHere cX1_markHere 2 ((Option.some (Jvm.ClassFile.FieldType.object "FirstIn$Mark")))) (rmk 5 0 0) (va_Pc [.ref rd] (PB s0 D CL (h))) (QR s0 D CL (fun v h1 => ((∃ k, k < Y.2.1.length ∧ fnd (mkN Y) (tokL S (t1, t2)) = some k ∧ v = some (.ref ((Ls 1).getD k 0))) ∨ (fnd (mkN Y) (tokL S (t1, t2)) = none ∧ v = some .null)) ∧ h1 = h)) 0 0 (zA s0) := by
  refine hp_met (by decide) (Nat.le_of_ble_eq_true rfl) hK0 ?_
  intro p e s m below meth cd ls hx hb hr hlocks hml hown hnm hts hK hPB hl hS hH hA
  have hl : lv_has ls 2 [(0, .ref rd)] := hl
  have hown : s.vm.findClass RX1 = some m.cls := hown
  have hk1 : t1 ≤ t2 ∧ t2 ≤ aSz S := hok.1
  have hsz := hO.sz
  have hta := hR.cT
  have hrd := hR.cR
  have hyl := hDY.1
  have hml9 := mkN_len Y
  refine lv_iconst (v := nI 0) hx hb dX1_markHere_0 (by decide) ?_
  refine lv_istore_n (lv' := [(1, .int (nI 0)), (0, .ref rd)]) hx hb dX1_markHere_1 rfl hl (by decide) rfl (fun ls hl => ?_)
  refine w_loop1 (fun (k : Nat) => Y.2.1.length - k) (fun (k : Nat) H locs ls => (k ≤ Y.2.1.length) ∧ (∀ u, u < k → (mkN Y).getD u [] ≠ tokL S (t1, t2)) ∧ HP D CL (zA s0) h H ∧ va_S (zA s0) s.heap H locs ∧ lv_has ls 2 [(0, .ref rd), (1, .int (nI k))]) ?_ 0 ⟨Nat.zero_le _, fun u hu => absurd hu (Nat.not_lt_zero _), hH, hS, lv_sub hl [1, 0] rfl⟩
  intro k ih2 H locs ls hP
  obtain ⟨hk, hno, hH, hS, hl⟩ := hP
  refine lv_iload_n hx hb dX1_markHere_2 rfl (lv_at hl 1 rfl) ?_
  refine lv_aload_n hx hb dX1_markHere_3 rfl (lv_at hl 0 rfl) ?_
  refine hp_get (C := RX1) (T := TX1) (N := 7) (v := .ref lm) hx hb hts in_X1 hown hK hH hrd rfl 5 (by decide) (hts _ q191) (fun _ z => z) rfl dX1_markHere_4 ?_
  refine hp_siz hx hb hml hown hts hPB hK0 hK hH hS hG hR.aM hR.nm' q486 (by first | decide | (simp only [rmk]; omega)) hl.1 rfl (Nat.le_of_ble_eq_true rfl) (by first | decide | omega | (simp only [rmk]; omega)) dX1_markHere_7 (fun H locs hH hS => ?_)
  refine lvN_ge (tgt := 60) hx hb (by first | omega | (refine Nat.lt_of_lt_of_le (Nat.mod_lt _ ?_) ?_ <;> omega)) (by first | omega | (refine Nat.lt_of_lt_of_le (Nat.mod_lt _ ?_) ?_ <;> omega)) dX1_markHere_10 (by decide) (fun ck => ?_) (fun ck => ?_)
  · refine lv_null hx hb dX1_markHere_60 ?_
    exact hp_aret hx hb hr (Or.inl ⟨_, rfl⟩) (Or.inl rfl) hlocks hH hS (by first | decide | omega | (simp only [rmk]; omega)) (by first | decide | omega | (simp only [rmk]; omega)) dX1_markHere_61 (⟨Or.inr ⟨fnd_no (fun u hu => hno u (by omega)), rfl⟩, rfl⟩)
  · refine lv_aload_n hx hb dX1_markHere_13 rfl (lv_at hl 0 rfl) ?_
    refine hp_get (C := RX1) (T := TX1) (N := 7) (v := .ref lm) hx hb hts in_X1 hown hK hH hrd rfl 5 (by decide) (hts _ q191) (fun _ z => z) rfl dX1_markHere_14 ?_
    refine lv_iload_n hx hb dX1_markHere_17 rfl (lv_at hl 1 rfl) ?_
    refine hp_lget hx hb hml hown hts hPB hK0 hK hH hS hG hR.aM (k9 := k) (by rw [hR.nm']; omega) q505 (by first | decide | (simp only [rmk]; omega)) hl.1 rfl (Nat.le_of_ble_eq_true rfl) (by first | decide | omega | (simp only [rmk]; omega)) dX1_markHere_18 (fun H locs hH hS => ?_)
    refine va_castE hx hb hown (hts _ q527) (hp_rec hK hH (hR.m (show k < Y.2.1.length by omega)) rfl) dX1_markHere_21 ?_
    obtain ⟨fn9, hnf9, hfe9⟩ := hR.mn (show k < Y.2.1.length by omega)
    have hnl9 := (hDY.2.2.1 _ (memL (d := ([], 0)) (show k < Y.2.1.length by omega))).1.1.2
    refine lv_aload_n hx hb dX1_markHere_24 rfl (lv_at hl 0 rfl) ?_
    refine hp_get (C := RX1) (T := TX1) (N := 7) (v := .ref ta) hx hb hts in_X1 hown hK hH hrd rfl 0 (by decide) (hts _ q185) (fun _ z => z) rfl dX1_markHere_25 ?_
    refine lv_aload_n hx hb dX1_markHere_28 rfl (lv_at hl 0 rfl) ?_
    refine hp_get (C := RX1) (T := TX1) (N := 7) (v := .int (nI t1)) hx hb hts in_X1 hown hK hH hrd rfl 3 (by decide) (hts _ q188) (fun _ z => z) rfl dX1_markHere_29 ?_
    refine lv_aload_n hx hb dX1_markHere_32 rfl (lv_at hl 0 rfl) ?_
    refine hp_get (C := RX1) (T := TX1) (N := 7) (v := .int (nI t2)) hx hb hts in_X1 hown hK hH hrd rfl 2 (by decide) (hts _ q187) (fun _ z => z) rfl dX1_markHere_33 ?_
    refine hp_callU (As := [.ref ta, .int (nI t1), .int (nI t2)]) (rest := []) (owner := "FirstIn$Side") (x := ⟨"FirstIn$Mark", "isNamed", "([BII)Z"⟩) hx hb hml hown hts hPB hK hH hS (mc_nam_X6 hK0 hta hnf9 (f9 := t1) (e9 := t2) (by omega) (hnl9) (hR.m (show k < Y.2.1.length by omega))) (hR.m (show k < Y.2.1.length by omega)) rfl rfl 3 (va_cwU 3 hts (lw_U q528 q529 q530 q521 q118 q522) rfl rfl rfl rfl (by decide +kernel) (by first | decide | omega | (simp only [rmk]; omega))) rfl hl.1 rfl (Nat.le_of_ble_eq_true rfl) (by first | decide | omega | (simp only [rmk]; omega)) dX1_markHere_36 (fun v1 h3 H locs hp2 _ hH hS => ?_)
    obtain ⟨rfl, hq⟩ := hp2
    rw [hq] at hH
    refine lv_top (y := zI (decide ((Y.2.1.getD k ([], 0)).1 = tokL S (t1, t2)))) (congrArg zI (nam_eq htx (by omega) hfe9)) ?_
    refine lvB_eq (tgt := 54) hx hb dX1_markHere_39 (by decide) (fun c1 => ?_) (fun c1 => ?_)
    · refine lv_iinc (v := nI (k + 1)) (lv' := [(1, .int (nI (k + 1))), (0, .ref rd)]) hx hb dX1_markHere_54 hl (k := 1) rfl (nI_add k 1) (by decide) rfl (fun ls hl => ?_)
      refine lv_goto (tgt := 2) hx hb dX1_markHere_57 (by decide) ?_
      exact ih2 (k + 1) (by omega) H locs ls ⟨by omega, fun u hu => by by_cases e : u = k; (rw [e, mkN_get]; exact of_decide_eq_false c1); exact hno u (by omega), hH, hS, lv_sub hl [1, 0] rfl⟩
    · refine lv_aload_n hx hb dX1_markHere_42 rfl (lv_at hl 0 rfl) ?_
      refine hp_get (C := RX1) (T := TX1) (N := 7) (v := .ref lm) hx hb hts in_X1 hown hK hH hrd rfl 5 (by decide) (hts _ q191) (fun _ z => z) rfl dX1_markHere_43 ?_
      refine lv_iload_n hx hb dX1_markHere_46 rfl (lv_at hl 1 rfl) ?_
      refine hp_lget hx hb hml hown hts hPB hK0 hK hH hS hG hR.aM (k9 := k) (by rw [hR.nm']; omega) q505 (by first | decide | (simp only [rmk]; omega)) hl.1 rfl (Nat.le_of_ble_eq_true rfl) (by first | decide | omega | (simp only [rmk]; omega)) dX1_markHere_47 (fun H locs hH hS => ?_)
      refine va_castE hx hb hown (hts _ q527) (hp_rec hK hH (hR.m (show k < Y.2.1.length by omega)) rfl) dX1_markHere_50 ?_
      exact hp_aret hx hb hr (Or.inl ⟨_, rfl⟩) (Or.inr ⟨_, rfl⟩) hlocks hH hS (by first | decide | omega | (simp only [rmk]; omega)) (by first | decide | omega | (simp only [rmk]; omega)) dX1_markHere_53 (⟨Or.inl ⟨k, by omega, fnd_is (by omega) ((mkN_get Y k).trans (of_decide_eq_true c1)) hno, rfl⟩, rfl⟩)
end MODEL
