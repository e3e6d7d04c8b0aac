/-! by gen/mspec.py -/
set_option maxRecDepth 100000
section MODEL
variable {l : Launch} {s0 : State} {D : va_G} {K : Nat → ClassId} {wd : Nat → Nat} {o : Nat} {h : Hp} {I : Nat → Int32} {V : Nat → Nat → Int32} {J : Nat → Nat → Int64}
set_option maxHeartbeats 4000000 in
theorem mc_canBeAsked (hK0 : va_K D CL (TYS K) s0) {av : Nat → Nat} {ed mi : Nat} (hG : GX s0 wd av ed mi) {S : Ab} {w : Nat → Nat} {Ls : Nat → List Nat} {Jn : Nat → Nat} {Z : Nat → Nat → Int32} (hO : SOK S) (hO2 : SO2 S) (hW : CW K ed S h w Ls Jn Z) (room : Int32) : Met l yX0_canBeAsked (ws_ yX0_canBeAsked cX0_canBeAsked 4 ((Option.some Jvm.ClassFile.FieldType.boolean))) (rmk 8 3 28) (va_Pc [.ref (w 0), .int room] (PB s0 D CL (h))) (QR s0 D CL (fun v h1 => v = some (.int (zI (askB S room))) ∧ h1 = h)) 3 28 (zA s0) := by
  refine hp_met (by decide) (Nat.le_of_ble_eq_true rfl) hK0 ?_
  intro p e s m below meth cd ls hx hb hr hlocks hml hown hnm hts hK hPB hl hS hH hA
  have hl : lv_has ls 4 [(0, .ref (w 0)), (1, .int room)] := hl
  have hown : s.vm.findClass RX0 = some m.cls := hown
  have hn := hO.n
  have hmk := hO.mk
  have hrl := hO.rl
  have hrm := hO.rm
  have hsz := hO.sz
  have hnC : nC S = (comP S (aN S)).length := rfl
  refine lv_aload_n hx hb dX0_canBeAsked_0 rfl (lv_at hl 0 rfl) ?_
  refine lv_iload_n hx hb dX0_canBeAsked_1 rfl (lv_at hl 1 rfl) ?_
  refine hp_callV (As := [.int room]) (rest := []) hx hb hml hown hts hPB hK hH hS (mc_roomAt hK0 hG hO hO2 hW room) hW.x rfl rfl 1 (lw_V q924 q926 qs24 q102 q927) (by decide +kernel) ⟨rfl, rfl⟩ (by first | decide | omega | (simp only [rmk]; omega)) rfl hl.1 rfl (Nat.le_of_ble_eq_true rfl) (by first | decide | omega | (simp only [rmk]; omega)) dX0_canBeAsked_2 (fun v3 h5 H locs hp4 _ hH hS => ?_)
  rcases hp4.1 with ⟨k1, hk1, hgk1, rfl⟩ | ⟨cz2, rfl⟩
  · have hq := hp4.2; rw [hq] at hH
    subst hgk1
    have hik1 : inN (nI k1) (aRm S) = true := by rw [inN_nI (by omega)]; exact decide_eq_true hk1
    have ek1 := nI_clamp (show k1 < 2 ^ 31 by omega)
    have hp6 := hO.rp (show k1 < aRm S by omega)
    refine lv_astore_n (lv' := [(2, .ref ((Ls 3).getD k1 0)), (0, .ref (w 0)), (1, .int (nI k1))]) hx hb dX0_canBeAsked_5 rfl hl (by decide) rfl (fun ls hl => ?_)
    refine lv_aload_n hx hb dX0_canBeAsked_6 rfl (lv_at hl 1 rfl) ?_
    refine hp_callV (As := []) (rest := []) hx hb hml hown hts hPB hK hH hS (mc_coming hK0 hG hO hO2 hW) hW.x rfl rfl 0 (lw_V q1141 q1143 qs37 q102 q1144) (by decide +kernel) ⟨rfl, rfl⟩ (by first | decide | omega | (simp only [rmk]; omega)) rfl hl.1 rfl (Nat.le_of_ble_eq_true rfl) (by first | decide | omega | (simp only [rmk]; omega)) dX0_canBeAsked_7 (fun v8 h10 H locs hp9 _ hH hS => ?_)
    obtain ⟨lc7, jlc7, tlc7, rfl, hAlc7, hxlc7, hnlc7, htlc7⟩ := hp9
    have hW := hW.X hxlc7
    have hnc := nC_le S
    refine hp_siz hx hb hml hown hts hPB hK0 hK hH hS hG hAlc7 comA_n q807 (by first | decide | (simp only [rmk]; omega)) hl.1 rfl (Nat.le_of_ble_eq_true rfl) (by first | decide | omega | (simp only [rmk]; omega)) dX0_canBeAsked_10 (fun H locs hH hS => ?_)
    refine lv_istore_n (lv' := [(3, .int (nI (nC S))), (2, .ref ((Ls 3).getD k1 0)), (0, .ref (w 0)), (1, .int (nI k1))]) hx hb dX0_canBeAsked_13 rfl hl (by decide) rfl (fun ls hl => ?_)
    refine lv_aload_n hx hb dX0_canBeAsked_14 rfl (lv_at hl 1 rfl) ?_
    refine lv_ifnull hx hb dX0_canBeAsked_15 ?_
    refine lv_iload_n hx hb dX0_canBeAsked_18 rfl (lv_at hl 0 rfl) ?_
    refine lv_bipush (v := nI 7) hx hb dX0_canBeAsked_19 (by decide) ?_
    refine lvN_gt (tgt := 45) hx hb (by first | omega | (refine Nat.lt_of_lt_of_le (Nat.mod_lt _ ?_) ?_ <;> omega)) (by first | omega | (refine Nat.lt_of_lt_of_le (Nat.mod_lt _ ?_) ?_ <;> omega)) dX0_canBeAsked_21 (by decide) (fun c11 => ?_) (fun c11 => ?_)
    · refine lv_iconst (v := nI 0) hx hb dX0_canBeAsked_45 (by decide) ?_
      have hH := hH.X hxlc7
      exact hp_zret hx hb hr rfl hlocks hH hS (by first | decide | omega | (simp only [rmk]; omega)) (by first | decide | omega | (simp only [rmk]; omega)) dX0_canBeAsked_46 (⟨congrArg some (congrArg Value.int (zI_0 (by unfold askB; rw [hik1, ek1]; simp only [Bool.true_and, Bool.and_eq_false_iff, decide_eq_false_iff_not]; omega))), rfl⟩)
    · refine lv_aload_n hx hb dX0_canBeAsked_24 rfl (lv_at hl 1 rfl) ?_
      refine hp_gQ hx hb hts hown hK hH (hW.q (show k1 < aRm S by omega)) (hO.rk (show k1 < aRm S by omega)) (hts _ q835) dX0_canBeAsked_25 ?_
      refine lv_bipush (v := nI 8) hx hb dX0_canBeAsked_28 (by decide) ?_
      refine lvN_gt (tgt := 45) hx hb (by first | omega | (refine Nat.lt_of_lt_of_le (Nat.mod_lt _ ?_) ?_ <;> omega)) (by first | omega | (refine Nat.lt_of_lt_of_le (Nat.mod_lt _ ?_) ?_ <;> omega)) dX0_canBeAsked_30 (by decide) (fun c12 => ?_) (fun c12 => ?_)
      · refine lv_iconst (v := nI 0) hx hb dX0_canBeAsked_45 (by decide) ?_
        have hH := hH.X hxlc7
        exact hp_zret hx hb hr rfl hlocks hH hS (by first | decide | omega | (simp only [rmk]; omega)) (by first | decide | omega | (simp only [rmk]; omega)) dX0_canBeAsked_46 (⟨congrArg some (congrArg Value.int (zI_0 (by unfold askB; rw [hik1, ek1]; simp only [Bool.true_and, Bool.and_eq_false_iff, decide_eq_false_iff_not]; omega))), rfl⟩)
      · refine lv_iload_n hx hb dX0_canBeAsked_33 rfl (lv_at hl 0 rfl) ?_
        refine lv_aload_n hx hb dX0_canBeAsked_34 rfl (lv_at hl 1 rfl) ?_
        refine hp_gQ hx hb hts hown hK hH (hW.q (show k1 < aRm S by omega)) (hO.rk (show k1 < aRm S by omega)) (hts _ q835) dX0_canBeAsked_35 ?_
        refine lvN_gt (tgt := 45) hx hb (by first | omega | (refine Nat.lt_of_lt_of_le (Nat.mod_lt _ ?_) ?_ <;> omega)) (by first | omega | (refine Nat.lt_of_lt_of_le (Nat.mod_lt _ ?_) ?_ <;> omega)) dX0_canBeAsked_38 (by decide) (fun c13 => ?_) (fun c13 => ?_)
        · refine lv_iconst (v := nI 0) hx hb dX0_canBeAsked_45 (by decide) ?_
          have hH := hH.X hxlc7
          exact hp_zret hx hb hr rfl hlocks hH hS (by first | decide | omega | (simp only [rmk]; omega)) (by first | decide | omega | (simp only [rmk]; omega)) dX0_canBeAsked_46 (⟨congrArg some (congrArg Value.int (zI_0 (by unfold askB; rw [hik1, ek1]; simp only [Bool.true_and, Bool.and_eq_false_iff, decide_eq_false_iff_not]; omega))), rfl⟩)
        · refine lv_iconst (v := nI 1) hx hb dX0_canBeAsked_41 (by decide) ?_
          refine lv_goto (tgt := 46) hx hb dX0_canBeAsked_42 (by decide) ?_
          have hH := hH.X hxlc7
          exact hp_zret hx hb hr rfl hlocks hH hS (by first | decide | omega | (simp only [rmk]; omega)) (by first | decide | omega | (simp only [rmk]; omega)) dX0_canBeAsked_46 (⟨congrArg some (congrArg Value.int (zI_1 (by unfold askB; rw [hik1, ek1]; simp only [Bool.true_and, Bool.and_eq_true_iff, decide_eq_true_eq]; omega))), rfl⟩)
  · have hq := hp4.2; rw [hq] at hH
    refine lv_astore_nN (lv' := [(2, .null), (0, .ref (w 0)), (1, .int room)]) hx hb dX0_canBeAsked_5 rfl hl (by decide) rfl (fun ls hl => ?_)
    refine lv_aload_n hx hb dX0_canBeAsked_6 rfl (lv_at hl 1 rfl) ?_
    refine hp_callV (As := []) (rest := []) hx hb hml hown hts hPB hK hH hS (mc_coming hK0 hG hO hO2 hW) hW.x rfl rfl 0 (lw_V q1141 q1143 qs37 q102 q1144) (by decide +kernel) ⟨rfl, rfl⟩ (by first | decide | omega | (simp only [rmk]; omega)) rfl hl.1 rfl (Nat.le_of_ble_eq_true rfl) (by first | decide | omega | (simp only [rmk]; omega)) dX0_canBeAsked_7 (fun v15 h17 H locs hp16 _ hH hS => ?_)
    obtain ⟨lc14, jlc14, tlc14, rfl, hAlc14, hxlc14, hnlc14, htlc14⟩ := hp16
    have hW := hW.X hxlc14
    have hnc := nC_le S
    refine hp_siz hx hb hml hown hts hPB hK0 hK hH hS hG hAlc14 comA_n q807 (by first | decide | (simp only [rmk]; omega)) hl.1 rfl (Nat.le_of_ble_eq_true rfl) (by first | decide | omega | (simp only [rmk]; omega)) dX0_canBeAsked_10 (fun H locs hH hS => ?_)
    refine lv_istore_n (lv' := [(3, .int (nI (nC S))), (2, .null), (0, .ref (w 0)), (1, .int room)]) hx hb dX0_canBeAsked_13 rfl hl (by decide) rfl (fun ls hl => ?_)
    refine lv_aload_nN hx hb dX0_canBeAsked_14 rfl (lv_at hl 1 rfl) ?_
    refine lv_ifnullN (tgt := 45) hx hb dX0_canBeAsked_15 (by decide) ?_
    refine lv_iconst (v := nI 0) hx hb dX0_canBeAsked_45 (by decide) ?_
    have hH := hH.X hxlc14
    exact hp_zret hx hb hr rfl hlocks hH hS (by first | decide | omega | (simp only [rmk]; omega)) (by first | decide | omega | (simp only [rmk]; omega)) dX0_canBeAsked_46 (⟨congrArg some (congrArg Value.int (zI_0 (by unfold askB; rw [cz2]; rfl))), rfl⟩)
set_option maxHeartbeats 4000000 in
theorem mc_findLeast (hK0 : va_K D CL (TYS K) s0) {av : Nat → Nat} {ed mi : Nat} (hG : GX s0 wd av ed mi) {S : Ab} {w : Nat → Nat} {Ls : Nat → List Nat} {Jn : Nat → Nat} {Z : Nat → Nat → Int32} (hO : SOK S) (hO2 : SO2 S) (hW : CW K ed S h w Ls Jn Z) {q : Nat} (hq0 : q < aRm S) (hm7 : (comP S (aN S)).length ≤ 7) (hn8 : aRp S q ≤ 8) : Met l yX0_findLeast (ws_ yX0_findLeast cX0_findLeast 3 ((Option.some (Jvm.ClassFile.FieldType.object "FirstIn$Least")))) (rmk 15 1101 7000) (va_Pc [.ref (w 0), .int (nI q)] (PB s0 D CL (h))) (QR s0 D CL (fun v h1 => ∃ x lb lg aa fa pa tg, v = some (.ref x) ∧ SRL K (comP S (aN S)) h1 x ((Ls 3).getD q 0) lb lg aa fa pa tg 0 ([]) (zL S q) ∧ exH h h1)) 1101 7000 (zA s0) := by
  refine hp_met (by decide) (Nat.le_of_ble_eq_true rfl) hK0 ?_
  intro p e s m below meth cd ls hx hb hr hlocks hml hown hnm hts hK hPB hl hS hH hA
  have hl : lv_has ls 3 [(0, .ref (w 0)), (1, .int (nI q))] := hl
  have hown : s.vm.findClass RX0 = some m.cls := hown
  have hn := hO.n
  have hmk := hO.mk
  have hrl := hO.rl
  have hrm := hO.rm
  have hsz := hO.sz
  obtain ⟨tg, htg, htl⟩ := hH.tagL
  have hnt := tag_no htl
  obtain ⟨xs, hxs, nxs⟩ := hH.fr
  refine hp_new (ci := 16) (C := RX21) (T := TX21) (N := 9) (fs := [.null, .null, .null, .null, .null, .int 0, .int 0, .int 0, .null]) hx hb hts in_X21 tyX21 tyX21_ok hown (hts _ q1202) (hts _ q1203) (hts _ q140) hK hH hS hA rfl (by decide) (by first | decide | omega | (simp only [rmk]; omega)) (by first | decide | omega | (simp only [rmk]; omega)) tg dX0_findLeast_0 (fun H _ hH hS => ?_)
  rw [← hxs] at hH ⊢
  have hH : HP D CL (zA s0) (hset h xs (.inr (16, [.null, .null, .null, .null, .null, .int 0, .int 0, .int 0, .null])) tg) H := hH
  have hW := hW.X (exH.new (e1 := .inr (16, [.null, .null, .null, .null, .null, .int 0, .int 0, .int 0, .null])) (u1 := tg) nxs)
  have e1 : (hset h xs (.inr (16, [.null, .null, .null, .null, .null, .int 0, .int 0, .int 0, .null])) tg) xs = some (.inr (16, [.null, .null, .null, .null, .null, .int 0, .int 0, .int 0, .null]), tg) := hset_self _ _ _ _
  refine lv_dup hx hb dX0_findLeast_3 rfl ?_
  refine lv_aload_n hx hb dX0_findLeast_4 rfl (lv_at hl 0 rfl) ?_
  refine hp_get (C := RX0) (T := TX0) (N := 14) (v := .ref (w 6)) hx hb hts in_X0 hown hK hH hW.x rfl 5 (by decide) (hts _ q217) (fun _ z => z) rfl dX0_findLeast_5 ?_
  refine lv_iload_n hx hb dX0_findLeast_8 rfl (lv_at hl 1 rfl) ?_
  refine hp_lget hx hb hml hown hts hPB hK0 hK hH hS hG (hW.li 3 (by decide)) (k9 := q) (by rw [hW.nq]; omega) q808 (by first | decide | (simp only [rmk]; omega)) hl.1 rfl (Nat.le_of_ble_eq_true rfl) (by first | decide | omega | (simp only [rmk]; omega)) dX0_findLeast_9 (fun H locs hH hS => ?_)
  have hp2 := hO.rp (show q < aRm S by omega)
  refine hp_castQ hx hb hown (hts _ q928) hG hPB hK hH (hW.q (show q < aRm S by omega)) (hO.rk (show q < aRm S by omega)) dX0_findLeast_12 ?_
  refine lv_aload_n hx hb dX0_findLeast_15 rfl (lv_at hl 0 rfl) ?_
  refine lv_iload_n hx hb dX0_findLeast_16 rfl (lv_at hl 1 rfl) ?_
  refine hp_callV (As := [.int (nI q)]) (rest := [.ref ((Ls 3).getD q 0), .ref xs, .ref xs]) hx hb hml hown hts hPB hK hH hS (mc_bonds hK0 hG hO hO2 hW (q := q) (by omega)) hW.x rfl rfl 1 (lw_V q1204 q1206 qs47 q102 q1207) (by decide +kernel) ⟨rfl, rfl⟩ (by first | decide | omega | (simp only [rmk]; omega)) rfl hl.1 rfl (Nat.le_of_ble_eq_true rfl) (by first | decide | omega | (simp only [rmk]; omega)) dX0_findLeast_17 (fun v4 h6 H locs hp5 _ hH hS => ?_)
  obtain ⟨ab3, jb3, tb3, sb3, Lb3, rfl, hAb3, hLb3, hxb3, hgb3, hub3, hvb3⟩ := hp5
  have hW := hW.X hxb3
  have htx := hgb3 _ _ _ e1
  have hsx1 := hxb3 _ _ _ e1
  refine lv_aload_n hx hb dX0_findLeast_20 rfl (lv_at hl 0 rfl) ?_
  refine hp_callV (As := []) (rest := [.ref ab3, .ref ((Ls 3).getD q 0), .ref xs, .ref xs]) hx hb hml hown hts hPB hK hH hS (mc_coming hK0 hG hO hO2 hW) hW.x rfl rfl 0 (lw_V q1141 q1143 qs37 q102 q1144) (by decide +kernel) ⟨rfl, rfl⟩ (by first | decide | omega | (simp only [rmk]; omega)) rfl hl.1 rfl (Nat.le_of_ble_eq_true rfl) (by first | decide | omega | (simp only [rmk]; omega)) dX0_findLeast_21 (fun v8 h10 H locs hp9 _ hH hS => ?_)
  obtain ⟨lc7, jlc7, tlc7, rfl, hAlc7, hxlc7, hnlc7, htlc7⟩ := hp9
  have hW := hW.X hxlc7
  have hnc := nC_le S
  have hsx2 := hxlc7 _ _ _ hsx1
  have hX9 : SRX S q K ed Ls h10 ab3 lc7 tg := ⟨⟨tb3, jb3, sb3, Lb3, hAb3.X hxlc7, bno_keep hLb3 (fun b e u => hxlc7 _ _ _ u), by omega, by omega⟩, tlc7, jlc7, hAlc7, fun e => hnlc7 _ _ (e ▸ hsx1)⟩
  refine hp_callI (As := [.ref ((Ls 3).getD q 0), .ref ab3, .ref lc7]) (rest := [.ref xs]) hx hb hml hown hts hPB hH hS (mc_init_L hK0 hG (mem := (comP S (aN S))) hsx2) 3 q1227 q1228 q140 q1229 rfl (by decide +kernel) ⟨rfl, rfl⟩ (by first | decide | omega | (simp only [rmk]; omega)) rfl hl.1 rfl (Nat.le_of_ble_eq_true rfl) (by first | decide | omega | (simp only [rmk]; omega)) dX0_findLeast_24 (fun v11 h13 H locs hp12 _ hH hS => ?_)
  obtain ⟨rfl, aa, fa, pa, naf, nap, nfp, hs9, hf9, ho9⟩ := hp12
  have hW := hW.fr hf9 (by omega) ho9
  have hX9 := hX9.kp hf9 ho9
  have hsx3 := hs9.2.1
  refine lv_astore_n (lv' := [(2, .ref xs), (0, .ref (w 0)), (1, .int (nI q))]) hx hb dX0_findLeast_27 rfl hl (by decide) rfl (fun ls hl => ?_)
  refine lv_aload_n hx hb dX0_findLeast_28 rfl (lv_at hl 0 rfl) ?_
  refine hp_callU (As := []) (rest := []) (owner := "FirstIn$Search") (x := ⟨"FirstIn$Least", "run", "()V"⟩) hx hb hml hown hts hPB hK hH hS (mc_run_L hK0 hG hO hO2 hq0 hm7 hn8 naf nap nfp (by omega) hW hX9 hs9) hsx3 rfl rfl 0 (va_cwU 0 hts (lw_U q1273 q1274 q1276 q1277 q139 q1278) rfl rfl rfl rfl (by decide +kernel) (by first | decide | omega | (simp only [rmk]; omega))) rfl hl.1 rfl (Nat.le_of_ble_eq_true rfl) (by first | decide | omega | (simp only [rmk]; omega)) dX0_findLeast_29 (fun v14 h16 H locs hp15 _ hH hS => ?_)
  obtain ⟨rfl, hs8, hf8, ho8⟩ := hp15
  refine lv_aload_n hx hb dX0_findLeast_32 rfl (lv_at hl 0 rfl) ?_
  exact hp_aret hx hb hr (Or.inl ⟨_, rfl⟩) (Or.inr ⟨_, rfl⟩) hlocks hH hS (by first | decide | omega | (simp only [rmk]; omega)) (by first | decide | omega | (simp only [rmk]; omega)) dX0_findLeast_33 (⟨xs, ab3, lc7, aa, fa, pa, tg, rfl, hs8, ex_add hnt (ex_add hnt (ex_tr (exH.new nxs) (ex_tr hxb3 hxlc7)) hf9) hf8⟩)
set_option maxHeartbeats 4000000 in
theorem mc_findMildest (hK0 : va_K D CL (TYS K) s0) {av : Nat → Nat} {ed mi : Nat} (hG : GX s0 wd av ed mi) {S : Ab} {w : Nat → Nat} {Ls : Nat → List Nat} {Jn : Nat → Nat} {Z : Nat → Nat → Int32} (hO : SOK S) (hO2 : SO2 S) (hW : CW K ed S h w Ls Jn Z) {q : Nat} (hq0 : q < aRm S) (hm7 : (comP S (aN S)).length ≤ 7) (hn8 : aRp S q ≤ 8) : Met l yX0_findMildest (ws_ yX0_findMildest cX0_findMildest 3 ((Option.some (Jvm.ClassFile.FieldType.object "FirstIn$Mildest")))) (rmk 15 1101 7000) (va_Pc [.ref (w 0), .int (nI q)] (PB s0 D CL (h))) (QR s0 D CL (fun v h1 => ∃ x lb lg aa fa tg, v = some (.ref x) ∧ SRM K (comP S (aN S)) h1 x ((Ls 3).getD q 0) lb lg aa fa tg 0 ([]) (zM S q) ∧ exH h h1)) 1101 7000 (zA s0) := by
  refine hp_met (by decide) (Nat.le_of_ble_eq_true rfl) hK0 ?_
  intro p e s m below meth cd ls hx hb hr hlocks hml hown hnm hts hK hPB hl hS hH hA
  have hl : lv_has ls 3 [(0, .ref (w 0)), (1, .int (nI q))] := hl
  have hown : s.vm.findClass RX0 = some m.cls := hown
  have hn := hO.n
  have hmk := hO.mk
  have hrl := hO.rl
  have hrm := hO.rm
  have hsz := hO.sz
  obtain ⟨tg, htg, htl⟩ := hH.tagL
  have hnt := tag_no htl
  obtain ⟨xs, hxs, nxs⟩ := hH.fr
  refine hp_new (ci := 18) (C := RX23) (T := TX23) (N := 8) (fs := [.null, .null, .null, .null, .null, .int 0, .int 0, .int 0]) hx hb hts in_X23 tyX23 tyX23_ok hown (hts _ q1351) (hts _ q1352) (hts _ q142) hK hH hS hA rfl (by decide) (by first | decide | omega | (simp only [rmk]; omega)) (by first | decide | omega | (simp only [rmk]; omega)) tg dX0_findMildest_0 (fun H _ hH hS => ?_)
  rw [← hxs] at hH ⊢
  have hH : HP D CL (zA s0) (hset h xs (.inr (18, [.null, .null, .null, .null, .null, .int 0, .int 0, .int 0])) tg) H := hH
  have hW := hW.X (exH.new (e1 := .inr (18, [.null, .null, .null, .null, .null, .int 0, .int 0, .int 0])) (u1 := tg) nxs)
  have e1 : (hset h xs (.inr (18, [.null, .null, .null, .null, .null, .int 0, .int 0, .int 0])) tg) xs = some (.inr (18, [.null, .null, .null, .null, .null, .int 0, .int 0, .int 0]), tg) := hset_self _ _ _ _
  refine lv_dup hx hb dX0_findMildest_3 rfl ?_
  refine lv_aload_n hx hb dX0_findMildest_4 rfl (lv_at hl 0 rfl) ?_
  refine hp_get (C := RX0) (T := TX0) (N := 14) (v := .ref (w 6)) hx hb hts in_X0 hown hK hH hW.x rfl 5 (by decide) (hts _ q217) (fun _ z => z) rfl dX0_findMildest_5 ?_
  refine lv_iload_n hx hb dX0_findMildest_8 rfl (lv_at hl 1 rfl) ?_
  refine hp_lget hx hb hml hown hts hPB hK0 hK hH hS hG (hW.li 3 (by decide)) (k9 := q) (by rw [hW.nq]; omega) q808 (by first | decide | (simp only [rmk]; omega)) hl.1 rfl (Nat.le_of_ble_eq_true rfl) (by first | decide | omega | (simp only [rmk]; omega)) dX0_findMildest_9 (fun H locs hH hS => ?_)
  have hp2 := hO.rp (show q < aRm S by omega)
  refine hp_castQ hx hb hown (hts _ q928) hG hPB hK hH (hW.q (show q < aRm S by omega)) (hO.rk (show q < aRm S by omega)) dX0_findMildest_12 ?_
  refine lv_aload_n hx hb dX0_findMildest_15 rfl (lv_at hl 0 rfl) ?_
  refine lv_iload_n hx hb dX0_findMildest_16 rfl (lv_at hl 1 rfl) ?_
  refine hp_callV (As := [.int (nI q)]) (rest := [.ref ((Ls 3).getD q 0), .ref xs, .ref xs]) hx hb hml hown hts hPB hK hH hS (mc_bonds hK0 hG hO hO2 hW (q := q) (by omega)) hW.x rfl rfl 1 (lw_V q1204 q1206 qs47 q102 q1207) (by decide +kernel) ⟨rfl, rfl⟩ (by first | decide | omega | (simp only [rmk]; omega)) rfl hl.1 rfl (Nat.le_of_ble_eq_true rfl) (by first | decide | omega | (simp only [rmk]; omega)) dX0_findMildest_17 (fun v4 h6 H locs hp5 _ hH hS => ?_)
  obtain ⟨ab3, jb3, tb3, sb3, Lb3, rfl, hAb3, hLb3, hxb3, hgb3, hub3, hvb3⟩ := hp5
  have hW := hW.X hxb3
  have htx := hgb3 _ _ _ e1
  have hsx1 := hxb3 _ _ _ e1
  refine lv_aload_n hx hb dX0_findMildest_20 rfl (lv_at hl 0 rfl) ?_
  refine hp_callV (As := []) (rest := [.ref ab3, .ref ((Ls 3).getD q 0), .ref xs, .ref xs]) hx hb hml hown hts hPB hK hH hS (mc_coming hK0 hG hO hO2 hW) hW.x rfl rfl 0 (lw_V q1141 q1143 qs37 q102 q1144) (by decide +kernel) ⟨rfl, rfl⟩ (by first | decide | omega | (simp only [rmk]; omega)) rfl hl.1 rfl (Nat.le_of_ble_eq_true rfl) (by first | decide | omega | (simp only [rmk]; omega)) dX0_findMildest_21 (fun v8 h10 H locs hp9 _ hH hS => ?_)
  obtain ⟨lc7, jlc7, tlc7, rfl, hAlc7, hxlc7, hnlc7, htlc7⟩ := hp9
  have hW := hW.X hxlc7
  have hnc := nC_le S
  have hsx2 := hxlc7 _ _ _ hsx1
  have hX9 : SRX S q K ed Ls h10 ab3 lc7 tg := ⟨⟨tb3, jb3, sb3, Lb3, hAb3.X hxlc7, bno_keep hLb3 (fun b e u => hxlc7 _ _ _ u), by omega, by omega⟩, tlc7, jlc7, hAlc7, fun e => hnlc7 _ _ (e ▸ hsx1)⟩
  refine hp_callI (As := [.ref ((Ls 3).getD q 0), .ref ab3, .ref lc7]) (rest := [.ref xs]) hx hb hml hown hts hPB hH hS (mc_init_M hK0 hG (mem := (comP S (aN S))) hsx2) 3 q1353 q1354 q142 q1355 rfl (by decide +kernel) ⟨rfl, rfl⟩ (by first | decide | omega | (simp only [rmk]; omega)) rfl hl.1 rfl (Nat.le_of_ble_eq_true rfl) (by first | decide | omega | (simp only [rmk]; omega)) dX0_findMildest_24 (fun v11 h13 H locs hp12 _ hH hS => ?_)
  obtain ⟨rfl, aa, fa, naf, hs9, hf9, ho9⟩ := hp12
  have hW := hW.fr hf9 (by omega) ho9
  have hX9 := hX9.kp hf9 ho9
  have hsx3 := hs9.2.1
  refine lv_astore_n (lv' := [(2, .ref xs), (0, .ref (w 0)), (1, .int (nI q))]) hx hb dX0_findMildest_27 rfl hl (by decide) rfl (fun ls hl => ?_)
  refine lv_aload_n hx hb dX0_findMildest_28 rfl (lv_at hl 0 rfl) ?_
  refine hp_callU (As := []) (rest := []) (owner := "FirstIn$Search") (x := ⟨"FirstIn$Mildest", "run", "()V"⟩) hx hb hml hown hts hPB hK hH hS (mc_run_M hK0 hG hO hO2 hq0 hm7 hn8 naf (by omega) hW hX9 hs9) hsx3 rfl rfl 0 (va_cwU 0 hts (lw_U q1373 q1374 q1375 q1277 q139 q1278) rfl rfl rfl rfl (by decide +kernel) (by first | decide | omega | (simp only [rmk]; omega))) rfl hl.1 rfl (Nat.le_of_ble_eq_true rfl) (by first | decide | omega | (simp only [rmk]; omega)) dX0_findMildest_29 (fun v14 h16 H locs hp15 _ hH hS => ?_)
  obtain ⟨rfl, hs8, hf8, ho8⟩ := hp15
  refine lv_aload_n hx hb dX0_findMildest_32 rfl (lv_at hl 0 rfl) ?_
  exact hp_aret hx hb hr (Or.inl ⟨_, rfl⟩) (Or.inr ⟨_, rfl⟩) hlocks hH hS (by first | decide | omega | (simp only [rmk]; omega)) (by first | decide | omega | (simp only [rmk]; omega)) dX0_findMildest_33 (⟨xs, ab3, lc7, aa, fa, tg, rfl, hs8, ex_add hnt (ex_add hnt (ex_tr (exH.new nxs) (ex_tr hxb3 hxlc7)) hf9) hf8⟩)
end MODEL
