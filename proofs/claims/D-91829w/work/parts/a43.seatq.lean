/-! by gen/mspec.py -/
set_option maxRecDepth 100000
section MODEL
variable {l : Launch} {s0 : State} {D : va_G} {K : Nat → ClassId} {wd : Nat → Nat} {o : Nat} {h : Hp} {I : Nat → Int32} {V : Nat → Nat → Int32} {J : Nat → Nat → Int64}
theorem nI_zI (n : Nat) (b : Bool) : nI n + zI b = nI (n + if b then 1 else 0) := by
  cases b
  · show nI n + nI 0 = _; rw [nI_add]; rfl
  · show nI n + nI 1 = _; rw [nI_add]; rfl
set_option maxHeartbeats 4000000 in
theorem mc_least (hK0 : va_K D CL (TYS K) s0) {av : Nat → Nat} {ed mi : Nat} (hG : GX s0 wd av ed mi) {S : Ab} {w : Nat → Nat} {Ls : Nat → List Nat} {Jn : Nat → Nat} {Z : Nat → Nat → Int32} (hO : SOK S) (hO2 : SO2 S) (hW : CW K ed S h w Ls Jn Z) (room what : Int32) : Met l yX0_least (ws_ yX0_least cX0_least 4 ((Option.some Jvm.ClassFile.FieldType.int))) (rmk 16 1104 7028) (va_Pc [.ref (w 0), .int room, .int what] (PB s0 D CL (h))) (QR s0 D CL (fun v h1 => v = some (.int (spLeast S room what)) ∧ h1 = h)) 1104 7028 (zA s0) := by
  refine hp_met (by decide) (Nat.le_of_ble_eq_true rfl) hK0 ?_
  intro p e s m below meth cd ls hx hb hr hlocks hml hown hnm hts hK hPB hl hS hH hA
  have hl : lv_has ls 4 [(0, .ref (w 0)), (1, .int room), (2, .int what)] := hl
  have hown : s.vm.findClass RX0 = some m.cls := hown
  have hn := hO.n
  have hmk := hO.mk
  have hrl := hO.rl
  have hrm := hO.rm
  have hsz := hO.sz
  have hnC : nC S = (comP S (aN S)).length := rfl
  refine lv_aload_n hx hb dX0_least_0 rfl (lv_at hl 0 rfl) ?_
  refine lv_iload_n hx hb dX0_least_1 rfl (lv_at hl 1 rfl) ?_
  refine hp_callV (As := [.int room]) (rest := []) hx hb hml hown hts hPB hK hH hS (mc_canBeAsked hK0 hG hO hO2 hW room) hW.x rfl rfl 1 (lw_V q1194 q1196 qs45 q102 q1197) (by decide +kernel) ⟨rfl, rfl⟩ (by first | decide | omega | (simp only [rmk]; omega)) rfl hl.1 rfl (Nat.le_of_ble_eq_true rfl) (by first | decide | omega | (simp only [rmk]; omega)) dX0_least_2 (fun v1 h3 H locs hp2 _ hH hS => ?_)
  obtain ⟨rfl, hq⟩ := hp2
  rw [hq] at hH
  refine lvB_eq (tgt := 17) hx hb dX0_least_5 (by decide) (fun ca => ?_) (fun ca => ?_)
  · refine lv_iconst (v := (-1)) hx hb dX0_least_17 (by decide) ?_
    exact hp_iret hx hb hr hlocks hH hS (by first | decide | omega | (simp only [rmk]; omega)) (by first | decide | omega | (simp only [rmk]; omega)) dX0_least_18 (⟨congrArg some (congrArg Value.int (by simp [spLeast, ca])), rfl⟩)
  · refine lv_iload_n hx hb dX0_least_8 rfl (lv_at hl 2 rfl) ?_
    refine lv_iconst (v := nI 0) hx hb dX0_least_9 (by decide) ?_
    refine lv_iconst (v := nI 3) hx hb dX0_least_10 (by decide) ?_
    refine hp_callS (As := [.int what, .int (nI 0), .int (nI 3)]) (rest := []) hx hb hml hown hts hPB hH hS (mc_in hK0 what (nI 0) (nI 3)) 3 (lw_S q268 q269 q102 q270) (by decide +kernel) ⟨rfl, rfl⟩ (by first | decide | omega | (simp only [rmk]; omega)) rfl hl.1 rfl (Nat.le_of_ble_eq_true rfl) (by first | decide | omega | (simp only [rmk]; omega)) dX0_least_11 (fun v4 h6 H locs hp5 _ hH hS => ?_)
    obtain ⟨rfl, hq⟩ := hp5
    rw [hq] at hH
    refine lv_top (y := zI (inN what 4)) (congrArg zI (in_ik (by omega))) ?_
    refine lvB_ne (tgt := 19) hx hb dX0_least_14 (by decide) (fun cw9 => ?_) (fun cw9 => ?_)
    · obtain ⟨q, hq0, rfl, hm7, hn8, hmq⟩ := ask_t hO ca
      obtain ⟨k9, hk9, rfl⟩ := inN_t cw9
      refine lv_iload_n hx hb dX0_least_19 rfl (lv_at hl 2 rfl) ?_
      refine lv_iconst (v := nI 2) hx hb dX0_least_20 (by decide) ?_
      refine lvN_ge (tgt := 48) hx hb (by first | omega | (refine Nat.lt_of_lt_of_le (Nat.mod_lt _ ?_) ?_ <;> omega)) (by first | omega | (refine Nat.lt_of_lt_of_le (Nat.mod_lt _ ?_) ?_ <;> omega)) dX0_least_21 (by decide) (fun c1 => ?_) (fun c1 => ?_)
      · refine lv_aload_n hx hb dX0_least_48 rfl (lv_at hl 0 rfl) ?_
        refine lv_iload_n hx hb dX0_least_49 rfl (lv_at hl 1 rfl) ?_
        refine hp_callV (As := [.int (nI q)]) (rest := []) hx hb hml hown hts hPB hK hH hS (mc_findMildest hK0 hG hO hO2 hW (q := q) (by omega) hm7 hn8) hW.x rfl rfl 1 (lw_V q1347 q1349 qs48 q102 q1350) (by decide +kernel) ⟨rfl, rfl⟩ (by first | decide | omega | (simp only [rmk]; omega)) rfl hl.1 rfl (Nat.le_of_ble_eq_true rfl) (by first | decide | omega | (simp only [rmk]; omega)) dX0_least_50 (fun v7 h9 H locs hp8 _ hH hS => ?_)
        obtain ⟨xs, lb, lg, aa, fa, tg, rfl, hs9, hx9⟩ := hp8
        obtain ⟨hok, hsx, ⟨af, haa, hat⟩, ff, hfa, hff⟩ := hs9
        have hW := hW.X hx9
        refine lv_astore_n (lv' := [(3, .ref xs), (0, .ref (w 0)), (1, .int (nI q)), (2, .int (nI k9))]) hx hb dX0_least_53 rfl hl (by decide) rfl (fun ls hl => ?_)
        refine lv_iload_n hx hb dX0_least_54 rfl (lv_at hl 3 rfl) ?_
        refine lv_iconst (v := nI 2) hx hb dX0_least_55 (by decide) ?_
        refine lvN_ne (tgt := 66) hx hb (by first | omega | (refine Nat.lt_of_lt_of_le (Nat.mod_lt _ ?_) ?_ <;> omega)) (by first | omega | (refine Nat.lt_of_lt_of_le (Nat.mod_lt _ ?_) ?_ <;> omega)) dX0_least_56 (by decide) (fun c3 => ?_) (fun c3 => ?_)
        · refine lv_aload_n hx hb dX0_least_66 rfl (lv_at hl 0 rfl) ?_
          refine hp_getN (C := RX23) (T := TX23) (N := 8) (v := .int (nI (mlHvy (zM S q)))) hx hb hts in_X23 hown hK hH hsx rfl 7 (by decide) (hG.nf hPB q1361) (fun _ z => z) rfl dX0_least_67 ?_
          have hH := hH.X hx9
          exact hp_iret hx hb hr hlocks hH hS (by first | decide | omega | (simp only [rmk]; omega)) (by first | decide | omega | (simp only [rmk]; omega)) dX0_least_70 (⟨congrArg some (congrArg Value.int (by rw [spLeast_a hk9 (by omega) ca, if_neg (show ¬ k9 = 0 by omega), if_neg (show ¬ k9 = 1 by omega), if_neg (show ¬ k9 = 2 by omega)])), rfl⟩)
        · refine lv_aload_n hx hb dX0_least_59 rfl (lv_at hl 0 rfl) ?_
          refine hp_getN (C := RX23) (T := TX23) (N := 8) (v := .int (nI (mlBst (zM S q)))) hx hb hts in_X23 hown hK hH hsx rfl 6 (by decide) (hG.nf hPB q1359) (fun _ z => z) rfl dX0_least_60 ?_
          refine lv_goto (tgt := 70) hx hb dX0_least_63 (by decide) ?_
          have hH := hH.X hx9
          exact hp_iret hx hb hr hlocks hH hS (by first | decide | omega | (simp only [rmk]; omega)) (by first | decide | omega | (simp only [rmk]; omega)) dX0_least_70 (⟨congrArg some (congrArg Value.int (by rw [spLeast_a hk9 (by omega) ca, if_neg (show ¬ k9 = 0 by omega), if_neg (show ¬ k9 = 1 by omega), if_pos (show k9 = 2 by omega)])), rfl⟩)
      · refine lv_iload_n hx hb dX0_least_24 rfl (lv_at hl 2 rfl) ?_
        refine lvZ_ne (tgt := 39) hx hb (by first | omega | (refine Nat.lt_of_lt_of_le (Nat.mod_lt _ ?_) ?_ <;> omega)) dX0_least_25 (by decide) (fun c2 => ?_) (fun c2 => ?_)
        · refine lv_aload_n hx hb dX0_least_39 rfl (lv_at hl 0 rfl) ?_
          refine lv_iload_n hx hb dX0_least_40 rfl (lv_at hl 1 rfl) ?_
          refine hp_callV (As := [.int (nI q)]) (rest := []) hx hb hml hown hts hPB hK hH hS (mc_findLeast hK0 hG hO hO2 hW (q := q) (by omega) hm7 hn8) hW.x rfl rfl 1 (lw_V q1198 q1200 qs46 q102 q1201) (by decide +kernel) ⟨rfl, rfl⟩ (by first | decide | omega | (simp only [rmk]; omega)) rfl hl.1 rfl (Nat.le_of_ble_eq_true rfl) (by first | decide | omega | (simp only [rmk]; omega)) dX0_least_41 (fun v10 h12 H locs hp11 _ hH hS => ?_)
          obtain ⟨xs, lb, lg, aa, fa, pa, tg, rfl, hs9, hx9⟩ := hp11
          obtain ⟨hok, hsx, ⟨af, haa, hat⟩, ⟨ff, hfa, hff⟩, pf, hpa, hpf⟩ := hs9
          have hW := hW.X hx9
          refine hp_getN (C := RX21) (T := TX21) (N := 9) (v := .int (nI (lsMny (zL S q)))) hx hb hts in_X21 hown hK hH hsx rfl 7 (by decide) (hG.nf hPB q1238) (fun _ z => z) rfl dX0_least_44 ?_
          have hH := hH.X hx9
          exact hp_iret hx hb hr hlocks hH hS (by first | decide | omega | (simp only [rmk]; omega)) (by first | decide | omega | (simp only [rmk]; omega)) dX0_least_47 (⟨congrArg some (congrArg Value.int (by rw [spLeast_a hk9 (by omega) ca, if_neg (show ¬ k9 = 0 by omega), if_pos (show k9 = 1 by omega)])), rfl⟩)
        · refine lv_aload_n hx hb dX0_least_28 rfl (lv_at hl 0 rfl) ?_
          refine lv_iload_n hx hb dX0_least_29 rfl (lv_at hl 1 rfl) ?_
          refine hp_callV (As := [.int (nI q)]) (rest := []) hx hb hml hown hts hPB hK hH hS (mc_findLeast hK0 hG hO hO2 hW (q := q) (by omega) hm7 hn8) hW.x rfl rfl 1 (lw_V q1198 q1200 qs46 q102 q1201) (by decide +kernel) ⟨rfl, rfl⟩ (by first | decide | omega | (simp only [rmk]; omega)) rfl hl.1 rfl (Nat.le_of_ble_eq_true rfl) (by first | decide | omega | (simp only [rmk]; omega)) dX0_least_30 (fun v13 h15 H locs hp14 _ hH hS => ?_)
          obtain ⟨xs, lb, lg, aa, fa, pa, tg, rfl, hs9, hx9⟩ := hp14
          obtain ⟨hok, hsx, ⟨af, haa, hat⟩, ⟨ff, hfa, hff⟩, pf, hpa, hpf⟩ := hs9
          have hW := hW.X hx9
          refine hp_getN (C := RX21) (T := TX21) (N := 9) (v := .int (nI (lsBst (zL S q)))) hx hb hts in_X21 hown hK hH hsx rfl 6 (by decide) (hG.nf hPB q1236) (fun _ z => z) rfl dX0_least_33 ?_
          refine lv_goto (tgt := 47) hx hb dX0_least_36 (by decide) ?_
          have hH := hH.X hx9
          exact hp_iret hx hb hr hlocks hH hS (by first | decide | omega | (simp only [rmk]; omega)) (by first | decide | omega | (simp only [rmk]; omega)) dX0_least_47 (⟨congrArg some (congrArg Value.int (by rw [spLeast_a hk9 (by omega) ca, if_pos (show k9 = 0 by omega)])), rfl⟩)
    · refine lv_iconst (v := (-1)) hx hb dX0_least_17 (by decide) ?_
      exact hp_iret hx hb hr hlocks hH hS (by first | decide | omega | (simp only [rmk]; omega)) (by first | decide | omega | (simp only [rmk]; omega)) dX0_least_18 (⟨congrArg some (congrArg Value.int (by simp [spLeast, ca, cw9])), rfl⟩)
set_option maxHeartbeats 4000000 in
theorem mc_best (hK0 : va_K D CL (TYS K) s0) {av : Nat → Nat} {ed mi : Nat} (hG : GX s0 wd av ed mi) {S : Ab} {w : Nat → Nat} {Ls : Nat → List Nat} {Jn : Nat → Nat} {Z : Nat → Nat → Int32} (hO : SOK S) (hO2 : SO2 S) (hW : CW K ed S h w Ls Jn Z) (room guest : Int32) (mild : Bool) : Met l yX0_best (ws_ yX0_best cX0_best 6 ((Option.some Jvm.ClassFile.FieldType.int))) (rmk 16 1104 7028) (va_Pc [.ref (w 0), .int room, .int guest, .int (zI mild)] (PB s0 D CL (h))) (QR s0 D CL (fun v h1 => v = some (.int (spBest S room guest mild)) ∧ h1 = h)) 1104 7028 (zA s0) := by
  refine hp_met (by decide) (Nat.le_of_ble_eq_true rfl) hK0 ?_
  intro p e s m below meth cd ls hx hb hr hlocks hml hown hnm hts hK hPB hl hS hH hA
  have hl : lv_has ls 6 [(0, .ref (w 0)), (1, .int room), (2, .int guest), (3, .int (zI mild))] := hl
  have hown : s.vm.findClass RX0 = some m.cls := hown
  have hn := hO.n
  have hmk := hO.mk
  have hrl := hO.rl
  have hrm := hO.rm
  have hsz := hO.sz
  have hnC : nC S = (comP S (aN S)).length := rfl
  refine lv_aload_n hx hb dX0_best_0 rfl (lv_at hl 0 rfl) ?_
  refine lv_iload_n hx hb dX0_best_1 rfl (lv_at hl 2 rfl) ?_
  refine hp_callV (As := [.int guest]) (rest := []) hx hb hml hown hts hPB hK hH hS (mc_guestAt hK0 hG hO hO2 hW guest) hW.x rfl rfl 1 (lw_V q875 q877 qs22 q102 q878) (by decide +kernel) ⟨rfl, rfl⟩ (by first | decide | omega | (simp only [rmk]; omega)) rfl hl.1 rfl (Nat.le_of_ble_eq_true rfl) (by first | decide | omega | (simp only [rmk]; omega)) dX0_best_2 (fun v3 h5 H locs hp4 _ hH hS => ?_)
  rcases hp4.1 with ⟨k1, hk1, hgk1, rfl⟩ | ⟨cz2, rfl⟩
  · have hq := hp4.2; rw [hq] at hH
    subst hgk1
    have hik1 : inN (nI k1) (aN S) = true := by rw [inN_nI (by omega)]; exact decide_eq_true hk1
    have ek1 := nI_clamp (show k1 < 2 ^ 31 by omega)
    refine lv_astore (lv' := [(4, .ref ((Ls 0).getD k1 0)), (0, .ref (w 0)), (1, .int room), (2, .int (nI k1)), (3, .int (zI mild))]) hx hb dX0_best_5 hl (by decide) rfl (fun ls hl => ?_)
    refine lv_aload hx hb dX0_best_7 (lv_at hl 0 rfl) ?_
    refine lv_ifnull hx hb dX0_best_9 ?_
    refine lv_aload hx hb dX0_best_12 (lv_at hl 0 rfl) ?_
    refine hp_getN (C := RX5) (T := TX5) (N := 6) (v := .int (zI (aCm S k1))) hx hb hts in_X5 hown hK hH (hW.g (show k1 < aN S by omega)) rfl 2 (by decide) (hG.nf hPB q542) (fun _ z => z) rfl dX0_best_14 ?_
    refine lvB_eq (tgt := 28) hx hb dX0_best_17 (by decide) (fun cc9 => ?_) (fun cc9 => ?_)
    · refine lv_iconst (v := (-1)) hx hb dX0_best_28 (by decide) ?_
      exact hp_iret hx hb hr hlocks hH hS (by first | decide | omega | (simp only [rmk]; omega)) (by first | decide | omega | (simp only [rmk]; omega)) dX0_best_29 (⟨congrArg some (congrArg Value.int (by simp [spBest, hik1, ek1, cc9])), rfl⟩)
    · refine lv_aload_n hx hb dX0_best_20 rfl (lv_at hl 1 rfl) ?_
      refine lv_iload_n hx hb dX0_best_21 rfl (lv_at hl 2 rfl) ?_
      refine hp_callV (As := [.int room]) (rest := []) hx hb hml hown hts hPB hK hH hS (mc_canBeAsked hK0 hG hO hO2 hW room) hW.x rfl rfl 1 (lw_V q1194 q1196 qs45 q102 q1197) (by decide +kernel) ⟨rfl, rfl⟩ (by first | decide | omega | (simp only [rmk]; omega)) rfl hl.1 rfl (Nat.le_of_ble_eq_true rfl) (by first | decide | omega | (simp only [rmk]; omega)) dX0_best_22 (fun v6 h8 H locs hp7 _ hH hS => ?_)
      obtain ⟨rfl, hq⟩ := hp7
      rw [hq] at hH
      refine lvB_ne (tgt := 30) hx hb dX0_best_25 (by decide) (fun ca => ?_) (fun ca => ?_)
      · obtain ⟨q, hq0, rfl, hm7, hn8, hmq⟩ := ask_t hO ca
        refine lv_iload_n hx hb dX0_best_30 rfl (lv_at hl 4 rfl) ?_
        refine lvB_eq (tgt := 42) hx hb dX0_best_31 (by decide) (fun cmi => ?_) (fun cmi => ?_)
        · refine lv_aload_n hx hb dX0_best_42 rfl (lv_at hl 1 rfl) ?_
          refine lv_iload_n hx hb dX0_best_43 rfl (lv_at hl 2 rfl) ?_
          refine hp_callV (As := [.int (nI q)]) (rest := []) hx hb hml hown hts hPB hK hH hS (mc_findLeast hK0 hG hO hO2 hW (q := q) (by omega) hm7 hn8) hW.x rfl rfl 1 (lw_V q1198 q1200 qs46 q102 q1201) (by decide +kernel) ⟨rfl, rfl⟩ (by first | decide | omega | (simp only [rmk]; omega)) rfl hl.1 rfl (Nat.le_of_ble_eq_true rfl) (by first | decide | omega | (simp only [rmk]; omega)) dX0_best_44 (fun v9 h11 H locs hp10 _ hH hS => ?_)
          obtain ⟨xs, lb, lg, aa, fa, pa, tg, rfl, hs9, hx9⟩ := hp10
          obtain ⟨hok, hsx, ⟨af, haa, hat⟩, ⟨ff, hfa, hff⟩, pf, hpa, hpf⟩ := hs9
          have hW := hW.X hx9
          refine lv_astore (lv' := [(5, .ref xs), (4, .ref ((Ls 0).getD k1 0)), (0, .ref (w 0)), (1, .int (nI q)), (2, .int (nI k1)), (3, .int (zI mild))]) hx hb dX0_best_47 hl (by decide) rfl (fun ls hl => ?_)
          refine lv_aload hx hb dX0_best_49 (lv_at hl 0 rfl) ?_
          refine hp_get (C := RX21) (T := TX21) (N := 9) (v := .ref fa) hx hb hts in_X21 hown hK hH hsx rfl 4 (by decide) (hts _ q1250) (fun _ z => z) rfl dX0_best_51 ?_
          refine lv_iload_n hx hb dX0_best_54 rfl (lv_at hl 4 rfl) ?_
          refine hp_ild (n := 10) (j := k1) (v := lsFst (comP S (aN S)) (zL S q) k1) hx hb hK hH 0 hfa rfl (by first | omega | (refine Nat.lt_of_lt_of_le (Nat.mod_lt _ ?_) ?_ <;> omega)) (by first | omega | (refine Nat.lt_of_lt_of_le (Nat.mod_lt _ ?_) ?_ <;> omega)) (hff _ (by omega)) dX0_best_55 ?_
          have hH := hH.X hx9
          exact hp_iret hx hb hr hlocks hH hS (by first | decide | omega | (simp only [rmk]; omega)) (by first | decide | omega | (simp only [rmk]; omega)) dX0_best_56 (⟨congrArg some (congrArg Value.int (by rw [cmi]; exact (spBest_f hn hk1 cc9 (by omega) ca hok).symm)), rfl⟩)
        · refine lv_aload_n hx hb dX0_best_34 rfl (lv_at hl 1 rfl) ?_
          refine lv_iload_n hx hb dX0_best_35 rfl (lv_at hl 2 rfl) ?_
          refine hp_callV (As := [.int (nI q)]) (rest := []) hx hb hml hown hts hPB hK hH hS (mc_findMildest hK0 hG hO hO2 hW (q := q) (by omega) hm7 hn8) hW.x rfl rfl 1 (lw_V q1347 q1349 qs48 q102 q1350) (by decide +kernel) ⟨rfl, rfl⟩ (by first | decide | omega | (simp only [rmk]; omega)) rfl hl.1 rfl (Nat.le_of_ble_eq_true rfl) (by first | decide | omega | (simp only [rmk]; omega)) dX0_best_36 (fun v12 h14 H locs hp13 _ hH hS => ?_)
          obtain ⟨xs, lb, lg, aa, fa, tg, rfl, hs9, hx9⟩ := hp13
          obtain ⟨hok, hsx, ⟨af, haa, hat⟩, ff, hfa, hff⟩ := hs9
          have hW := hW.X hx9
          refine lv_goto (tgt := 47) hx hb dX0_best_39 (by decide) ?_
          refine lv_astore (lv' := [(5, .ref xs), (4, .ref ((Ls 0).getD k1 0)), (0, .ref (w 0)), (1, .int (nI q)), (2, .int (nI k1)), (3, .int (zI mild))]) hx hb dX0_best_47 hl (by decide) rfl (fun ls hl => ?_)
          refine lv_aload hx hb dX0_best_49 (lv_at hl 0 rfl) ?_
          refine hp_get (C := RX23) (T := TX23) (N := 8) (v := .ref fa) hx hb hts in_X23 hown hK hH hsx rfl 4 (by decide) (hts _ q1250) (fun _ z => z) rfl dX0_best_51 ?_
          refine lv_iload_n hx hb dX0_best_54 rfl (lv_at hl 4 rfl) ?_
          refine hp_ild (n := 10) (j := k1) (v := mlFst (comP S (aN S)) (zM S q) k1) hx hb hK hH 0 hfa rfl (by first | omega | (refine Nat.lt_of_lt_of_le (Nat.mod_lt _ ?_) ?_ <;> omega)) (by first | omega | (refine Nat.lt_of_lt_of_le (Nat.mod_lt _ ?_) ?_ <;> omega)) (hff _ (by omega)) dX0_best_55 ?_
          have hH := hH.X hx9
          exact hp_iret hx hb hr hlocks hH hS (by first | decide | omega | (simp only [rmk]; omega)) (by first | decide | omega | (simp only [rmk]; omega)) dX0_best_56 (⟨congrArg some (congrArg Value.int (by rw [cmi]; exact (spBest_t hn hk1 cc9 (by omega) ca hok).symm)), rfl⟩)
      · refine lv_iconst (v := (-1)) hx hb dX0_best_28 (by decide) ?_
        exact hp_iret hx hb hr hlocks hH hS (by first | decide | omega | (simp only [rmk]; omega)) (by first | decide | omega | (simp only [rmk]; omega)) dX0_best_29 (⟨congrArg some (congrArg Value.int (by simp [spBest, hik1, ek1, cc9, ca])), rfl⟩)
  · have hq := hp4.2; rw [hq] at hH
    refine lv_astoreN (lv' := [(4, .null), (0, .ref (w 0)), (1, .int room), (2, .int guest), (3, .int (zI mild))]) hx hb dX0_best_5 hl (by decide) rfl (fun ls hl => ?_)
    refine lv_aloadN hx hb dX0_best_7 (lv_at hl 0 rfl) ?_
    refine lv_ifnullN (tgt := 28) hx hb dX0_best_9 (by decide) ?_
    refine lv_iconst (v := (-1)) hx hb dX0_best_28 (by decide) ?_
    exact hp_iret hx hb hr hlocks hH hS (by first | decide | omega | (simp only [rmk]; omega)) (by first | decide | omega | (simp only [rmk]; omega)) dX0_best_29 (⟨congrArg some (congrArg Value.int (by simp [spBest, cz2])), rfl⟩)
set_option maxHeartbeats 4000000 in
theorem mc_must (hK0 : va_K D CL (TYS K) s0) {av : Nat → Nat} {ed mi : Nat} (hG : GX s0 wd av ed mi) {S : Ab} {w : Nat → Nat} {Ls : Nat → List Nat} {Jn : Nat → Nat} {Z : Nat → Nat → Int32} (hO : SOK S) (hO2 : SO2 S) (hW : CW K ed S h w Ls Jn Z) (room guest : Int32) : Met l yX0_must (ws_ yX0_must cX0_must 5 ((Option.some Jvm.ClassFile.FieldType.int))) (rmk 16 1104 7028) (va_Pc [.ref (w 0), .int room, .int guest] (PB s0 D CL (h))) (QR s0 D CL (fun v h1 => v = some (.int (spMust S room guest)) ∧ h1 = h)) 1104 7028 (zA s0) := by
  refine hp_met (by decide) (Nat.le_of_ble_eq_true rfl) hK0 ?_
  intro p e s m below meth cd ls hx hb hr hlocks hml hown hnm hts hK hPB hl hS hH hA
  have hl : lv_has ls 5 [(0, .ref (w 0)), (1, .int room), (2, .int guest)] := hl
  have hown : s.vm.findClass RX0 = some m.cls := hown
  have hn := hO.n
  have hmk := hO.mk
  have hrl := hO.rl
  have hrm := hO.rm
  have hsz := hO.sz
  have hnC : nC S = (comP S (aN S)).length := rfl
  refine lv_aload_n hx hb dX0_must_0 rfl (lv_at hl 0 rfl) ?_
  refine lv_iload_n hx hb dX0_must_1 rfl (lv_at hl 2 rfl) ?_
  refine hp_callV (As := [.int guest]) (rest := []) hx hb hml hown hts hPB hK hH hS (mc_guestAt hK0 hG hO hO2 hW guest) hW.x rfl rfl 1 (lw_V q875 q877 qs22 q102 q878) (by decide +kernel) ⟨rfl, rfl⟩ (by first | decide | omega | (simp only [rmk]; omega)) rfl hl.1 rfl (Nat.le_of_ble_eq_true rfl) (by first | decide | omega | (simp only [rmk]; omega)) dX0_must_2 (fun v3 h5 H locs hp4 _ hH hS => ?_)
  rcases hp4.1 with ⟨k1, hk1, hgk1, rfl⟩ | ⟨cz2, rfl⟩
  · have hq := hp4.2; rw [hq] at hH
    subst hgk1
    have hik1 : inN (nI k1) (aN S) = true := by rw [inN_nI (by omega)]; exact decide_eq_true hk1
    have ek1 := nI_clamp (show k1 < 2 ^ 31 by omega)
    refine lv_astore_n (lv' := [(3, .ref ((Ls 0).getD k1 0)), (0, .ref (w 0)), (1, .int room), (2, .int (nI k1))]) hx hb dX0_must_5 rfl hl (by decide) rfl (fun ls hl => ?_)
    refine lv_aload_n hx hb dX0_must_6 rfl (lv_at hl 0 rfl) ?_
    refine lv_ifnull hx hb dX0_must_7 ?_
    refine lv_aload_n hx hb dX0_must_10 rfl (lv_at hl 0 rfl) ?_
    refine hp_getN (C := RX5) (T := TX5) (N := 6) (v := .int (zI (aCm S k1))) hx hb hts in_X5 hown hK hH (hW.g (show k1 < aN S by omega)) rfl 2 (by decide) (hG.nf hPB q542) (fun _ z => z) rfl dX0_must_11 ?_
    refine lvB_eq (tgt := 25) hx hb dX0_must_14 (by decide) (fun cc9 => ?_) (fun cc9 => ?_)
    · refine lv_iconst (v := (-1)) hx hb dX0_must_25 (by decide) ?_
      exact hp_iret hx hb hr hlocks hH hS (by first | decide | omega | (simp only [rmk]; omega)) (by first | decide | omega | (simp only [rmk]; omega)) dX0_must_26 (⟨congrArg some (congrArg Value.int (by simp [spMust, hik1, ek1, cc9])), rfl⟩)
    · refine lv_aload_n hx hb dX0_must_17 rfl (lv_at hl 1 rfl) ?_
      refine lv_iload_n hx hb dX0_must_18 rfl (lv_at hl 2 rfl) ?_
      refine hp_callV (As := [.int room]) (rest := []) hx hb hml hown hts hPB hK hH hS (mc_canBeAsked hK0 hG hO hO2 hW room) hW.x rfl rfl 1 (lw_V q1194 q1196 qs45 q102 q1197) (by decide +kernel) ⟨rfl, rfl⟩ (by first | decide | omega | (simp only [rmk]; omega)) rfl hl.1 rfl (Nat.le_of_ble_eq_true rfl) (by first | decide | omega | (simp only [rmk]; omega)) dX0_must_19 (fun v6 h8 H locs hp7 _ hH hS => ?_)
      obtain ⟨rfl, hq⟩ := hp7
      rw [hq] at hH
      refine lvB_ne (tgt := 27) hx hb dX0_must_22 (by decide) (fun ca => ?_) (fun ca => ?_)
      · obtain ⟨q, hq0, rfl, hm7, hn8, hmq⟩ := ask_t hO ca
        refine lv_aload_n hx hb dX0_must_27 rfl (lv_at hl 1 rfl) ?_
        refine lv_iload_n hx hb dX0_must_28 rfl (lv_at hl 2 rfl) ?_
        refine hp_callV (As := [.int (nI q)]) (rest := []) hx hb hml hown hts hPB hK hH hS (mc_findLeast hK0 hG hO hO2 hW (q := q) (by omega) hm7 hn8) hW.x rfl rfl 1 (lw_V q1198 q1200 qs46 q102 q1201) (by decide +kernel) ⟨rfl, rfl⟩ (by first | decide | omega | (simp only [rmk]; omega)) rfl hl.1 rfl (Nat.le_of_ble_eq_true rfl) (by first | decide | omega | (simp only [rmk]; omega)) dX0_must_29 (fun v9 h11 H locs hp10 _ hH hS => ?_)
        obtain ⟨xs, lb, lg, aa, fa, pa, tg, rfl, hs9, hx9⟩ := hp10
        obtain ⟨hok, hsx, ⟨af, haa, hat⟩, ⟨ff, hfa, hff⟩, pf, hpa, hpf⟩ := hs9
        have hW := hW.X hx9
        refine hp_getN (C := RX21) (T := TX21) (N := 9) (v := .ref pa) hx hb hts in_X21 hown hK hH hsx rfl 8 (by decide) (hG.nf hPB q1240) (fun _ z => z) rfl dX0_must_32 ?_
        refine lv_iload_n hx hb dX0_must_35 rfl (lv_at hl 3 rfl) ?_
        refine hp_ild (n := 10) (j := k1) (v := nI (lsPl (comP S (aN S)) (zL S q) k1)) hx hb hK hH 0 hpa rfl (by first | omega | (refine Nat.lt_of_lt_of_le (Nat.mod_lt _ ?_) ?_ <;> omega)) (by first | omega | (refine Nat.lt_of_lt_of_le (Nat.mod_lt _ ?_) ?_ <;> omega)) (hpf _ (by omega)) dX0_must_36 ?_
        refine lv_istore (lv' := [(4, .int (nI (lsPl (comP S (aN S)) (zL S q) k1))), (3, .ref ((Ls 0).getD k1 0)), (0, .ref (w 0)), (1, .int (nI q)), (2, .int (nI k1))]) hx hb dX0_must_37 hl (by decide) rfl (fun ls hl => ?_)
        have hpl8 := lsPl_lt (comP S (aN S)) (zL S q) k1
        have hpo := popN_le (lsPl (comP S (aN S)) (zL S q) k1)
        refine lv_iload hx hb dX0_must_39 (lv_at hl 0 rfl) ?_
        refine hp_callS (As := [.int (nI (lsPl (comP S (aN S)) (zL S q) k1))]) (rest := []) hx hb hml hown hts hPB hH hS (mt_bitCount hK0 (x := lsPl (comP S (aN S)) (zL S q) k1) (by omega)) 1 (lw_S q1127 q1128 q138 q1129) (by decide +kernel) ⟨rfl, rfl⟩ (by first | decide | omega | (simp only [rmk]; omega)) rfl hl.1 rfl (Nat.le_of_ble_eq_true rfl) (by first | decide | omega | (simp only [rmk]; omega)) dX0_must_41 (fun v12 h14 H locs hp13 _ hH hS => ?_)
        obtain ⟨rfl, hq⟩ := hp13
        rw [hq] at hH
        refine lv_iconst (v := nI 1) hx hb dX0_must_44 (by decide) ?_
        refine lvN_ne (tgt := 56) hx hb (by first | omega | (refine Nat.lt_of_lt_of_le (Nat.mod_lt _ ?_) ?_ <;> omega)) (by first | omega | (refine Nat.lt_of_lt_of_le (Nat.mod_lt _ ?_) ?_ <;> omega)) dX0_must_45 (by decide) (fun c1 => ?_) (fun c1 => ?_)
        · refine lv_iconst (v := (-1)) hx hb dX0_must_56 (by decide) ?_
          have hH := hH.X hx9
          exact hp_iret hx hb hr hlocks hH hS (by first | decide | omega | (simp only [rmk]; omega)) (by first | decide | omega | (simp only [rmk]; omega)) dX0_must_57 (⟨congrArg some (congrArg Value.int ((spMust_c hn hk1 cc9 (by omega) ca hok).2 c1).symm), rfl⟩)
        · have hx0 := pop_ne0 c1
          refine lv_iload hx hb dX0_must_48 (lv_at hl 0 rfl) ?_
          refine hp_callS (As := [.int (nI (lsPl (comP S (aN S)) (zL S q) k1))]) (rest := []) hx hb hml hown hts hPB hH hS (mt_ntz hK0 (x := lsPl (comP S (aN S)) (zL S q) k1) (by omega) (by omega)) 1 (lw_S q1384 q1385 q138 q1386) (by decide +kernel) ⟨rfl, rfl⟩ (by first | decide | omega | (simp only [rmk]; omega)) rfl hl.1 rfl (Nat.le_of_ble_eq_true rfl) (by first | decide | omega | (simp only [rmk]; omega)) dX0_must_50 (fun v15 h17 H locs hp16 _ hH hS => ?_)
          obtain ⟨rfl, hq⟩ := hp16
          rw [hq] at hH
          refine lv_goto (tgt := 57) hx hb dX0_must_53 (by decide) ?_
          have hH := hH.X hx9
          exact hp_iret hx hb hr hlocks hH hS (by first | decide | omega | (simp only [rmk]; omega)) (by first | decide | omega | (simp only [rmk]; omega)) dX0_must_57 (⟨congrArg some (congrArg Value.int ((spMust_c hn hk1 cc9 (by omega) ca hok).1 c1).symm), rfl⟩)
      · refine lv_iconst (v := (-1)) hx hb dX0_must_25 (by decide) ?_
        exact hp_iret hx hb hr hlocks hH hS (by first | decide | omega | (simp only [rmk]; omega)) (by first | decide | omega | (simp only [rmk]; omega)) dX0_must_26 (⟨congrArg some (congrArg Value.int (by simp [spMust, hik1, ek1, cc9, ca])), rfl⟩)
  · have hq := hp4.2; rw [hq] at hH
    refine lv_astore_nN (lv' := [(3, .null), (0, .ref (w 0)), (1, .int room), (2, .int guest)]) hx hb dX0_must_5 rfl hl (by decide) rfl (fun ls hl => ?_)
    refine lv_aload_nN hx hb dX0_must_6 rfl (lv_at hl 0 rfl) ?_
    refine lv_ifnullN (tgt := 25) hx hb dX0_must_7 (by decide) ?_
    refine lv_iconst (v := (-1)) hx hb dX0_must_25 (by decide) ?_
    exact hp_iret hx hb hr hlocks hH hS (by first | decide | omega | (simp only [rmk]; omega)) (by first | decide | omega | (simp only [rmk]; omega)) dX0_must_26 (⟨congrArg some (congrArg Value.int (by simp [spMust, cz2])), rfl⟩)
set_option maxHeartbeats 4000000 in
theorem mc_free (hK0 : va_K D CL (TYS K) s0) {av : Nat → Nat} {ed mi : Nat} (hG : GX s0 wd av ed mi) {S : Ab} {w : Nat → Nat} {Ls : Nat → List Nat} {Jn : Nat → Nat} {Z : Nat → Nat → Int32} (hO : SOK S) (hO2 : SO2 S) (hW : CW K ed S h w Ls Jn Z) (room place : Int32) : Met l yX0_free (ws_ yX0_free cX0_free 6 ((Option.some Jvm.ClassFile.FieldType.int))) (rmk 16 1104 7028) (va_Pc [.ref (w 0), .int room, .int place] (PB s0 D CL (h))) (QR s0 D CL (fun v h1 => v = some (.int (spFree S room place)) ∧ h1 = h)) 1104 7028 (zA s0) := by
  refine hp_met (by decide) (Nat.le_of_ble_eq_true rfl) hK0 ?_
  intro p e s m below meth cd ls hx hb hr hlocks hml hown hnm hts hK hPB hl hS hH hA
  have hl : lv_has ls 6 [(0, .ref (w 0)), (1, .int room), (2, .int place)] := hl
  have hown : s.vm.findClass RX0 = some m.cls := hown
  have hn := hO.n
  have hmk := hO.mk
  have hrl := hO.rl
  have hrm := hO.rm
  have hsz := hO.sz
  have hnC : nC S = (comP S (aN S)).length := rfl
  refine lv_aload_n hx hb dX0_free_0 rfl (lv_at hl 0 rfl) ?_
  refine lv_iload_n hx hb dX0_free_1 rfl (lv_at hl 1 rfl) ?_
  refine hp_callV (As := [.int room]) (rest := []) hx hb hml hown hts hPB hK hH hS (mc_canBeAsked hK0 hG hO hO2 hW room) hW.x rfl rfl 1 (lw_V q1194 q1196 qs45 q102 q1197) (by decide +kernel) ⟨rfl, rfl⟩ (by first | decide | omega | (simp only [rmk]; omega)) rfl hl.1 rfl (Nat.le_of_ble_eq_true rfl) (by first | decide | omega | (simp only [rmk]; omega)) dX0_free_2 (fun v1 h3 H locs hp2 _ hH hS => ?_)
  obtain ⟨rfl, hq⟩ := hp2
  rw [hq] at hH
  refine lvB_eq (tgt := 32) hx hb dX0_free_5 (by decide) (fun ca => ?_) (fun ca => ?_)
  · refine lv_iconst (v := (-1)) hx hb dX0_free_32 (by decide) ?_
    exact hp_iret hx hb hr hlocks hH hS (by first | decide | omega | (simp only [rmk]; omega)) (by first | decide | omega | (simp only [rmk]; omega)) dX0_free_33 (⟨congrArg some (congrArg Value.int (by unfold spFree; rw [ca]; rfl)), rfl⟩)
  · obtain ⟨q, hq0, rfl, hm7, hn8, hmq⟩ := ask_t hO ca
    refine lv_iload_n hx hb dX0_free_8 rfl (lv_at hl 2 rfl) ?_
    refine lv_iconst (v := nI 0) hx hb dX0_free_9 (by decide) ?_
    refine lv_aload_n hx hb dX0_free_10 rfl (lv_at hl 0 rfl) ?_
    refine hp_get (C := RX0) (T := TX0) (N := 14) (v := .ref (w 6)) hx hb hts in_X0 hown hK hH hW.x rfl 5 (by decide) (hts _ q217) (fun _ z => z) rfl dX0_free_11 ?_
    refine lv_iload_n hx hb dX0_free_14 rfl (lv_at hl 1 rfl) ?_
    refine hp_lget hx hb hml hown hts hPB hK0 hK hH hS hG (hW.li 3 (by decide)) (k9 := q) (by rw [hW.nq]; omega) q808 (by first | decide | (simp only [rmk]; omega)) hl.1 rfl (Nat.le_of_ble_eq_true rfl) (by first | decide | omega | (simp only [rmk]; omega)) dX0_free_15 (fun H locs hH hS => ?_)
    have hp4 := hO.rp (show q < aRm S by omega)
    refine hp_castQ hx hb hown (hts _ q928) hG hPB hK hH (hW.q (show q < aRm S by omega)) (hO.rk (show q < aRm S by omega)) dX0_free_18 ?_
    refine hp_gQ hx hb hts hown hK hH (hW.q (show q < aRm S by omega)) (hO.rk (show q < aRm S by omega)) (hts _ q835) dX0_free_21 ?_
    refine lv_iconst (v := nI 1) hx hb dX0_free_24 (by decide) ?_
    refine lv_isub hx hb dX0_free_25 ?_
    refine hp_callS (As := [.int place, .int (nI 0), .int ((nI (aRp S q)) - (nI 1))]) (rest := []) hx hb hml hown hts hPB hH hS (mc_in hK0 place (nI 0) ((nI (aRp S q)) - (nI 1))) 3 (lw_S q268 q269 q102 q270) (by decide +kernel) ⟨rfl, rfl⟩ (by first | decide | omega | (simp only [rmk]; omega)) rfl hl.1 rfl (Nat.le_of_ble_eq_true rfl) (by first | decide | omega | (simp only [rmk]; omega)) dX0_free_26 (fun v5 h7 H locs hp6 _ hH hS => ?_)
    obtain ⟨rfl, hq⟩ := hp6
    rw [hq] at hH
    refine lv_top (y := zI (inN place (aRp S q))) (congrArg zI (in_i0 (by omega))) ?_
    refine lvB_ne (tgt := 34) hx hb dX0_free_29 (by decide) (fun cpl => ?_) (fun cpl => ?_)
    · obtain ⟨p9, hp9, rfl⟩ := inN_t cpl
      refine lv_aload_n hx hb dX0_free_34 rfl (lv_at hl 0 rfl) ?_
      refine lv_iload_n hx hb dX0_free_35 rfl (lv_at hl 1 rfl) ?_
      refine hp_callV (As := [.int (nI q)]) (rest := []) hx hb hml hown hts hPB hK hH hS (mc_findLeast hK0 hG hO hO2 hW (q := q) (by omega) hm7 hn8) hW.x rfl rfl 1 (lw_V q1198 q1200 qs46 q102 q1201) (by decide +kernel) ⟨rfl, rfl⟩ (by first | decide | omega | (simp only [rmk]; omega)) rfl hl.1 rfl (Nat.le_of_ble_eq_true rfl) (by first | decide | omega | (simp only [rmk]; omega)) dX0_free_36 (fun v8 h10 H locs hp9 _ hH hS => ?_)
      obtain ⟨xs, lb, lg, aa, fa, pa, tg, rfl, hs9, hx9⟩ := hp9
      obtain ⟨hok, hsx, ⟨af, haa, hat⟩, ⟨ff, hfa, hff⟩, pf, hpa, hpf⟩ := hs9
      have hW := hW.X hx9
      refine lv_astore_n (lv' := [(3, .ref xs), (0, .ref (w 0)), (1, .int (nI q)), (2, .int (nI p9))]) hx hb dX0_free_39 rfl hl (by decide) rfl (fun ls hl => ?_)
      refine lv_iconst (v := nI 0) hx hb dX0_free_40 (by decide) ?_
      refine lv_istore (lv' := [(4, .int (nI 0)), (3, .ref xs), (0, .ref (w 0)), (1, .int (nI q)), (2, .int (nI p9))]) hx hb dX0_free_41 hl (by decide) rfl (fun ls hl => ?_)
      refine lv_iconst (v := nI 0) hx hb dX0_free_43 (by decide) ?_
      refine lv_istore (lv' := [(5, .int (nI 0)), (4, .int (nI 0)), (3, .ref xs), (0, .ref (w 0)), (1, .int (nI q)), (2, .int (nI p9))]) hx hb dX0_free_44 hl (by decide) rfl (fun ls hl => ?_)
      refine w_loop1 (fun (k : Nat) => aN S - k) (fun (k : Nat) H locs ls => (k ≤ aN S) ∧ HP D CL (zA s0) h10 H ∧ va_S (zA s0) s.heap H locs ∧ lv_has ls 6 [(0, .ref (w 0)), (2, .int (nI p9)), (3, .ref xs), (4, .int (nI (cntN (fun g => (lsPl (comP S (aN S)) (zL S q) g).testBit p9) k))), (5, .int (nI k))]) ?_ 0 ⟨Nat.zero_le _, hH, hS, lv_sub hl [3, 5, 2, 1, 0] rfl⟩
      intro k ih46 H locs ls hP
      obtain ⟨hk, hH, hS, hl⟩ := hP
      refine lv_iload hx hb dX0_free_46 (lv_at hl 4 rfl) ?_
      refine lv_aload_n hx hb dX0_free_48 rfl (lv_at hl 0 rfl) ?_
      refine hp_get (C := RX0) (T := TX0) (N := 14) (v := .ref (w 3)) hx hb hts in_X0 hown hK hH hW.x rfl 2 (by decide) (hts _ q214) (fun _ z => z) rfl dX0_free_49 ?_
      refine hp_siz hx hb hml hown hts hPB hK0 hK hH hS hG (hW.li 0 (by decide)) hW.ng q807 (by first | decide | (simp only [rmk]; omega)) hl.1 rfl (Nat.le_of_ble_eq_true rfl) (by first | decide | omega | (simp only [rmk]; omega)) dX0_free_52 (fun H locs hH hS => ?_)
      refine lvN_ge (tgt := 80) hx hb (by first | omega | (refine Nat.lt_of_lt_of_le (Nat.mod_lt _ ?_) ?_ <;> omega)) (by first | omega | (refine Nat.lt_of_lt_of_le (Nat.mod_lt _ ?_) ?_ <;> omega)) dX0_free_55 (by decide) (fun ck => ?_) (fun ck => ?_)
      · refine lv_iload hx hb dX0_free_80 (lv_at hl 3 rfl) ?_
        have hH := hH.X hx9
        exact hp_iret hx hb hr hlocks hH hS (by first | decide | omega | (simp only [rmk]; omega)) (by first | decide | omega | (simp only [rmk]; omega)) dX0_free_82 (⟨congrArg some (congrArg Value.int (by rw [spFree_c hp9 hn8 (by omega) ca hok, show aN S = k by omega])), rfl⟩)
      · refine lv_iload hx hb dX0_free_58 (lv_at hl 3 rfl) ?_
        refine lv_aload_n hx hb dX0_free_60 rfl (lv_at hl 2 rfl) ?_
        refine hp_getN (C := RX21) (T := TX21) (N := 9) (v := .ref pa) hx hb hts in_X21 hown hK hH hsx rfl 8 (by decide) (hG.nf hPB q1240) (fun _ z => z) rfl dX0_free_61 ?_
        refine lv_iload hx hb dX0_free_64 (lv_at hl 4 rfl) ?_
        refine hp_ild (n := 10) (j := k) (v := nI (lsPl (comP S (aN S)) (zL S q) k)) hx hb hK hH 0 hpa rfl (by first | omega | (refine Nat.lt_of_lt_of_le (Nat.mod_lt _ ?_) ?_ <;> omega)) (by first | omega | (refine Nat.lt_of_lt_of_le (Nat.mod_lt _ ?_) ?_ <;> omega)) (hpf _ (by omega)) dX0_free_66 ?_
        have hpl8 := lsPl_lt (comP S (aN S)) (zL S q) k
        refine lv_iload_n hx hb dX0_free_67 rfl (lv_at hl 1 rfl) ?_
        refine lv_ishr hx hb dX0_free_68 ?_
        refine lv_top (y := nI ((lsPl (comP S (aN S)) (zL S q) k) / 2 ^ p9)) (bi_shr (by first | omega | (refine Nat.lt_of_lt_of_le (Nat.mod_lt _ ?_) ?_ <;> omega)) (by first | omega | (refine Nat.lt_of_lt_of_le (Nat.mod_lt _ ?_) ?_ <;> omega))) ?_
        refine lv_iconst (v := nI 1) hx hb dX0_free_69 (by decide) ?_
        refine lv_iand hx hb dX0_free_70 ?_
        refine lv_top (y := zI (Nat.testBit (lsPl (comP S (aN S)) (zL S q) k) p9)) ((bi_and _ _).trans (bi_z _ _)) ?_
        refine lv_iadd hx hb dX0_free_71 ?_
        refine lv_top (y := nI (cntN (fun g => (lsPl (comP S (aN S)) (zL S q) g).testBit p9) (k + 1))) (nI_zI _ _) ?_
        refine lv_istore (lv' := [(4, .int (nI (cntN (fun g => (lsPl (comP S (aN S)) (zL S q) g).testBit p9) (k + 1)))), (0, .ref (w 0)), (2, .int (nI p9)), (3, .ref xs), (5, .int (nI k))]) hx hb dX0_free_72 hl (by decide) rfl (fun ls hl => ?_)
        refine lv_iinc (v := nI (k + 1)) (lv' := [(5, .int (nI (k + 1))), (4, .int (nI (cntN (fun g => (lsPl (comP S (aN S)) (zL S q) g).testBit p9) (k + 1)))), (0, .ref (w 0)), (2, .int (nI p9)), (3, .ref xs)]) hx hb dX0_free_74 hl (k := 4) rfl (nI_add k 1) (by decide) rfl (fun ls hl => ?_)
        refine lv_goto (tgt := 46) hx hb dX0_free_77 (by decide) ?_
        exact ih46 (k + 1) (by omega) H locs ls ⟨by omega, hH, hS, lv_sub hl [2, 3, 4, 1, 0] rfl⟩
    · refine lv_iconst (v := (-1)) hx hb dX0_free_32 (by decide) ?_
      exact hp_iret hx hb hr hlocks hH hS (by first | decide | omega | (simp only [rmk]; omega)) (by first | decide | omega | (simp only [rmk]; omega)) dX0_free_33 (⟨congrArg some (congrArg Value.int (by unfold spFree; rw [ca, nI_clamp (by omega), cpl]; rfl)), rfl⟩)
set_option maxHeartbeats 4000000 in
theorem mc_mended (hK0 : va_K D CL (TYS K) s0) {av : Nat → Nat} {ed mi : Nat} (hG : GX s0 wd av ed mi) {S : Ab} {w : Nat → Nat} {Ls : Nat → List Nat} {Jn : Nat → Nat} {Z : Nat → Nat → Int32} (hO : SOK S) (hO2 : SO2 S) (hW : CW K ed S h w Ls Jn Z) (room lim guest : Int32) : Met l yX0_mended (ws_ yX0_mended cX0_mended 6 ((Option.some Jvm.ClassFile.FieldType.int))) (rmk 16 1106 7046) (va_Pc [.ref (w 0), .int room, .int lim, .int guest] (PB s0 D CL (h))) (QR s0 D CL (fun v h1 => v = some (.int (spMended S room lim guest)) ∧ h1 = h)) 1106 7046 (zA s0) := by
  refine hp_met (by decide) (Nat.le_of_ble_eq_true rfl) hK0 ?_
  intro p e s m below meth cd ls hx hb hr hlocks hml hown hnm hts hK hPB hl hS hH hA
  have hl : lv_has ls 6 [(0, .ref (w 0)), (1, .int room), (2, .int lim), (3, .int guest)] := hl
  have hown : s.vm.findClass RX0 = some m.cls := hown
  have hn := hO.n
  have hmk := hO.mk
  have hrl := hO.rl
  have hrm := hO.rm
  have hsz := hO.sz
  have hnC : nC S = (comP S (aN S)).length := rfl
  refine lv_aload_n hx hb dX0_mended_0 rfl (lv_at hl 0 rfl) ?_
  refine lv_iload_n hx hb dX0_mended_1 rfl (lv_at hl 3 rfl) ?_
  refine hp_callV (As := [.int guest]) (rest := []) hx hb hml hown hts hPB hK hH hS (mc_guestAt hK0 hG hO hO2 hW guest) hW.x rfl rfl 1 (lw_V q875 q877 qs22 q102 q878) (by decide +kernel) ⟨rfl, rfl⟩ (by first | decide | omega | (simp only [rmk]; omega)) rfl hl.1 rfl (Nat.le_of_ble_eq_true rfl) (by first | decide | omega | (simp only [rmk]; omega)) dX0_mended_2 (fun v3 h5 H locs hp4 _ hH hS => ?_)
  rcases hp4.1 with ⟨k1, hk1, hgk1, rfl⟩ | ⟨cz2, rfl⟩
  · have hq := hp4.2; rw [hq] at hH
    subst hgk1
    have hik1 : inN (nI k1) (aN S) = true := by rw [inN_nI (by omega)]; exact decide_eq_true hk1
    have ek1 := nI_clamp (show k1 < 2 ^ 31 by omega)
    refine lv_astore (lv' := [(4, .ref ((Ls 0).getD k1 0)), (0, .ref (w 0)), (1, .int room), (2, .int lim), (3, .int (nI k1))]) hx hb dX0_mended_5 hl (by decide) rfl (fun ls hl => ?_)
    refine lv_aload_n hx hb dX0_mended_7 rfl (lv_at hl 1 rfl) ?_
    refine lv_iload_n hx hb dX0_mended_8 rfl (lv_at hl 2 rfl) ?_
    refine hp_callV (As := [.int room]) (rest := []) hx hb hml hown hts hPB hK hH hS (mc_canBeAsked hK0 hG hO hO2 hW room) hW.x rfl rfl 1 (lw_V q1194 q1196 qs45 q102 q1197) (by decide +kernel) ⟨rfl, rfl⟩ (by first | decide | omega | (simp only [rmk]; omega)) rfl hl.1 rfl (Nat.le_of_ble_eq_true rfl) (by first | decide | omega | (simp only [rmk]; omega)) dX0_mended_9 (fun v6 h8 H locs hp7 _ hH hS => ?_)
    obtain ⟨rfl, hq⟩ := hp7
    rw [hq] at hH
    refine lvB_eq (tgt := 33) hx hb dX0_mended_12 (by decide) (fun ca => ?_) (fun ca => ?_)
    · refine lv_iconst (v := (-1)) hx hb dX0_mended_33 (by decide) ?_
      exact hp_iret hx hb hr hlocks hH hS (by first | decide | omega | (simp only [rmk]; omega)) (by first | decide | omega | (simp only [rmk]; omega)) dX0_mended_34 (⟨congrArg some (congrArg Value.int (by simp [spMended, hik1, ek1, ca])), rfl⟩)
    · refine lv_iload_n hx hb dX0_mended_15 rfl (lv_at hl 4 rfl) ?_
      refine lv_iconst (v := (-1)) hx hb dX0_mended_16 (by decide) ?_
      refine lv_icmp_eq (tgt := 35) hx hb dX0_mended_17 (by decide) (fun cg1 => ?_) (fun cg1 => ?_)
      · exact absurd cg1 (nI_m1 (by omega))
      · refine lv_aload hx hb dX0_mended_20 (lv_at hl 0 rfl) ?_
        refine lv_ifnull hx hb dX0_mended_22 ?_
        refine lv_aload hx hb dX0_mended_25 (lv_at hl 0 rfl) ?_
        refine hp_getN (C := RX5) (T := TX5) (N := 6) (v := .int (zI (aCm S k1))) hx hb hts in_X5 hown hK hH (hW.g (show k1 < aN S by omega)) rfl 2 (by decide) (hG.nf hPB q542) (fun _ z => z) rfl dX0_mended_27 ?_
        refine lvB_ne (tgt := 35) hx hb dX0_mended_30 (by decide) (fun cc9 => ?_) (fun cc9 => ?_)
        · obtain ⟨q, hq0, rfl, hm7, hn8, hmq⟩ := ask_t hO ca
          obtain ⟨tg, htg, htl⟩ := hH.tagL
          have hnt := tag_no htl
          have hok9 := 0
          obtain ⟨xs, hxs, nxs⟩ := hH.fr
          refine hp_new (ci := 19) (C := RX24) (T := TX24) (N := 9) (fs := [.null, .null, .null, .null, .null, .int 0, .int 0, .int 0, .int 0]) hx hb hts in_X24 tyX24 tyX24_ok hown (hts _ q1396) (hts _ q1397) (hts _ q143) hK hH hS hA rfl (by decide) (by first | decide | omega | (simp only [rmk]; omega)) (by first | decide | omega | (simp only [rmk]; omega)) tg dX0_mended_35 (fun H _ hH hS => ?_)
          rw [← hxs] at hH ⊢
          have hH : HP D CL (zA s0) (hset h xs (.inr (19, [.null, .null, .null, .null, .null, .int 0, .int 0, .int 0, .int 0])) tg) H := hH
          have hW := hW.X (exH.new (e1 := .inr (19, [.null, .null, .null, .null, .null, .int 0, .int 0, .int 0, .int 0])) (u1 := tg) nxs)
          have e9 : (hset h xs (.inr (19, [.null, .null, .null, .null, .null, .int 0, .int 0, .int 0, .int 0])) tg) xs = some (.inr (19, [.null, .null, .null, .null, .null, .int 0, .int 0, .int 0, .int 0]), tg) := hset_self _ _ _ _
          refine lv_dup hx hb dX0_mended_38 rfl ?_
          refine lv_aload_n hx hb dX0_mended_39 rfl (lv_at hl 1 rfl) ?_
          refine hp_get (C := RX0) (T := TX0) (N := 14) (v := .ref (w 6)) hx hb hts in_X0 hown hK hH hW.x rfl 5 (by decide) (hts _ q217) (fun _ z => z) rfl dX0_mended_40 ?_
          refine lv_iload_n hx hb dX0_mended_43 rfl (lv_at hl 2 rfl) ?_
          refine hp_lget hx hb hml hown hts hPB hK0 hK hH hS hG (hW.li 3 (by decide)) (k9 := q) (by rw [hW.nq]; omega) q808 (by first | decide | (simp only [rmk]; omega)) hl.1 rfl (Nat.le_of_ble_eq_true rfl) (by first | decide | omega | (simp only [rmk]; omega)) dX0_mended_44 (fun H locs hH hS => ?_)
          have hp10 := hO.rp (show q < aRm S by omega)
          refine hp_castQ hx hb hown (hts _ q928) hG hPB hK hH (hW.q (show q < aRm S by omega)) (hO.rk (show q < aRm S by omega)) dX0_mended_47 ?_
          refine lv_iload_n hx hb dX0_mended_50 rfl (lv_at hl 2 rfl) ?_
          refine lv_iload_n hx hb dX0_mended_51 rfl (lv_at hl 3 rfl) ?_
          refine lv_aload_n hx hb dX0_mended_52 rfl (lv_at hl 1 rfl) ?_
          refine lv_iload_n hx hb dX0_mended_53 rfl (lv_at hl 2 rfl) ?_
          refine hp_callV (As := [.int (nI q)]) (rest := [.int lim, .int (nI q), .ref ((Ls 3).getD q 0), .ref xs, .ref xs]) hx hb hml hown hts hPB hK hH hS (mc_bonds hK0 hG hO hO2 hW (q := q) (by omega)) hW.x rfl rfl 1 (lw_V q1204 q1206 qs47 q102 q1207) (by decide +kernel) ⟨rfl, rfl⟩ (by first | decide | omega | (simp only [rmk]; omega)) rfl hl.1 rfl (Nat.le_of_ble_eq_true rfl) (by first | decide | omega | (simp only [rmk]; omega)) dX0_mended_54 (fun v12 h14 H locs hp13 _ hH hS => ?_)
          obtain ⟨ab11, jb11, tb11, sb11, Lb11, rfl, hAb11, hLb11, hxb11, hgb11, hub11, hvb11⟩ := hp13
          have hW := hW.X hxb11
          have htx := hgb11 _ _ _ e9
          have hsx1 := hxb11 _ _ _ e9
          refine lv_aload_n hx hb dX0_mended_57 rfl (lv_at hl 1 rfl) ?_
          refine hp_callV (As := []) (rest := [.ref ab11, .int lim, .int (nI q), .ref ((Ls 3).getD q 0), .ref xs, .ref xs]) hx hb hml hown hts hPB hK hH hS (mc_coming hK0 hG hO hO2 hW) hW.x rfl rfl 0 (lw_V q1141 q1143 qs37 q102 q1144) (by decide +kernel) ⟨rfl, rfl⟩ (by first | decide | omega | (simp only [rmk]; omega)) rfl hl.1 rfl (Nat.le_of_ble_eq_true rfl) (by first | decide | omega | (simp only [rmk]; omega)) dX0_mended_58 (fun v16 h18 H locs hp17 _ hH hS => ?_)
          obtain ⟨lc15, jlc15, tlc15, rfl, hAlc15, hxlc15, hnlc15, htlc15⟩ := hp17
          have hW := hW.X hxlc15
          have hnc := nC_le S
          have hsx2 := hxlc15 _ _ _ hsx1
          have hX9 : SRX S q K ed Ls h18 ab11 lc15 tg := ⟨⟨tb11, jb11, sb11, Lb11, hAb11.X hxlc15, bno_keep hLb11 (fun b e u => hxlc15 _ _ _ u), by omega, by omega⟩, tlc15, jlc15, hAlc15, fun e => hnlc15 _ _ (e ▸ hsx1)⟩
          refine hp_callI (As := [.ref ((Ls 3).getD q 0), .int (nI q), .int lim, .ref ab11, .ref lc15]) (rest := [.ref xs]) hx hb hml hown hts hPB hH hS (mc_init_D hK0 hG (mem := (comP S (aN S))) hsx2) 5 q1398 q1399 q143 q1400 rfl (by decide +kernel) ⟨rfl, rfl⟩ (by first | decide | omega | (simp only [rmk]; omega)) rfl hl.1 rfl (Nat.le_of_ble_eq_true rfl) (by first | decide | omega | (simp only [rmk]; omega)) dX0_mended_61 (fun v19 h21 H locs hp20 _ hH hS => ?_)
          obtain ⟨rfl, aa, fa, naf, hs9, hf9, ho9⟩ := hp20
          have hW := hW.fr hf9 (by omega) ho9
          have hX9 := hX9.kp hf9 ho9
          have hsx3 := hs9.2.1
          refine lv_astore (lv' := [(5, .ref xs), (4, .ref ((Ls 0).getD k1 0)), (0, .ref (w 0)), (1, .int (nI q)), (2, .int lim), (3, .int (nI k1))]) hx hb dX0_mended_64 hl (by decide) rfl (fun ls hl => ?_)
          refine lv_aload hx hb dX0_mended_66 (lv_at hl 0 rfl) ?_
          refine hp_callU (As := []) (rest := []) (owner := "FirstIn$Search") (x := ⟨"FirstIn$Mended", "run", "()V"⟩) hx hb hml hown hts hPB hK hH hS (mc_run_D hK0 hG hO hO2 hq0 hm7 hn8 naf (by omega) hW hX9 hs9) hsx3 rfl rfl 0 (va_cwU 0 hts (lw_U q1420 q1421 q1422 q1277 q139 q1278) rfl rfl rfl rfl (by decide +kernel) (by first | decide | omega | (simp only [rmk]; omega))) rfl hl.1 rfl (Nat.le_of_ble_eq_true rfl) (by first | decide | omega | (simp only [rmk]; omega)) dX0_mended_68 (fun v22 h24 H locs hp23 _ hH hS => ?_)
          obtain ⟨rfl, hs8, hf8, ho8⟩ := hp23
          obtain ⟨hok, hsx, ⟨af, haa, hat⟩, ff, hfa, hff⟩ := hs8
          have hxx := ex_add hnt (ex_add hnt (ex_tr (exH.new nxs) (ex_tr hxb11 hxlc15)) hf9) hf8
          have hzb : mdFew (zD S q lim) ≤ 1000000 := hok.1
          refine lv_aload hx hb dX0_mended_71 (lv_at hl 0 rfl) ?_
          refine hp_getN (C := RX24) (T := TX24) (N := 9) (v := .int (nI (mdFew (zD S q lim)))) hx hb hts in_X24 hown hK hH hsx rfl 8 (by decide) (hG.nf hPB q1406) (fun _ z => z) rfl dX0_mended_73 ?_
          refine lv_ldcw (v := 1000000) hx hb hown (hts _ q1171) dX0_mended_76 ?_
          refine lv_top (y := nI 1000000) (by decide) ?_
          refine lvN_ne (tgt := 86) hx hb (by first | omega | (refine Nat.lt_of_lt_of_le (Nat.mod_lt _ ?_) ?_ <;> omega)) (by first | omega | (refine Nat.lt_of_lt_of_le (Nat.mod_lt _ ?_) ?_ <;> omega)) dX0_mended_79 (by decide) (fun c9f => ?_) (fun c9f => ?_)
          · refine lv_iload_n hx hb dX0_mended_86 rfl (lv_at hl 5 rfl) ?_
            refine lv_iconst (v := (-1)) hx hb dX0_mended_87 (by decide) ?_
            refine lv_icmp_ne (tgt := 99) hx hb dX0_mended_88 (by decide) (fun cg2 => ?_) (fun cg2 => ?_)
            · refine lv_aload hx hb dX0_mended_99 (lv_at hl 0 rfl) ?_
              refine hp_get (C := RX24) (T := TX24) (N := 9) (v := .ref fa) hx hb hts in_X24 hown hK hH hsx rfl 4 (by decide) (hts _ q1251) (u_same (hts _ q1252)) rfl dX0_mended_101 ?_
              refine lv_iload_n hx hb dX0_mended_104 rfl (lv_at hl 5 rfl) ?_
              refine hp_ild (n := 10) (j := k1) (v := mdFst (comP S (aN S)) (zD S q lim) k1) hx hb hK hH 0 hfa rfl (by first | omega | (refine Nat.lt_of_lt_of_le (Nat.mod_lt _ ?_) ?_ <;> omega)) (by first | omega | (refine Nat.lt_of_lt_of_le (Nat.mod_lt _ ?_) ?_ <;> omega)) (hff _ (by omega)) dX0_mended_105 ?_
              have hH := hH.X hxx
              exact hp_iret hx hb hr hlocks hH hS (by first | decide | omega | (simp only [rmk]; omega)) (by first | decide | omega | (simp only [rmk]; omega)) dX0_mended_106 (⟨congrArg some (congrArg Value.int ((spMended_c (by omega) ca hm7 hok).2.2 c9f hn _ hk1 cc9).symm), rfl⟩)
            · exact absurd cg2 (nI_m1 (by omega))
          · refine lv_iconst (v := (-1)) hx hb dX0_mended_82 (by decide) ?_
            refine lv_goto (tgt := 106) hx hb dX0_mended_83 (by decide) ?_
            have hH := hH.X hxx
            exact hp_iret hx hb hr hlocks hH hS (by first | decide | omega | (simp only [rmk]; omega)) (by first | decide | omega | (simp only [rmk]; omega)) dX0_mended_106 (⟨congrArg some (congrArg Value.int ((spMended_c (by omega) ca hm7 hok).1 c9f _ (by rw [hik1, ek1, cc9]; simp)).symm), rfl⟩)
        · refine lv_iconst (v := (-1)) hx hb dX0_mended_33 (by decide) ?_
          exact hp_iret hx hb hr hlocks hH hS (by first | decide | omega | (simp only [rmk]; omega)) (by first | decide | omega | (simp only [rmk]; omega)) dX0_mended_34 (⟨congrArg some (congrArg Value.int (by simp [spMended, hik1, ek1, ca, cg1, cc9])), rfl⟩)
  · have hq := hp4.2; rw [hq] at hH
    refine lv_astoreN (lv' := [(4, .null), (0, .ref (w 0)), (1, .int room), (2, .int lim), (3, .int guest)]) hx hb dX0_mended_5 hl (by decide) rfl (fun ls hl => ?_)
    refine lv_aload_n hx hb dX0_mended_7 rfl (lv_at hl 1 rfl) ?_
    refine lv_iload_n hx hb dX0_mended_8 rfl (lv_at hl 2 rfl) ?_
    refine hp_callV (As := [.int room]) (rest := []) hx hb hml hown hts hPB hK hH hS (mc_canBeAsked hK0 hG hO hO2 hW room) hW.x rfl rfl 1 (lw_V q1194 q1196 qs45 q102 q1197) (by decide +kernel) ⟨rfl, rfl⟩ (by first | decide | omega | (simp only [rmk]; omega)) rfl hl.1 rfl (Nat.le_of_ble_eq_true rfl) (by first | decide | omega | (simp only [rmk]; omega)) dX0_mended_9 (fun v25 h27 H locs hp26 _ hH hS => ?_)
    obtain ⟨rfl, hq⟩ := hp26
    rw [hq] at hH
    refine lvB_eq (tgt := 33) hx hb dX0_mended_12 (by decide) (fun ca => ?_) (fun ca => ?_)
    · refine lv_iconst (v := (-1)) hx hb dX0_mended_33 (by decide) ?_
      exact hp_iret hx hb hr hlocks hH hS (by first | decide | omega | (simp only [rmk]; omega)) (by first | decide | omega | (simp only [rmk]; omega)) dX0_mended_34 (⟨congrArg some (congrArg Value.int (by simp [spMended, cz2, ca])), rfl⟩)
    · refine lv_iload_n hx hb dX0_mended_15 rfl (lv_at hl 4 rfl) ?_
      refine lv_iconst (v := (-1)) hx hb dX0_mended_16 (by decide) ?_
      refine lv_icmp_eq (tgt := 35) hx hb dX0_mended_17 (by decide) (fun cg1 => ?_) (fun cg1 => ?_)
      · obtain ⟨q, hq0, rfl, hm7, hn8, hmq⟩ := ask_t hO ca
        obtain ⟨tg, htg, htl⟩ := hH.tagL
        have hnt := tag_no htl
        have hok9 := 0
        obtain ⟨xs, hxs, nxs⟩ := hH.fr
        refine hp_new (ci := 19) (C := RX24) (T := TX24) (N := 9) (fs := [.null, .null, .null, .null, .null, .int 0, .int 0, .int 0, .int 0]) hx hb hts in_X24 tyX24 tyX24_ok hown (hts _ q1396) (hts _ q1397) (hts _ q143) hK hH hS hA rfl (by decide) (by first | decide | omega | (simp only [rmk]; omega)) (by first | decide | omega | (simp only [rmk]; omega)) tg dX0_mended_35 (fun H _ hH hS => ?_)
        rw [← hxs] at hH ⊢
        have hH : HP D CL (zA s0) (hset h xs (.inr (19, [.null, .null, .null, .null, .null, .int 0, .int 0, .int 0, .int 0])) tg) H := hH
        have hW := hW.X (exH.new (e1 := .inr (19, [.null, .null, .null, .null, .null, .int 0, .int 0, .int 0, .int 0])) (u1 := tg) nxs)
        have e28 : (hset h xs (.inr (19, [.null, .null, .null, .null, .null, .int 0, .int 0, .int 0, .int 0])) tg) xs = some (.inr (19, [.null, .null, .null, .null, .null, .int 0, .int 0, .int 0, .int 0]), tg) := hset_self _ _ _ _
        refine lv_dup hx hb dX0_mended_38 rfl ?_
        refine lv_aload_n hx hb dX0_mended_39 rfl (lv_at hl 1 rfl) ?_
        refine hp_get (C := RX0) (T := TX0) (N := 14) (v := .ref (w 6)) hx hb hts in_X0 hown hK hH hW.x rfl 5 (by decide) (hts _ q217) (fun _ z => z) rfl dX0_mended_40 ?_
        refine lv_iload_n hx hb dX0_mended_43 rfl (lv_at hl 2 rfl) ?_
        refine hp_lget hx hb hml hown hts hPB hK0 hK hH hS hG (hW.li 3 (by decide)) (k9 := q) (by rw [hW.nq]; omega) q808 (by first | decide | (simp only [rmk]; omega)) hl.1 rfl (Nat.le_of_ble_eq_true rfl) (by first | decide | omega | (simp only [rmk]; omega)) dX0_mended_44 (fun H locs hH hS => ?_)
        have hp29 := hO.rp (show q < aRm S by omega)
        refine hp_castQ hx hb hown (hts _ q928) hG hPB hK hH (hW.q (show q < aRm S by omega)) (hO.rk (show q < aRm S by omega)) dX0_mended_47 ?_
        refine lv_iload_n hx hb dX0_mended_50 rfl (lv_at hl 2 rfl) ?_
        refine lv_iload_n hx hb dX0_mended_51 rfl (lv_at hl 3 rfl) ?_
        refine lv_aload_n hx hb dX0_mended_52 rfl (lv_at hl 1 rfl) ?_
        refine lv_iload_n hx hb dX0_mended_53 rfl (lv_at hl 2 rfl) ?_
        refine hp_callV (As := [.int (nI q)]) (rest := [.int lim, .int (nI q), .ref ((Ls 3).getD q 0), .ref xs, .ref xs]) hx hb hml hown hts hPB hK hH hS (mc_bonds hK0 hG hO hO2 hW (q := q) (by omega)) hW.x rfl rfl 1 (lw_V q1204 q1206 qs47 q102 q1207) (by decide +kernel) ⟨rfl, rfl⟩ (by first | decide | omega | (simp only [rmk]; omega)) rfl hl.1 rfl (Nat.le_of_ble_eq_true rfl) (by first | decide | omega | (simp only [rmk]; omega)) dX0_mended_54 (fun v31 h33 H locs hp32 _ hH hS => ?_)
        obtain ⟨ab30, jb30, tb30, sb30, Lb30, rfl, hAb30, hLb30, hxb30, hgb30, hub30, hvb30⟩ := hp32
        have hW := hW.X hxb30
        have htx := hgb30 _ _ _ e28
        have hsx1 := hxb30 _ _ _ e28
        refine lv_aload_n hx hb dX0_mended_57 rfl (lv_at hl 1 rfl) ?_
        refine hp_callV (As := []) (rest := [.ref ab30, .int lim, .int (nI q), .ref ((Ls 3).getD q 0), .ref xs, .ref xs]) hx hb hml hown hts hPB hK hH hS (mc_coming hK0 hG hO hO2 hW) hW.x rfl rfl 0 (lw_V q1141 q1143 qs37 q102 q1144) (by decide +kernel) ⟨rfl, rfl⟩ (by first | decide | omega | (simp only [rmk]; omega)) rfl hl.1 rfl (Nat.le_of_ble_eq_true rfl) (by first | decide | omega | (simp only [rmk]; omega)) dX0_mended_58 (fun v35 h37 H locs hp36 _ hH hS => ?_)
        obtain ⟨lc34, jlc34, tlc34, rfl, hAlc34, hxlc34, hnlc34, htlc34⟩ := hp36
        have hW := hW.X hxlc34
        have hnc := nC_le S
        have hsx2 := hxlc34 _ _ _ hsx1
        have hX9 : SRX S q K ed Ls h37 ab30 lc34 tg := ⟨⟨tb30, jb30, sb30, Lb30, hAb30.X hxlc34, bno_keep hLb30 (fun b e u => hxlc34 _ _ _ u), by omega, by omega⟩, tlc34, jlc34, hAlc34, fun e => hnlc34 _ _ (e ▸ hsx1)⟩
        refine hp_callI (As := [.ref ((Ls 3).getD q 0), .int (nI q), .int lim, .ref ab30, .ref lc34]) (rest := [.ref xs]) hx hb hml hown hts hPB hH hS (mc_init_D hK0 hG (mem := (comP S (aN S))) hsx2) 5 q1398 q1399 q143 q1400 rfl (by decide +kernel) ⟨rfl, rfl⟩ (by first | decide | omega | (simp only [rmk]; omega)) rfl hl.1 rfl (Nat.le_of_ble_eq_true rfl) (by first | decide | omega | (simp only [rmk]; omega)) dX0_mended_61 (fun v38 h40 H locs hp39 _ hH hS => ?_)
        obtain ⟨rfl, aa, fa, naf, hs9, hf9, ho9⟩ := hp39
        have hW := hW.fr hf9 (by omega) ho9
        have hX9 := hX9.kp hf9 ho9
        have hsx3 := hs9.2.1
        refine lv_astore (lv' := [(5, .ref xs), (4, .null), (0, .ref (w 0)), (1, .int (nI q)), (2, .int lim), (3, .int guest)]) hx hb dX0_mended_64 hl (by decide) rfl (fun ls hl => ?_)
        refine lv_aload hx hb dX0_mended_66 (lv_at hl 0 rfl) ?_
        refine hp_callU (As := []) (rest := []) (owner := "FirstIn$Search") (x := ⟨"FirstIn$Mended", "run", "()V"⟩) hx hb hml hown hts hPB hK hH hS (mc_run_D hK0 hG hO hO2 hq0 hm7 hn8 naf (by omega) hW hX9 hs9) hsx3 rfl rfl 0 (va_cwU 0 hts (lw_U q1420 q1421 q1422 q1277 q139 q1278) rfl rfl rfl rfl (by decide +kernel) (by first | decide | omega | (simp only [rmk]; omega))) rfl hl.1 rfl (Nat.le_of_ble_eq_true rfl) (by first | decide | omega | (simp only [rmk]; omega)) dX0_mended_68 (fun v41 h43 H locs hp42 _ hH hS => ?_)
        obtain ⟨rfl, hs8, hf8, ho8⟩ := hp42
        obtain ⟨hok, hsx, ⟨af, haa, hat⟩, ff, hfa, hff⟩ := hs8
        have hxx := ex_add hnt (ex_add hnt (ex_tr (exH.new nxs) (ex_tr hxb30 hxlc34)) hf9) hf8
        have hzb : mdFew (zD S q lim) ≤ 1000000 := hok.1
        refine lv_aload hx hb dX0_mended_71 (lv_at hl 0 rfl) ?_
        refine hp_getN (C := RX24) (T := TX24) (N := 9) (v := .int (nI (mdFew (zD S q lim)))) hx hb hts in_X24 hown hK hH hsx rfl 8 (by decide) (hG.nf hPB q1406) (fun _ z => z) rfl dX0_mended_73 ?_
        refine lv_ldcw (v := 1000000) hx hb hown (hts _ q1171) dX0_mended_76 ?_
        refine lv_top (y := nI 1000000) (by decide) ?_
        refine lvN_ne (tgt := 86) hx hb (by first | omega | (refine Nat.lt_of_lt_of_le (Nat.mod_lt _ ?_) ?_ <;> omega)) (by first | omega | (refine Nat.lt_of_lt_of_le (Nat.mod_lt _ ?_) ?_ <;> omega)) dX0_mended_79 (by decide) (fun c9f => ?_) (fun c9f => ?_)
        · refine lv_iload_n hx hb dX0_mended_86 rfl (lv_at hl 5 rfl) ?_
          refine lv_iconst (v := (-1)) hx hb dX0_mended_87 (by decide) ?_
          refine lv_icmp_ne (tgt := 99) hx hb dX0_mended_88 (by decide) (fun cg2 => ?_) (fun cg2 => ?_)
          · exact absurd cg1 cg2
          · refine lv_aload hx hb dX0_mended_91 (lv_at hl 0 rfl) ?_
            refine hp_getN (C := RX24) (T := TX24) (N := 9) (v := .int (nI (mdFew (zD S q lim)))) hx hb hts in_X24 hown hK hH hsx rfl 8 (by decide) (hG.nf hPB q1406) (fun _ z => z) rfl dX0_mended_93 ?_
            refine lv_goto (tgt := 106) hx hb dX0_mended_96 (by decide) ?_
            have hH := hH.X hxx
            exact hp_iret hx hb hr hlocks hH hS (by first | decide | omega | (simp only [rmk]; omega)) (by first | decide | omega | (simp only [rmk]; omega)) dX0_mended_106 (⟨congrArg some (congrArg Value.int (by rw [cg1]; exact ((spMended_c (by omega) ca hm7 hok).2.1 c9f).symm)), rfl⟩)
        · refine lv_iconst (v := (-1)) hx hb dX0_mended_82 (by decide) ?_
          refine lv_goto (tgt := 106) hx hb dX0_mended_83 (by decide) ?_
          have hH := hH.X hxx
          exact hp_iret hx hb hr hlocks hH hS (by first | decide | omega | (simp only [rmk]; omega)) (by first | decide | omega | (simp only [rmk]; omega)) dX0_mended_106 (⟨congrArg some (congrArg Value.int ((spMended_c (by omega) ca hm7 hok).1 c9f _ (by rw [cg1]; simp)).symm), rfl⟩)
      · refine lv_aloadN hx hb dX0_mended_20 (lv_at hl 0 rfl) ?_
        refine lv_ifnullN (tgt := 33) hx hb dX0_mended_22 (by decide) ?_
        refine lv_iconst (v := (-1)) hx hb dX0_mended_33 (by decide) ?_
        exact hp_iret hx hb hr hlocks hH hS (by first | decide | omega | (simp only [rmk]; omega)) (by first | decide | omega | (simp only [rmk]; omega)) dX0_mended_34 (⟨congrArg some (congrArg Value.int (by simp [spMended, cz2, ca, cg1])), rfl⟩)
end MODEL
