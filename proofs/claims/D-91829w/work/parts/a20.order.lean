/-! by gen/mspec.py -/
set_option maxRecDepth 100000
section MODEL
variable {l : Launch} {s0 : State} {D : va_G} {K : Nat → ClassId} {wd : Nat → Nat} {o : Nat} {h : Hp} {I : Nat → Int32} {V : Nat → Nat → Int32} {J : Nat → Nat → Int64}
set_option maxHeartbeats 4000000 in
theorem mc_isAp (hK0 : va_K D CL (TYS K) s0) {av : Nat → Nat} {ed mi : Nat} (hG : GX s0 wd av ed mi) {S : Ab} {w : Nat → Nat} {Ls : Nat → List Nat} {Jn : Nat → Nat} {Z : Nat → Nat → Int32} (hO : SOK S) (hO2 : SO2 S) (hW : CW K ed S h w Ls Jn Z) {x : Nat} {y : Nat} {A : Gr} (hA0 : rowZ A Z) (hx0 : x < 10) (hy0 : y < 10) : Met l yX0_isAbove (ws_ yX0_isAbove cX0_isAbove 3 ((Option.some Jvm.ClassFile.FieldType.boolean))) (rmk 0 0 0) (va_Pc [.ref (w 0), .int (nI x), .int (nI y)] (PB s0 D CL (h))) (QR s0 D CL (fun v h1 => v = some (.int (zI (A x y))) ∧ h1 = h)) 0 0 (zA s0) := by
  refine hp_met (by decide) (Nat.le_of_ble_eq_true rfl) hK0 ?_
  intro p e s m below meth cd ls hx hb hr hlocks hml hown hnm hts hK hPB hl hS hH hA
  have hl : lv_has ls 3 [(0, .ref (w 0)), (1, .int (nI x)), (2, .int (nI y))] := hl
  have hown : s.vm.findClass RX0 = some m.cls := hown
  have hn := hO.n
  have hmk := hO.mk
  have hrl := hO.rl
  have hrm := hO.rm
  have hsz := hO.sz
  refine lv_aload_n hx hb dX0_isAbove_0 rfl (lv_at hl 0 rfl) ?_
  refine hp_get (C := RX0) (T := TX0) (N := 14) (v := .ref (w 7)) hx hb hts in_X0 hown hK hH hW.x rfl 7 (by decide) (hts _ q219) (fun _ z => z) rfl dX0_isAbove_1 ?_
  refine lv_iload_n hx hb dX0_isAbove_4 rfl (lv_at hl 1 rfl) ?_
  refine hp_ild (n := 10) (j := x) (v := nI (ofB (A x) 10)) hx hb hK hH 0 (hW.ar 0 (by decide)) rfl (by first | omega | (refine Nat.lt_of_lt_of_le (Nat.mod_lt _ ?_) ?_ <;> omega)) (by first | omega | (refine Nat.lt_of_lt_of_le (Nat.mod_lt _ ?_) ?_ <;> omega)) (hA0 x hx0) dX0_isAbove_5 ?_
  refine lv_iload_n hx hb dX0_isAbove_6 rfl (lv_at hl 2 rfl) ?_
  refine lv_ishr hx hb dX0_isAbove_7 ?_
  refine lv_top (y := nI ((ofB (A x) 10) / 2 ^ y)) (bi_shr (Nat.lt_of_lt_of_le (ofB_10 _) (by decide)) (by first | omega | (refine Nat.lt_of_lt_of_le (Nat.mod_lt _ ?_) ?_ <;> omega))) ?_
  refine lv_iconst (v := nI 1) hx hb dX0_isAbove_8 (by decide) ?_
  refine lv_iand hx hb dX0_isAbove_9 ?_
  refine lv_top (y := zI (Nat.testBit (ofB (A x) 10) y)) ((bi_and _ _).trans (bi_z _ _)) ?_
  refine lv_iconst (v := nI 1) hx hb dX0_isAbove_10 (by decide) ?_
  refine lvB_ne1 (tgt := 18) hx hb dX0_isAbove_11 (by decide) (fun c1 => ?_) (fun c1 => ?_)
  · refine lv_iconst (v := nI 0) hx hb dX0_isAbove_18 (by decide) ?_
    exact hp_zret hx hb hr rfl hlocks hH hS (by decide) (by decide) dX0_isAbove_19 (⟨congrArg some (congrArg Value.int (zI_0 ((ofB_at hy0).symm.trans c1))), rfl⟩)
  · refine lv_iconst (v := nI 1) hx hb dX0_isAbove_14 (by decide) ?_
    refine lv_goto (tgt := 19) hx hb dX0_isAbove_15 (by decide) ?_
    exact hp_zret hx hb hr rfl hlocks hH hS (by decide) (by decide) dX0_isAbove_19 (⟨congrArg some (congrArg Value.int (zI_1 ((ofB_at hy0).symm.trans c1))), rfl⟩)
set_option maxHeartbeats 4000000 in
theorem mc_held (hK0 : va_K D CL (TYS K) s0) {av : Nat → Nat} {ed mi : Nat} (hG : GX s0 wd av ed mi) {S : Ab} {w : Nat → Nat} {Ls : Nat → List Nat} {Jn : Nat → Nat} {Z : Nat → Nat → Int32} (hO : SOK S) (hO2 : SO2 S) (hW : CW K ed S h w Ls Jn Z) {la tl j g : Nat} {L : List Nat} {A : Gr} (hAl : AL (K 4) ed h la tl (gL Ls L) j) (hL : ∀ u ∈ L, u < aN S) (hLl : L.length ≤ 10) (hab : rowZ A Z) (hg : g < 10) : Met l yX0_isHeldBack (ws_ yX0_isHeldBack cX0_isHeldBack 4 ((Option.some Jvm.ClassFile.FieldType.boolean))) (rmk 3 0 0) (va_Pc [.ref (w 0), .ref la, .int (nI g)] (PB s0 D CL (h))) (QR s0 D CL (fun v h1 => v = some (.int (zI (heldB A L g))) ∧ h1 = h)) 0 0 (zA s0) := by
  refine hp_met (by decide) (Nat.le_of_ble_eq_true rfl) hK0 ?_
  intro p e s m below meth cd ls hx hb hr hlocks hml hown hnm hts hK hPB hl hS hH hA
  have hl : lv_has ls 4 [(0, .ref (w 0)), (1, .ref la), (2, .int (nI g))] := hl
  have hown : s.vm.findClass RX0 = some m.cls := hown
  have hn := hO.n
  have hmk := hO.mk
  have hrl := hO.rl
  have hrm := hO.rm
  have hsz := hO.sz
  refine lv_iconst (v := nI 0) hx hb dX0_isHeldBack_0 (by decide) ?_
  refine lv_istore_n (lv' := [(3, .int (nI 0)), (0, .ref (w 0)), (1, .ref la), (2, .int (nI g))]) hx hb dX0_isHeldBack_1 rfl hl (by decide) rfl (fun ls hl => ?_)
  refine w_loop1 (fun (k : Nat) => L.length - k) (fun (k : Nat) H locs ls => (k ≤ L.length) ∧ (∀ u, u < k → ¬ A (L.getD u 0) g = true) ∧ HP D CL (zA s0) h H ∧ va_S (zA s0) s.heap H locs ∧ lv_has ls 4 [(0, .ref (w 0)), (1, .ref la), (2, .int (nI g)), (3, .int (nI k))]) ?_ 0 ⟨Nat.zero_le _, fun u hu => absurd hu (Nat.not_lt_zero _), hH, hS, lv_sub hl [1, 2, 3, 0] rfl⟩
  intro k ih2 H locs ls hP
  obtain ⟨hk, hno, hH, hS, hl⟩ := hP
  refine lv_iload_n hx hb dX0_isHeldBack_2 rfl (lv_at hl 3 rfl) ?_
  refine lv_aload_n hx hb dX0_isHeldBack_3 rfl (lv_at hl 1 rfl) ?_
  refine hp_siz hx hb hml hown hts hPB hK0 hK hH hS hG hAl gL_len q807 (by first | decide | (simp only [rmk]; omega)) hl.1 rfl (Nat.le_of_ble_eq_true rfl) (by decide) dX0_isHeldBack_4 (fun H locs hH hS => ?_)
  refine lvN_ge (tgt := 37) hx hb (by first | omega | (refine Nat.lt_of_lt_of_le (Nat.mod_lt _ ?_) ?_ <;> omega)) (by first | omega | (refine Nat.lt_of_lt_of_le (Nat.mod_lt _ ?_) ?_ <;> omega)) dX0_isHeldBack_7 (by decide) (fun c1 => ?_) (fun c1 => ?_)
  · refine lv_iconst (v := nI 0) hx hb dX0_isHeldBack_37 (by decide) ?_
    exact hp_zret hx hb hr rfl hlocks hH hS (by decide) (by decide) dX0_isHeldBack_38 (⟨congrArg some (congrArg Value.int (zI_0 (held_f (by rw [← show k = L.length by omega]; exact hno)))), rfl⟩)
  · refine lv_aload_n hx hb dX0_isHeldBack_10 rfl (lv_at hl 0 rfl) ?_
    refine lv_aload_n hx hb dX0_isHeldBack_11 rfl (lv_at hl 1 rfl) ?_
    refine lv_iload_n hx hb dX0_isHeldBack_12 rfl (lv_at hl 3 rfl) ?_
    refine hp_lget hx hb hml hown hts hPB hK0 hK hH hS hG hAl (k9 := k) (by rw [gL_len]; omega) q808 (by first | decide | (simp only [rmk]; omega)) hl.1 rfl (Nat.le_of_ble_eq_true rfl) (by decide) dX0_isHeldBack_13 (fun H locs hH hS => ?_)
    have hm2 : L.getD k 0 < aN S := hL _ (getD_mem (by omega))
    refine lv_topv (y := .ref ((Ls 0).getD (L.getD k 0) 0)) (gL_get (by omega)) ?_
    refine va_castE hx hb hown (hts _ q809) (hp_rec hK hH (hW.g (show L.getD k 0 < aN S by omega)) rfl) dX0_isHeldBack_16 ?_
    refine hp_get (C := RX5) (T := TX5) (N := 6) (v := .int (nI (L.getD k 0))) hx hb hts in_X5 hown hK hH (hW.g (show L.getD k 0 < aN S by omega)) rfl 1 (by decide) (hts _ q562) (u_same (hts _ q555)) rfl dX0_isHeldBack_19 ?_
    refine lv_iload_n hx hb dX0_isHeldBack_22 rfl (lv_at hl 2 rfl) ?_
    refine hp_callV (As := [.int (nI (L.getD k 0)), .int (nI g)]) (rest := []) hx hb hml hown hts hPB hK hH hS (mc_isAp hK0 hG hO hO2 hW (A := A) (x := L.getD k 0) (y := g) hab (by omega) (by omega)) hW.x rfl rfl 2 (lw_V q1107 q1109 qs33 q102 q1110) (by decide +kernel) ⟨rfl, rfl⟩ (by decide) rfl hl.1 rfl (Nat.le_of_ble_eq_true rfl) (by decide) dX0_isHeldBack_23 (fun v3 h5 H locs hp4 _ hH hS => ?_)
    obtain ⟨rfl, hq⟩ := hp4
    rw [hq] at hH
    refine lvB_eq (tgt := 31) hx hb dX0_isHeldBack_26 (by decide) (fun c1 => ?_) (fun c1 => ?_)
    · refine lv_iinc (v := nI (k + 1)) (lv' := [(3, .int (nI (k + 1))), (0, .ref (w 0)), (1, .ref la), (2, .int (nI g))]) hx hb dX0_isHeldBack_31 hl (k := 3) rfl (nI_add k 1) (by decide) rfl (fun ls hl => ?_)
      refine lv_goto (tgt := 2) hx hb dX0_isHeldBack_34 (by decide) ?_
      exact ih2 (k + 1) (by omega) H locs ls ⟨by omega, no_up hno (by rw [c1]; decide), hH, hS, lv_sub hl [1, 2, 3, 0] rfl⟩
    · refine lv_iconst (v := nI 1) hx hb dX0_isHeldBack_29 (by decide) ?_
      exact hp_zret hx hb hr rfl hlocks hH hS (by decide) (by decide) dX0_isHeldBack_30 (⟨congrArg some (congrArg Value.int (zI_1 (held_t (show k < L.length by omega) c1))), rfl⟩)
set_option maxHeartbeats 4000000 in
theorem mc_order (hK0 : va_K D CL (TYS K) s0) {av : Nat → Nat} {ed mi : Nat} (hG : GX s0 wd av ed mi) {S : Ab} {w : Nat → Nat} {Ls : Nat → List Nat} {Jn : Nat → Nat} {Z : Nat → Nat → Int32} (hO : SOK S) (hO2 : SO2 S) (hW : CW K ed S h w Ls Jn Z) (room k : Int32) : Met l yX0_order (ws_ yX0_order cX0_order 6 ((Option.some Jvm.ClassFile.FieldType.int))) (rmk 8 3 28) (va_Pc [.ref (w 0), .int room, .int k] (PB s0 D CL (h))) (QR s0 D CL (fun v h1 => v = some (.int (spOrder S room k)) ∧ ∃ Z1, h1 = zset h K w S Z1)) 3 28 (zA s0) := by
  refine hp_met (by decide) (Nat.le_of_ble_eq_true rfl) hK0 ?_
  intro p e s m below meth cd ls hx hb hr hlocks hml hown hnm hts hK hPB hl hS hH hA
  have hl : lv_has ls 6 [(0, .ref (w 0)), (1, .int room), (2, .int k)] := hl
  have hown : s.vm.findClass RX0 = some m.cls := hown
  have hn := hO.n
  have hmk := hO.mk
  have hrl := hO.rl
  have hrm := hO.rm
  have hsz := hO.sz
  have hW0 := hW
  have hW := hW0.z Z
  have hH : HP D CL (zA s0) (zset h K w S Z) s.heap := by rw [zset_self hW0]; exact hH
  have hWo := hW0
  refine lv_aload_n hx hb dX0_order_0 rfl (lv_at hl 0 rfl) ?_
  refine hp_callV (As := []) (rest := []) hx hb hml hown hts hPB hK hH hS (mc_coming hK0 hG hO hO2 hW) hW.x rfl rfl 0 (lw_V q1141 q1143 qs37 q102 q1144) (by decide +kernel) ⟨rfl, rfl⟩ (by decide) rfl hl.1 rfl (Nat.le_of_ble_eq_true rfl) (by decide) dX0_order_1 (fun v2 h4 H locs hp3 _ hH hS => ?_)
  obtain ⟨lc1, jlc1, tlc1, rfl, hAlc1, hxlc1, hnlc1, htlc1⟩ := hp3
  have hW := hW.X hxlc1
  have hnc := nC_le S
  have hWb := hW
  have hH : HP D CL (zA s0) (zset h4 K w S Z) H := by rw [zset_self hWb]; exact hH
  have hW := hWb.z Z
  refine lv_astore_n (lv' := [(3, .ref lc1), (0, .ref (w 0)), (1, .int room), (2, .int k)]) hx hb dX0_order_4 rfl hl (by decide) rfl (fun ls hl => ?_)
  refine lv_aload_n hx hb dX0_order_5 rfl (lv_at hl 1 rfl) ?_
  refine lv_iload_n hx hb dX0_order_6 rfl (lv_at hl 2 rfl) ?_
  refine hp_callV (As := [.int room]) (rest := []) hx hb hml hown hts hPB hK hH hS (mc_roomAt hK0 hG hO hO2 hW room) hW.x rfl rfl 1 (lw_V q924 q926 qs24 q102 q927) (by decide +kernel) ⟨rfl, rfl⟩ (by decide) rfl hl.1 rfl (Nat.le_of_ble_eq_true rfl) (by decide) dX0_order_7 (fun v7 h9 H locs hp8 _ hH hS => ?_)
  rcases hp8.1 with ⟨k5, hk5, hgk5, rfl⟩ | ⟨cz6, rfl⟩
  · have hq := hp8.2; rw [hq] at hH
    subst hgk5
    have hik5 : inN (nI k5) (aRm S) = true := by rw [inN_nI (by omega)]; exact decide_eq_true hk5
    have ek5 := nI_clamp (show k5 < 2 ^ 31 by omega)
    have hp10 := hO.rp (show k5 < aRm S by omega)
    refine lv_ifnull hx hb dX0_order_10 ?_
    refine lv_iload_n hx hb dX0_order_13 rfl (lv_at hl 3 rfl) ?_
    refine lv_iconst (v := nI 0) hx hb dX0_order_14 (by decide) ?_
    refine lv_aload_n hx hb dX0_order_15 rfl (lv_at hl 0 rfl) ?_
    refine hp_siz hx hb hml hown hts hPB hK0 hK hH hS hG (AL.keep hAlc1 (fun b e q => zset_f hWb q (by omega) (by omega)) (zset_ob hWb _)) comA_n q807 (by first | decide | (simp only [rmk]; omega)) hl.1 rfl (Nat.le_of_ble_eq_true rfl) (by decide) dX0_order_16 (fun H locs hH hS => ?_)
    refine lv_iconst (v := nI 1) hx hb dX0_order_19 (by decide) ?_
    refine lv_isub hx hb dX0_order_20 ?_
    refine hp_callS (As := [.int k, .int (nI 0), .int ((nI (nC S)) - (nI 1))]) (rest := []) hx hb hml hown hts hPB hH hS (mc_in hK0 k (nI 0) ((nI (nC S)) - (nI 1))) 3 (lw_S q268 q269 q102 q270) (by decide +kernel) ⟨rfl, rfl⟩ (by decide) rfl hl.1 rfl (Nat.le_of_ble_eq_true rfl) (by decide) dX0_order_21 (fun v11 h13 H locs hp12 _ hH hS => ?_)
    obtain ⟨rfl, hq⟩ := hp12
    rw [hq] at hH
    refine lv_top (y := zI (inN k (nC S))) (congrArg zI (in_i0 (by omega))) ?_
    refine lvB_ne (tgt := 29) hx hb dX0_order_24 (by decide) (fun c0 => ?_) (fun c0 => ?_)
    · obtain ⟨k9, hkk9, rfl⟩ := inN_t c0
      have ek9 := nI_clamp (show k9 < 2 ^ 31 by omega)
      have hkC : inN (nI k9) (comL S).length = true := by rw [comL_P]; exact c0
      refine lv_aload_n hx hb dX0_order_29 rfl (lv_at hl 1 rfl) ?_
      refine lv_iload_n hx hb dX0_order_30 rfl (lv_at hl 2 rfl) ?_
      refine lv_iconst (v := nI 0) hx hb dX0_order_31 (by decide) ?_
      refine hp_callV (As := [.int (nI k5), .int (nI 0)]) (rest := []) hx hb hml hown hts hPB hK hH hS (mc_findAbove hK0 hG hO hO2 hWb (Z := Z) (nI k5) (wo := 0) (by omega)) hW.x rfl rfl 2 (lw_V q1099 q1101 qs31 q102 q1102) (by decide +kernel) ⟨rfl, rfl⟩ (by decide) rfl hl.1 rfl (Nat.le_of_ble_eq_true rfl) (by decide) dX0_order_32 (fun v15 h17 H locs hp16 _ hH hS => ?_)
      obtain ⟨rfl, Y14, hq, hkpY14, hab⟩ := hp16
      rw [hq] at hH
      have hW := hWb.z Y14
      refine lv_aload_n hx hb dX0_order_35 rfl (lv_at hl 1 rfl) ?_
      refine hp_callV (As := []) (rest := []) hx hb hml hown hts hPB hK hH hS (mc_hasRing hK0 hG hO hO2 hWb (Z := Y14) (A := abv S (nI k5) 0) hab (fun x => abv_rr _ _ _ x)) hW.x rfl rfl 0 (lw_V q1133 q1135 qs36 q102 q1136) (by decide +kernel) ⟨rfl, rfl⟩ (by decide) rfl hl.1 rfl (Nat.le_of_ble_eq_true rfl) (by decide) dX0_order_36 (fun v19 h21 H locs hp20 _ hH hS => ?_)
      obtain ⟨rfl, Y18, hq, hkpY18⟩ := hp20
      rw [hq] at hH
      have hab := rowZ_k hab hkpY18 (by decide)
      have hW := hWb.z Y18
      refine lvB_eq (tgt := 44) hx hb dX0_order_39 (by decide) (fun cr => ?_) (fun cr => ?_)
      · have hAlc1z : AL (K 4) ed (zset h4 K w S Y18) lc1 tlc1 (gL Ls (comP S (aN S))) jlc1 := AL.keep hAlc1 (fun b e q => zset_f hWb q (by omega) (by omega)) (zset_ob hWb _)
        have hnTz := noT_z hWo hnlc1 htlc1 Y18
        refine lv_iconst (v := nI 0) hx hb dX0_order_44 (by decide) ?_
        refine lv_istore (lv' := [(4, .int (nI 0)), (3, .ref lc1), (0, .ref (w 0)), (1, .int (nI k5)), (2, .int (nI k9))]) hx hb dX0_order_45 hl (by decide) rfl (fun ls hl => ?_)
        refine w_loop4 (fun (nn : Nat) (L : List Nat) (pre : List Nat) (hh : Hp) => k9 + 1 - nn) (fun (nn : Nat) (L : List Nat) (pre : List Nat) (hh : Hp) H locs ls => (nn ≤ k9) ∧ (CW K ed S hh w Ls Jn Y18) ∧ (AL (K 4) ed hh lc1 tlc1 (gL Ls L) jlc1) ∧ (exH (zset h K w S Y18) hh) ∧ (ordL (abv S (nI k5) 0) (aN S) (comL S) = pre ++ ordL (abv S (nI k5) 0) (aN S - nn) L) ∧ (pre.length = nn) ∧ (L.length + nn = nC S) ∧ (L.Nodup) ∧ (∀ u ∈ L, u < aN S) ∧ HP D CL (zA s0) hh H ∧ va_S (zA s0) s.heap H locs ∧ lv_has ls 6 [(0, .ref (w 0)), (2, .int (nI k9)), (3, .ref lc1), (4, .int (nI nn))]) ?_ 0 (comP S (aN S)) ([]) (zset h4 K w S Y18) ⟨Nat.zero_le _, hW, hAlc1z, zset_up hWo hxlc1 _, by rw [comL_P]; rfl, rfl, rfl, comP_nodup _ _, fun u hu => (comP_mem.mp hu).1, hH, hS, lv_sub hl [2, 4, 1, 0] rfl⟩
        intro nn L pre hh ih47 H locs ls hP
        obtain ⟨hnn, hWh, hAl, hxx, hord, hpre, hLl, hLn, hLm, hH, hS, hl⟩ := hP
        have hW := hWh
        obtain ⟨g9, hg9⟩ := pick_ex (A := abv S (nI k5) 0) hn (abv_rr _ _ _) cr hLm (fun e => by rw [e] at hLl; simp at hLl; omega)
        refine lv_iconst (v := nI 0) hx hb dX0_order_47 (by decide) ?_
        refine lv_istore (lv' := [(5, .int (nI 0)), (0, .ref (w 0)), (2, .int (nI k9)), (3, .ref lc1), (4, .int (nI nn))]) hx hb dX0_order_48 hl (by decide) rfl (fun ls hl => ?_)
        refine w_loop1 (fun (i : Nat) => L.length - i) (fun (i : Nat) H locs ls => (i < L.length) ∧ (∀ u, u < i → heldB (abv S (nI k5) 0) L (L.getD u 0) = true) ∧ HP D CL (zA s0) hh H ∧ va_S (zA s0) s.heap H locs ∧ lv_has ls 6 [(0, .ref (w 0)), (2, .int (nI k9)), (3, .ref lc1), (4, .int (nI nn)), (5, .int (nI i))]) ?_ 0 ⟨by have := List.length_pos_of_mem (pick_mem hg9).1; omega, fun u hu => absurd hu (Nat.not_lt_zero _), hH, hS, lv_sub hl [1, 2, 3, 4, 0] rfl⟩
        intro i ih50 H locs ls hP
        obtain ⟨hi, hno, hH, hS, hl⟩ := hP
        refine lv_aload_n hx hb dX0_order_50 rfl (lv_at hl 0 rfl) ?_
        refine lv_aload_n hx hb dX0_order_51 rfl (lv_at hl 2 rfl) ?_
        refine lv_aload_n hx hb dX0_order_52 rfl (lv_at hl 2 rfl) ?_
        refine lv_iload hx hb dX0_order_53 (lv_at hl 4 rfl) ?_
        refine hp_lget hx hb hml hown hts hPB hK0 hK hH hS hG hAl (k9 := i) (by rw [gL_len]; omega) q808 (by first | decide | (simp only [rmk]; omega)) hl.1 rfl (Nat.le_of_ble_eq_true rfl) (by decide) dX0_order_55 (fun H locs hH hS => ?_)
        have hm22 : L.getD i 0 < aN S := hLm _ (getD_mem (by omega))
        refine lv_topv (y := .ref ((Ls 0).getD (L.getD i 0) 0)) (gL_get (by omega)) ?_
        refine va_castE hx hb hown (hts _ q809) (hp_rec hK hH (hW.g (show L.getD i 0 < aN S by omega)) rfl) dX0_order_58 ?_
        refine hp_get (C := RX5) (T := TX5) (N := 6) (v := .int (nI (L.getD i 0))) hx hb hts in_X5 hown hK hH (hW.g (show L.getD i 0 < aN S by omega)) rfl 1 (by decide) (hts _ q562) (u_same (hts _ q555)) rfl dX0_order_61 ?_
        refine hp_callV (As := [.ref lc1, .int (nI (L.getD i 0))]) (rest := []) hx hb hml hown hts hPB hK hH hS (mc_held hK0 hG hO hO2 hW (g := L.getD i 0) (L := L) (A := abv S (nI k5) 0) hAl hLm (by omega) hab (by omega)) hW.x rfl rfl 2 (lw_V q1145 q1147 qs38 q102 q1148) (by decide +kernel) ⟨rfl, rfl⟩ (by decide) rfl hl.1 rfl (Nat.le_of_ble_eq_true rfl) (by decide) dX0_order_64 (fun v23 h25 H locs hp24 _ hH hS => ?_)
        obtain ⟨rfl, hq⟩ := hp24
        rw [hq] at hH
        refine lvB_eq (tgt := 76) hx hb dX0_order_67 (by decide) (fun ch => ?_) (fun ch => ?_)
        · refine lv_iload hx hb dX0_order_76 (lv_at hl 3 rfl) ?_
          refine lv_iload_n hx hb dX0_order_78 rfl (lv_at hl 1 rfl) ?_
          refine lvN_ne (tgt := 95) hx hb (by first | omega | (refine Nat.lt_of_lt_of_le (Nat.mod_lt _ ?_) ?_ <;> omega)) (by first | omega | (refine Nat.lt_of_lt_of_le (Nat.mod_lt _ ?_) ?_ <;> omega)) dX0_order_79 (by decide) (fun c26 => ?_) (fun c26 => ?_)
          · refine lv_aload_n hx hb dX0_order_95 rfl (lv_at hl 2 rfl) ?_
            refine lv_iload hx hb dX0_order_96 (lv_at hl 4 rfl) ?_
            refine hp_rmv hx hb hml hown hts hPB hK0 hK hH hS hG hAl (k9 := i) (by rw [gL_len]; omega) q1149 (by first | decide | (simp only [rmk]; omega)) hl.1 rfl (Nat.le_of_ble_eq_true rfl) (by decide) dX0_order_98 (fun h4 H locs hA4 hf4 hk4 hH hS => ?_)
            refine lv_pop hx hb dX0_order_101 rfl ?_
            refine lv_iinc (v := nI (nn + 1)) (lv' := [(4, .int (nI (nn + 1))), (0, .ref (w 0)), (2, .int (nI k9)), (3, .ref lc1), (5, .int (nI i))]) hx hb dX0_order_102 hl (k := 3) rfl (nI_add nn 1) (by decide) rfl (fun ls hl => ?_)
            refine lv_goto (tgt := 47) hx hb dX0_order_105 (by decide) ?_
            exact ih47 (nn + 1) (L.eraseIdx i) (pre ++ [L.getD i 0]) h4 (by omega) H locs ls ⟨by omega, hWh.fr hf4 (by omega) hk4, by rw [← gL_er]; exact hA4, ex_add hnTz hxx hf4, by rw [er_er hLn (by omega), ← show aN S - nn - 1 = aN S - (nn + 1) by omega]; exact (ord_at (f := aN S - nn - 1) (hord.trans (congrArg (fun f => pre ++ ordL _ f L) (show aN S - nn = aN S - nn - 1 + 1 by omega))) (pick_at (by omega) ch hno)).2, by rw [List.length_append, hpre]; rfl, by rw [List.length_eraseIdx_of_lt (by omega)]; omega, hLn.sublist (List.eraseIdx_sublist _ _), fun u hu => hLm u (List.mem_of_mem_eraseIdx hu), hH, hS, lv_sub hl [1, 2, 3, 0] rfl⟩
          · refine lv_aload_n hx hb dX0_order_82 rfl (lv_at hl 2 rfl) ?_
            refine lv_iload hx hb dX0_order_83 (lv_at hl 4 rfl) ?_
            refine hp_lget hx hb hml hown hts hPB hK0 hK hH hS hG hAl (k9 := i) (by rw [gL_len]; omega) q808 (by first | decide | (simp only [rmk]; omega)) hl.1 rfl (Nat.le_of_ble_eq_true rfl) (by decide) dX0_order_85 (fun H locs hH hS => ?_)
            have hm27 : L.getD i 0 < aN S := hLm _ (getD_mem (by omega))
            refine lv_topv (y := .ref ((Ls 0).getD (L.getD i 0) 0)) (gL_get (by omega)) ?_
            refine va_castE hx hb hown (hts _ q809) (hp_rec hK hH (hW.g (show L.getD i 0 < aN S by omega)) rfl) dX0_order_88 ?_
            refine hp_get (C := RX5) (T := TX5) (N := 6) (v := .int (nI (L.getD i 0))) hx hb hts in_X5 hown hK hH (hW.g (show L.getD i 0 < aN S by omega)) rfl 1 (by decide) (hts _ q562) (u_same (hts _ q555)) rfl dX0_order_91 ?_
            have hH := hH.X hxx
            exact hp_iret hx hb hr hlocks hH hS (by decide) (by decide) dX0_order_94 (⟨congrArg some (congrArg Value.int (by simp only [spOrder, hik5, if_true, ord_ring hO hO2, cr, Bool.not_false, Bool.true_and, hkC, ek9]; exact congrArg nI ((show nn = k9 by omega) ▸ hpre ▸ (ord_at (f := aN S - nn - 1) (hord.trans (congrArg (fun f => pre ++ ordL _ f L) (show aN S - nn = aN S - nn - 1 + 1 by omega))) (pick_at (by omega) ch hno)).1.symm))), _, rfl⟩)
        · refine lv_iinc (v := nI (i + 1)) (lv' := [(5, .int (nI (i + 1))), (0, .ref (w 0)), (2, .int (nI k9)), (3, .ref lc1), (4, .int (nI nn))]) hx hb dX0_order_70 hl (k := 4) rfl (nI_add i 1) (by decide) rfl (fun ls hl => ?_)
          refine lv_goto (tgt := 50) hx hb dX0_order_73 (by decide) ?_
          exact ih50 (i + 1) (by omega) H locs ls ⟨pick_lt ⟨g9, hg9⟩ hi (all_up hno ch), all_up hno ch, hH, hS, lv_sub hl [1, 2, 3, 4, 0] rfl⟩
      · have hH := hH.X (zset_up hWo hxlc1 Y18)
        refine lv_iconst (v := (-1)) hx hb dX0_order_42 (by decide) ?_
        exact hp_iret hx hb hr hlocks hH hS (by decide) (by decide) dX0_order_43 (⟨congrArg some (congrArg Value.int (by simp [spOrder, hik5, ord_ring hO hO2, cr])), _, rfl⟩)
    · have hkC : inN k (comL S).length = false := by rw [comL_P]; exact c0
      have hH := hH.X (zset_up hWo hxlc1 Z)
      refine lv_iconst (v := (-1)) hx hb dX0_order_27 (by decide) ?_
      exact hp_iret hx hb hr hlocks hH hS (by decide) (by decide) dX0_order_28 (⟨congrArg some (congrArg Value.int (by simp [spOrder, hik5, hkC])), _, rfl⟩)
  · have hq := hp8.2; rw [hq] at hH
    refine lv_ifnullN (tgt := 27) hx hb dX0_order_10 (by decide) ?_
    have hH := hH.X (zset_up hWo hxlc1 Z)
    refine lv_iconst (v := (-1)) hx hb dX0_order_27 (by decide) ?_
    exact hp_iret hx hb hr hlocks hH hS (by decide) (by decide) dX0_order_28 (⟨congrArg some (congrArg Value.int (by simp [spOrder, cz6])), _, rfl⟩)
end MODEL
