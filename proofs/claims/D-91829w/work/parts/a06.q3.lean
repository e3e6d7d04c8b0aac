/-! by gen/mspec.py -/
set_option maxRecDepth 100000
section MODEL
variable {l : Launch} {s0 : State} {D : va_G} {K : Nat → ClassId} {wd : Nat → Nat} {o : Nat} {h : Hp} {I : Nat → Int32} {V : Nat → Nat → Int32} {J : Nat → Nat → Int64}
set_option maxHeartbeats 4000000 in
theorem mc_coming (hK0 : va_K D CL (TYS K) s0) {av : Nat → Nat} {ed mi : Nat} (hG : GX s0 wd av ed mi) {S : Ab} {w : Nat → Nat} {Ls : Nat → List Nat} {Jn : Nat → Nat} {Z : Nat → Nat → Int32} (hO : SOK S) (hO2 : SO2 S) (hW : CW K ed S h w Ls Jn Z) : Met l yX0_coming (ws_ yX0_coming cX0_coming 3 ((Option.some (Jvm.ClassFile.FieldType.object "java/util/ArrayList")))) (rmk 7 3 28) (va_Pc [.ref (w 0)] (PB s0 D CL (h))) (QR s0 D CL (fun v h1 => ∃ q j tg, v = some (.ref q) ∧ AL (K 4) ed h1 q tg (comA Ls S (aN S)) j ∧ exH h h1 ∧ noT tg h ∧ 30 ≤ tg)) 3 28 (zA s0) := by
  refine hp_met (by decide) (Nat.le_of_ble_eq_true rfl) hK0 ?_
  intro p e s m below meth cd ls hx hb hr hlocks hml hown hnm hts hK hPB hl hS hH hA
  have hl : lv_has ls 3 [(0, .ref (w 0))] := hl
  have hown : s.vm.findClass RX0 = some m.cls := hown
  have hn := hO.n
  have hmk := hO.mk
  have hrl := hO.rl
  have hrm := hO.rm
  have hsz := hO.sz
  obtain ⟨tg, htg, hnt⟩ := hH.tag
  have hW0 := hW
  obtain ⟨la, hla, nla⟩ := hH.fr
  refine hp_new (ci := 20) (C := RJ2) (T := TJ2) (N := 3) (fs := [.int 0, .null, .int 0]) hx hb hts in_J2 tyJ2 tyJ2_ok hown (hts _ q210) (hts _ q159) (hts _ q106) hK hH hS hA rfl (by decide) (by first | decide | omega | (simp only [rmk]; omega)) (by first | decide | omega | (simp only [rmk]; omega)) tg dX0_coming_0 (fun H _ hH hS => ?_)
  rw [← hla] at hH ⊢
  have hH : HP D CL (zA s0) (hset h la (.inr (20, [.int 0, .null, .int 0])) tg) H := hH
  have hW := hW.X (exH.new (e1 := .inr (20, [.int 0, .null, .int 0])) (u1 := tg) nla)
  have e1 : (hset h la (.inr (20, [.int 0, .null, .int 0])) tg) la = some (.inr (20, [.int 0, .null, .int 0]), tg) := hset_self _ _ _ _
  refine lv_dup hx hb dX0_coming_3 rfl ?_
  refine hp_callI (As := []) (rest := [.ref la]) hx hb hml hown hts hPB hH hS (mj_ainit hK0 hG e1) 0 q211 q161 q106 q162 rfl (by decide +kernel) ⟨rfl, rfl⟩ (by first | decide | omega | (simp only [rmk]; omega)) rfl hl.1 rfl (Nat.le_of_ble_eq_true rfl) (by first | decide | omega | (simp only [rmk]; omega)) dX0_coming_4 (fun v2 h4 H locs hp3 _ hH hS => ?_)
  obtain ⟨rfl, hq⟩ := hp3
  rw [hq, hset_hset] at hH
  have hel : (hset h la (.inr (20, [.int 0, .ref ed, .int 0])) tg) la = some (.inr (20, [.int 0, .ref ed, .int 0]), tg) := hset_self _ _ _ _
  have hW := hW0.X (exH.new (e1 := (.inr (20, [.int 0, .ref ed, .int 0]))) (u1 := tg) nla)
  refine lv_astore_n (lv' := [(1, .ref la), (0, .ref (w 0))]) hx hb dX0_coming_7 rfl hl (by decide) rfl (fun ls hl => ?_)
  refine lv_iconst (v := nI 0) hx hb dX0_coming_8 (by decide) ?_
  refine lv_istore_n (lv' := [(2, .int (nI 0)), (1, .ref la), (0, .ref (w 0))]) hx hb dX0_coming_9 rfl hl (by decide) rfl (fun ls hl => ?_)
  refine w_loopC3 (fun (k : Nat) (j : Nat) (hh : Hp) => aN S - k) (fun (k : Nat) (j : Nat) (hh : Hp) H locs ls cells slots => (k ≤ aN S) ∧ (AL (K 4) ed hh la tg (comA Ls S k) j) ∧ (exH h hh) ∧ (j ≤ 1) ∧ (cells ≤ 1 + j ∧ slots ≤ 3 + gsum j) ∧ HP D CL (zA s0) hh H ∧ va_S (zA s0) s.heap H locs ∧ lv_has ls 3 [(0, .ref (w 0)), (1, .ref la), (2, .int (nI k))]) ?_ 0 0 (hset h la (.inr (20, [.int 0, .ref ed, .int 0])) tg) ⟨Nat.zero_le _, al_nil (mcn := 0) (d := ed) hel (by decide) (Or.inl ⟨rfl, rfl⟩), exH.new nla, Nat.zero_le _, by decide, hH, hS, lv_sub hl [2, 1, 0] rfl⟩
  intro k j hh ih10 H locs ls cells slots hP
  obtain ⟨hk, hAl, hx9, hj, hcs, hH, hS, hl⟩ := hP
  have hW := hW0.X hx9
  have hgs := gs1 hj
  have hcl : (comA Ls S k).length ≤ k := by rw [comA_len]; exact comP_len S k
  refine lv_iload_n hx hb dX0_coming_10 rfl (lv_at hl 2 rfl) ?_
  refine lv_aload_n hx hb dX0_coming_11 rfl (lv_at hl 0 rfl) ?_
  refine hp_get (C := RX0) (T := TX0) (N := 14) (v := .ref (w 3)) hx hb hts in_X0 hown hK hH hW.x rfl 2 (by decide) (hts _ q214) (fun _ z => z) rfl dX0_coming_12 ?_
  refine hp_siz hx hb hml hown hts hPB hK0 hK hH hS hG (hW.li 0 (by decide)) hW.ng q807 (by first | decide | (simp only [rmk]; omega)) hl.1 rfl (Nat.le_of_ble_eq_true rfl) (by first | decide | omega | (simp only [rmk]; omega)) dX0_coming_15 (fun H locs hH hS => ?_)
  refine lvN_ge (tgt := 60) hx hb (by first | omega | (refine Nat.lt_of_lt_of_le (Nat.mod_lt _ ?_) ?_ <;> omega)) (by first | omega | (refine Nat.lt_of_lt_of_le (Nat.mod_lt _ ?_) ?_ <;> omega)) dX0_coming_18 (by decide) (fun c5 => ?_) (fun c5 => ?_)
  · refine lv_aload_n hx hb dX0_coming_60 rfl (lv_at hl 1 rfl) ?_
    exact hp_aret hx hb hr (Or.inl ⟨_, rfl⟩) (Or.inr ⟨_, rfl⟩) hlocks hH hS (by first | decide | omega | (simp only [rmk]; omega)) (by first | decide | omega | (simp only [rmk]; omega)) dX0_coming_61 (⟨la, j, tg, rfl, by rw [← show k = aN S by omega]; exact hAl, hx9, hnt, htg⟩)
  · refine lv_aload_n hx hb dX0_coming_21 rfl (lv_at hl 0 rfl) ?_
    refine hp_get (C := RX0) (T := TX0) (N := 14) (v := .ref (w 3)) hx hb hts in_X0 hown hK hH hW.x rfl 2 (by decide) (hts _ q214) (fun _ z => z) rfl dX0_coming_22 ?_
    refine lv_iload_n hx hb dX0_coming_25 rfl (lv_at hl 2 rfl) ?_
    refine hp_lget hx hb hml hown hts hPB hK0 hK hH hS hG (hW.li 0 (by decide)) (k9 := k) (by rw [hW.ng]; omega) q808 (by first | decide | (simp only [rmk]; omega)) hl.1 rfl (Nat.le_of_ble_eq_true rfl) (by first | decide | omega | (simp only [rmk]; omega)) dX0_coming_26 (fun H locs hH hS => ?_)
    refine va_castE hx hb hown (hts _ q809) (hp_rec hK hH (hW.g (show k < aN S by omega)) rfl) dX0_coming_29 ?_
    refine hp_getN (C := RX5) (T := TX5) (N := 6) (v := .int (zI (aCm S k))) hx hb hts in_X5 hown hK hH (hW.g (show k < aN S by omega)) rfl 2 (by decide) (hG.nf hPB q542) (fun _ z => z) rfl dX0_coming_32 ?_
    refine lvB_eq (tgt := 54) hx hb dX0_coming_35 (by decide) (fun c0 => ?_) (fun c0 => ?_)
    · refine lv_iinc (v := nI (k + 1)) (lv' := [(2, .int (nI (k + 1))), (0, .ref (w 0)), (1, .ref la)]) hx hb dX0_coming_54 hl (k := 2) rfl (nI_add k 1) (by decide) rfl (fun ls hl => ?_)
      refine lv_goto (tgt := 10) hx hb dX0_coming_57 (by decide) ?_
      exact ih10 (k + 1) j hh (by omega) H locs ls _ _ ⟨by omega, by rw [comA_f c0]; exact hAl, hx9, hj, hcs, hH, hS, lv_sub hl [1, 2, 0] rfl⟩
    · refine lv_aload_n hx hb dX0_coming_38 rfl (lv_at hl 1 rfl) ?_
      refine lv_aload_n hx hb dX0_coming_39 rfl (lv_at hl 0 rfl) ?_
      refine hp_get (C := RX0) (T := TX0) (N := 14) (v := .ref (w 3)) hx hb hts in_X0 hown hK hH hW.x rfl 2 (by decide) (hts _ q214) (fun _ z => z) rfl dX0_coming_40 ?_
      refine lv_iload_n hx hb dX0_coming_43 rfl (lv_at hl 2 rfl) ?_
      refine hp_lget hx hb hml hown hts hPB hK0 hK hH hS hG (hW.li 0 (by decide)) (k9 := k) (by rw [hW.ng]; omega) q808 (by first | decide | (simp only [rmk]; omega)) hl.1 rfl (Nat.le_of_ble_eq_true rfl) (by first | decide | omega | (simp only [rmk]; omega)) dX0_coming_44 (fun H locs hH hS => ?_)
      refine va_castE hx hb hown (hts _ q809) (hp_rec hK hH (hW.g (show k < aN S by omega)) rfl) dX0_coming_47 ?_
      refine hp_add hx hb hml hown hts hPB hK0 hK hH hS hG (x := (Ls 0).getD k 0) hAl (⟨_, _, _, hW.g (show k < aN S by omega)⟩) (by have := gcap_13; omega) q810 (by first | decide | omega | (simp only [rmk]; omega)) hl.1 rfl (Nat.le_of_ble_eq_true rfl) (by first | decide | omega | (simp only [rmk]; omega)) dX0_coming_50 (fun j2 h4 H locs hA4 hf4 hk4 hj4 hH hS => ?_)
      refine lv_pop hx hb dX0_coming_53 rfl ?_
      refine lv_iinc (v := nI (k + 1)) (lv' := [(2, .int (nI (k + 1))), (0, .ref (w 0)), (1, .ref la)]) hx hb dX0_coming_54 hl (k := 2) rfl (nI_add k 1) (by decide) rfl (fun ls hl => ?_)
      refine lv_goto (tgt := 10) hx hb dX0_coming_57 (by decide) ?_
      exact ih10 (k + 1) j2 h4 (by omega) H locs ls _ _ ⟨by omega, by rw [comA_t c0]; exact hA4, ex_add hnt hx9 hf4, j_nx (q := 0) ⟨hj, by omega⟩ hj4 (by omega), c_one hcs hj4, hH, hS, lv_sub hl [1, 2, 0] rfl⟩
set_option maxHeartbeats 4000000 in
theorem mc_count (hK0 : va_K D CL (TYS K) s0) {av : Nat → Nat} {ed mi : Nat} (hG : GX s0 wd av ed mi) {S : Ab} {w : Nat → Nat} {Ls : Nat → List Nat} {Jn : Nat → Nat} {Z : Nat → Nat → Int32} (hO : SOK S) (hO2 : SO2 S) (hW : CW K ed S h w Ls Jn Z) (what : Int32) : Met l yX0_count (ws_ yX0_count cX0_count 4 ((Option.some Jvm.ClassFile.FieldType.int))) (rmk 8 3 28) (va_Pc [.ref (w 0), .int what] (PB s0 D CL (h))) (QR s0 D CL (fun v h1 => v = some (.int (spCount S what)) ∧ h1 = h)) 3 28 (zA s0) := by
  refine hp_met (by decide) (Nat.le_of_ble_eq_true rfl) hK0 ?_
  intro p e s m below meth cd ls hx hb hr hlocks hml hown hnm hts hK hPB hl hS hH hA
  have hl : lv_has ls 4 [(0, .ref (w 0)), (1, .int what)] := hl
  have hown : s.vm.findClass RX0 = some m.cls := hown
  have hn := hO.n
  have hmk := hO.mk
  have hrl := hO.rl
  have hrm := hO.rm
  have hsz := hO.sz
  refine lv_iconst (v := nI 0) hx hb dX0_count_0 (by decide) ?_
  refine lv_istore_n (lv' := [(2, .int (nI 0)), (0, .ref (w 0)), (1, .int what)]) hx hb dX0_count_1 rfl hl (by decide) rfl (fun ls hl => ?_)
  refine lv_iload_n hx hb dX0_count_2 rfl (lv_at hl 2 rfl) ?_
  by_cases w1 : what = nI 0
  · refine lv_tableIn (tgt := 52) hx hb dX0_count_3 (by rw [w1]; decide) (by rw [w1]; decide) (by rw [w1]; rfl) (by decide) ?_
    refine lv_aload_n hx hb dX0_count_52 rfl (lv_at hl 1 rfl) ?_
    refine hp_get (C := RX0) (T := TX0) (N := 14) (v := .ref (w 3)) hx hb hts in_X0 hown hK hH hW.x rfl 2 (by decide) (hts _ q214) (fun _ z => z) rfl dX0_count_53 ?_
    refine hp_siz hx hb hml hown hts hPB hK0 hK hH hS hG (hW.li 0 (by decide)) hW.ng q807 (by first | decide | (simp only [rmk]; omega)) hl.1 rfl (Nat.le_of_ble_eq_true rfl) (by decide) dX0_count_56 (fun H locs hH hS => ?_)
    exact hp_iret hx hb hr hlocks hH hS (by decide) (by decide) dX0_count_59 (⟨congrArg some (congrArg Value.int (by simp [spCount, nIne, nIn8, nIn9, w1])), rfl⟩)
  by_cases w2 : what = nI 1
  · refine lv_tableIn (tgt := 60) hx hb dX0_count_3 (by rw [w2]; decide) (by rw [w2]; decide) (by rw [w2]; rfl) (by decide) ?_
    refine lv_aload_n hx hb dX0_count_60 rfl (lv_at hl 1 rfl) ?_
    refine hp_get (C := RX0) (T := TX0) (N := 14) (v := .ref (w 4)) hx hb hts in_X0 hown hK hH hW.x rfl 3 (by decide) (hts _ q215) (fun _ z => z) rfl dX0_count_61 ?_
    refine hp_siz hx hb hml hown hts hPB hK0 hK hH hS hG (hW.li 1 (by decide)) hW.nm q807 (by first | decide | (simp only [rmk]; omega)) hl.1 rfl (Nat.le_of_ble_eq_true rfl) (by decide) dX0_count_64 (fun H locs hH hS => ?_)
    exact hp_iret hx hb hr hlocks hH hS (by decide) (by decide) dX0_count_67 (⟨congrArg some (congrArg Value.int (by simp [spCount, nIne, nIn8, nIn9, w2])), rfl⟩)
  by_cases w3 : what = nI 2
  · refine lv_tableIn (tgt := 68) hx hb dX0_count_3 (by rw [w3]; decide) (by rw [w3]; decide) (by rw [w3]; rfl) (by decide) ?_
    refine lv_aload_n hx hb dX0_count_68 rfl (lv_at hl 1 rfl) ?_
    refine hp_get (C := RX0) (T := TX0) (N := 14) (v := .ref (w 5)) hx hb hts in_X0 hown hK hH hW.x rfl 4 (by decide) (hts _ q216) (fun _ z => z) rfl dX0_count_69 ?_
    refine hp_siz hx hb hml hown hts hPB hK0 hK hH hS hG (hW.li 2 (by decide)) hW.nr q807 (by first | decide | (simp only [rmk]; omega)) hl.1 rfl (Nat.le_of_ble_eq_true rfl) (by decide) dX0_count_72 (fun H locs hH hS => ?_)
    exact hp_iret hx hb hr hlocks hH hS (by decide) (by decide) dX0_count_75 (⟨congrArg some (congrArg Value.int (by simp [spCount, nIne, nIn8, nIn9, w3])), rfl⟩)
  by_cases w4 : what = nI 3
  · refine lv_tableIn (tgt := 76) hx hb dX0_count_3 (by rw [w4]; decide) (by rw [w4]; decide) (by rw [w4]; rfl) (by decide) ?_
    refine lv_aload_n hx hb dX0_count_76 rfl (lv_at hl 1 rfl) ?_
    refine hp_get (C := RX0) (T := TX0) (N := 14) (v := .ref (w 6)) hx hb hts in_X0 hown hK hH hW.x rfl 5 (by decide) (hts _ q217) (fun _ z => z) rfl dX0_count_77 ?_
    refine hp_siz hx hb hml hown hts hPB hK0 hK hH hS hG (hW.li 3 (by decide)) hW.nq q807 (by first | decide | (simp only [rmk]; omega)) hl.1 rfl (Nat.le_of_ble_eq_true rfl) (by decide) dX0_count_80 (fun H locs hH hS => ?_)
    exact hp_iret hx hb hr hlocks hH hS (by decide) (by decide) dX0_count_83 (⟨congrArg some (congrArg Value.int (by simp [spCount, nIne, nIn8, nIn9, w4])), rfl⟩)
  by_cases w5 : what = nI 4
  · refine lv_tableIn (tgt := 84) hx hb dX0_count_3 (by rw [w5]; decide) (by rw [w5]; decide) (by rw [w5]; rfl) (by decide) ?_
    refine lv_aload_n hx hb dX0_count_84 rfl (lv_at hl 1 rfl) ?_
    refine hp_get (C := RX0) (T := TX0) (N := 14) (v := .int (nI (aSz S))) hx hb hts in_X0 hown hK hH hW.x rfl 6 (by decide) (hts _ q218) (fun _ z => z) rfl dX0_count_85 ?_
    exact hp_iret hx hb hr hlocks hH hS (by decide) (by decide) dX0_count_88 (⟨congrArg some (congrArg Value.int (by simp [spCount, nIne, nIn8, nIn9, w5])), rfl⟩)
  by_cases w6 : what = nI 5
  · refine lv_tableIn (tgt := 89) hx hb dX0_count_3 (by rw [w6]; decide) (by rw [w6]; decide) (by rw [w6]; rfl) (by decide) ?_
    refine lv_aload_n hx hb dX0_count_89 rfl (lv_at hl 1 rfl) ?_
    refine hp_callV (As := []) (rest := []) hx hb hml hown hts hPB hK hH hS (mc_coming hK0 hG hO hO2 hW) hW.x rfl rfl 0 (lw_V q1141 q1143 qs37 q102 q1144) (by decide +kernel) ⟨rfl, rfl⟩ (by decide) rfl hl.1 rfl (Nat.le_of_ble_eq_true rfl) (by decide) dX0_count_90 (fun v8 h10 H locs hp9 _ hH hS => ?_)
    obtain ⟨lc7, jlc7, tlc7, rfl, hAlc7, hxlc7, hnlc7, htlc7⟩ := hp9
    have hW := hW.X hxlc7
    have hnc := nC_le S
    refine hp_siz hx hb hml hown hts hPB hK0 hK hH hS hG hAlc7 comA_n q807 (by first | decide | (simp only [rmk]; omega)) hl.1 rfl (Nat.le_of_ble_eq_true rfl) (by decide) dX0_count_93 (fun H locs hH hS => ?_)
    have hH := hH.X hxlc7
    exact hp_iret hx hb hr hlocks hH hS (by decide) (by decide) dX0_count_96 (⟨congrArg some (congrArg Value.int (by simp [spCount, nIne, nIn8, nIn9, ← comP_cnt S, nC, w6])), rfl⟩)
  by_cases w11 : what = nI 6
  · refine lv_tableIn (tgt := 97) hx hb dX0_count_3 (by rw [w11]; decide) (by rw [w11]; decide) (by rw [w11]; rfl) (by decide) ?_
    refine lv_iconst (v := nI 0) hx hb dX0_count_97 (by decide) ?_
    refine lv_istore_n (lv' := [(3, .int (nI 0)), (2, .int (nI 0)), (0, .ref (w 0)), (1, .int what)]) hx hb dX0_count_98 rfl hl (by decide) rfl (fun ls hl => ?_)
    refine w_loop1 (fun (k : Nat) => aN S - k) (fun (k : Nat) H locs ls => (k ≤ aN S) ∧ HP D CL (zA s0) h H ∧ va_S (zA s0) s.heap H locs ∧ lv_has ls 4 [(0, .ref (w 0)), (2, .int (nI (cntN (fun g => decide (aIr S g ≠ -1)) k))), (3, .int (nI k))]) ?_ 0 ⟨Nat.zero_le _, hH, hS, lv_sub hl [2, 1, 0] rfl⟩
    intro k ih99 H locs ls hP
    obtain ⟨hk, hH, hS, hl⟩ := hP
    have hck := cntN_le (fun g => decide (aIr S g ≠ -1)) k
    refine lv_iload_n hx hb dX0_count_99 rfl (lv_at hl 2 rfl) ?_
    refine lv_aload_n hx hb dX0_count_100 rfl (lv_at hl 0 rfl) ?_
    refine hp_get (C := RX0) (T := TX0) (N := 14) (v := .ref (w 3)) hx hb hts in_X0 hown hK hH hW.x rfl 2 (by decide) (hts _ q214) (fun _ z => z) rfl dX0_count_101 ?_
    refine hp_siz hx hb hml hown hts hPB hK0 hK hH hS hG (hW.li 0 (by decide)) hW.ng q807 (by first | decide | (simp only [rmk]; omega)) hl.1 rfl (Nat.le_of_ble_eq_true rfl) (by decide) dX0_count_104 (fun H locs hH hS => ?_)
    refine lvN_ge (tgt := 142) hx hb (by first | omega | (refine Nat.lt_of_lt_of_le (Nat.mod_lt _ ?_) ?_ <;> omega)) (by first | omega | (refine Nat.lt_of_lt_of_le (Nat.mod_lt _ ?_) ?_ <;> omega)) dX0_count_107 (by decide) (fun c12 => ?_) (fun c12 => ?_)
    · have ek : k = aN S := by omega
      subst ek
      refine lv_iload_n hx hb dX0_count_142 rfl (lv_at hl 1 rfl) ?_
      exact hp_iret hx hb hr hlocks hH hS (by decide) (by decide) dX0_count_143 (⟨congrArg some (congrArg Value.int (by simp [spCount, nIne, nIn8, nIn9, w11, c12, Nat.not_lt.mpr c12])), rfl⟩)
    · refine lv_iload_n hx hb dX0_count_110 rfl (lv_at hl 1 rfl) ?_
      refine lv_aload_n hx hb dX0_count_111 rfl (lv_at hl 0 rfl) ?_
      refine hp_get (C := RX0) (T := TX0) (N := 14) (v := .ref (w 3)) hx hb hts in_X0 hown hK hH hW.x rfl 2 (by decide) (hts _ q214) (fun _ z => z) rfl dX0_count_112 ?_
      refine lv_iload_n hx hb dX0_count_115 rfl (lv_at hl 2 rfl) ?_
      refine hp_lget hx hb hml hown hts hPB hK0 hK hH hS hG (hW.li 0 (by decide)) (k9 := k) (by rw [hW.ng]; omega) q808 (by first | decide | (simp only [rmk]; omega)) hl.1 rfl (Nat.le_of_ble_eq_true rfl) (by decide) dX0_count_116 (fun H locs hH hS => ?_)
      refine va_castE hx hb hown (hts _ q809) (hp_rec hK hH (hW.g (show k < aN S by omega)) rfl) dX0_count_119 ?_
      refine hp_getN (C := RX5) (T := TX5) (N := 6) (v := .int (aIr S k)) hx hb hts in_X5 hown hK hH (hW.g (show k < aN S by omega)) rfl 4 (by decide) (hG.nf hPB q548) (fun _ z => z) rfl dX0_count_122 ?_
      refine lv_iconst (v := (-1)) hx hb dX0_count_125 (by decide) ?_
      refine lv_icmp_ne (tgt := 133) hx hb dX0_count_126 (by decide) (fun c6 => ?_) (fun c6 => ?_)
      · refine lv_iconst (v := nI 1) hx hb dX0_count_133 (by decide) ?_
        refine lv_iadd hx hb dX0_count_134 ?_
        refine lv_top (y := nI (cntN (fun g => decide (aIr S g ≠ -1)) (k + 1))) (cntN_t (p := (fun g => decide (aIr S g ≠ -1))) (decide_eq_true c6)) ?_
        refine lv_istore_n (lv' := [(2, .int (nI (cntN (fun g => decide (aIr S g ≠ -1)) (k + 1)))), (0, .ref (w 0)), (3, .int (nI k))]) hx hb dX0_count_135 rfl hl (by decide) rfl (fun ls hl => ?_)
        refine lv_iinc (v := nI (k + 1)) (lv' := [(3, .int (nI (k + 1))), (2, .int (nI (cntN (fun g => decide (aIr S g ≠ -1)) (k + 1)))), (0, .ref (w 0))]) hx hb dX0_count_136 hl (k := 2) rfl (nI_add k 1) (by decide) rfl (fun ls hl => ?_)
        refine lv_goto (tgt := 99) hx hb dX0_count_139 (by decide) ?_
        exact ih99 (k + 1) (by omega) H locs ls ⟨by omega, hH, hS, lv_sub hl [2, 1, 0] rfl⟩
      · refine lv_iconst (v := nI 0) hx hb dX0_count_129 (by decide) ?_
        refine lv_goto (tgt := 134) hx hb dX0_count_130 (by decide) ?_
        refine lv_iadd hx hb dX0_count_134 ?_
        refine lv_top (y := nI (cntN (fun g => decide (aIr S g ≠ -1)) (k + 1))) (cntN_f (p := (fun g => decide (aIr S g ≠ -1))) (decide_eq_false (fun q => q c6))) ?_
        refine lv_istore_n (lv' := [(2, .int (nI (cntN (fun g => decide (aIr S g ≠ -1)) (k + 1)))), (0, .ref (w 0)), (3, .int (nI k))]) hx hb dX0_count_135 rfl hl (by decide) rfl (fun ls hl => ?_)
        refine lv_iinc (v := nI (k + 1)) (lv' := [(3, .int (nI (k + 1))), (2, .int (nI (cntN (fun g => decide (aIr S g ≠ -1)) (k + 1)))), (0, .ref (w 0))]) hx hb dX0_count_136 hl (k := 2) rfl (nI_add k 1) (by decide) rfl (fun ls hl => ?_)
        refine lv_goto (tgt := 99) hx hb dX0_count_139 (by decide) ?_
        exact ih99 (k + 1) (by omega) H locs ls ⟨by omega, hH, hS, lv_sub hl [2, 1, 0] rfl⟩
  by_cases w13 : what = nI 7
  · refine lv_tableIn (tgt := 144) hx hb dX0_count_3 (by rw [w13]; decide) (by rw [w13]; decide) (by rw [w13]; rfl) (by decide) ?_
    refine lv_iconst (v := nI 0) hx hb dX0_count_144 (by decide) ?_
    refine lv_istore_n (lv' := [(3, .int (nI 0)), (2, .int (nI 0)), (0, .ref (w 0)), (1, .int what)]) hx hb dX0_count_145 rfl hl (by decide) rfl (fun ls hl => ?_)
    refine w_loop1 (fun (k : Nat) => aN S - k) (fun (k : Nat) H locs ls => (k ≤ aN S) ∧ HP D CL (zA s0) h H ∧ va_S (zA s0) s.heap H locs ∧ lv_has ls 4 [(0, .ref (w 0)), (2, .int (nI (cntN (aSi S) k))), (3, .int (nI k))]) ?_ 0 ⟨Nat.zero_le _, hH, hS, lv_sub hl [2, 1, 0] rfl⟩
    intro k ih146 H locs ls hP
    obtain ⟨hk, hH, hS, hl⟩ := hP
    have hck := cntN_le (aSi S) k
    refine lv_iload_n hx hb dX0_count_146 rfl (lv_at hl 2 rfl) ?_
    refine lv_aload_n hx hb dX0_count_147 rfl (lv_at hl 0 rfl) ?_
    refine hp_get (C := RX0) (T := TX0) (N := 14) (v := .ref (w 3)) hx hb hts in_X0 hown hK hH hW.x rfl 2 (by decide) (hts _ q214) (fun _ z => z) rfl dX0_count_148 ?_
    refine hp_siz hx hb hml hown hts hPB hK0 hK hH hS hG (hW.li 0 (by decide)) hW.ng q807 (by first | decide | (simp only [rmk]; omega)) hl.1 rfl (Nat.le_of_ble_eq_true rfl) (by decide) dX0_count_151 (fun H locs hH hS => ?_)
    refine lvN_ge (tgt := 188) hx hb (by first | omega | (refine Nat.lt_of_lt_of_le (Nat.mod_lt _ ?_) ?_ <;> omega)) (by first | omega | (refine Nat.lt_of_lt_of_le (Nat.mod_lt _ ?_) ?_ <;> omega)) dX0_count_154 (by decide) (fun c14 => ?_) (fun c14 => ?_)
    · have ek : k = aN S := by omega
      subst ek
      refine lv_iload_n hx hb dX0_count_188 rfl (lv_at hl 1 rfl) ?_
      exact hp_iret hx hb hr hlocks hH hS (by decide) (by decide) dX0_count_189 (⟨congrArg some (congrArg Value.int (by simp [spCount, nIne, nIn8, nIn9, w13, c14, Nat.not_lt.mpr c14])), rfl⟩)
    · refine lv_iload_n hx hb dX0_count_157 rfl (lv_at hl 1 rfl) ?_
      refine lv_aload_n hx hb dX0_count_158 rfl (lv_at hl 0 rfl) ?_
      refine hp_get (C := RX0) (T := TX0) (N := 14) (v := .ref (w 3)) hx hb hts in_X0 hown hK hH hW.x rfl 2 (by decide) (hts _ q214) (fun _ z => z) rfl dX0_count_159 ?_
      refine lv_iload_n hx hb dX0_count_162 rfl (lv_at hl 2 rfl) ?_
      refine hp_lget hx hb hml hown hts hPB hK0 hK hH hS hG (hW.li 0 (by decide)) (k9 := k) (by rw [hW.ng]; omega) q808 (by first | decide | (simp only [rmk]; omega)) hl.1 rfl (Nat.le_of_ble_eq_true rfl) (by decide) dX0_count_163 (fun H locs hH hS => ?_)
      refine va_castE hx hb hown (hts _ q809) (hp_rec hK hH (hW.g (show k < aN S by omega)) rfl) dX0_count_166 ?_
      refine hp_getN (C := RX5) (T := TX5) (N := 6) (v := .int (zI (aSi S k))) hx hb hts in_X5 hown hK hH (hW.g (show k < aN S by omega)) rfl 3 (by decide) (hG.nf hPB q545) (fun _ z => z) rfl dX0_count_169 ?_
      refine lvB_eq (tgt := 179) hx hb dX0_count_172 (by decide) (fun c15 => ?_) (fun c15 => ?_)
      · refine lv_iconst (v := nI 0) hx hb dX0_count_179 (by decide) ?_
        refine lv_iadd hx hb dX0_count_180 ?_
        refine lv_top (y := nI (cntN (aSi S) (k + 1))) (cntN_f (c15)) ?_
        refine lv_istore_n (lv' := [(2, .int (nI (cntN (aSi S) (k + 1)))), (0, .ref (w 0)), (3, .int (nI k))]) hx hb dX0_count_181 rfl hl (by decide) rfl (fun ls hl => ?_)
        refine lv_iinc (v := nI (k + 1)) (lv' := [(3, .int (nI (k + 1))), (2, .int (nI (cntN (aSi S) (k + 1)))), (0, .ref (w 0))]) hx hb dX0_count_182 hl (k := 2) rfl (nI_add k 1) (by decide) rfl (fun ls hl => ?_)
        refine lv_goto (tgt := 146) hx hb dX0_count_185 (by decide) ?_
        exact ih146 (k + 1) (by omega) H locs ls ⟨by omega, hH, hS, lv_sub hl [2, 1, 0] rfl⟩
      · refine lv_iconst (v := nI 1) hx hb dX0_count_175 (by decide) ?_
        refine lv_goto (tgt := 180) hx hb dX0_count_176 (by decide) ?_
        refine lv_iadd hx hb dX0_count_180 ?_
        refine lv_top (y := nI (cntN (aSi S) (k + 1))) (cntN_t (c15)) ?_
        refine lv_istore_n (lv' := [(2, .int (nI (cntN (aSi S) (k + 1)))), (0, .ref (w 0)), (3, .int (nI k))]) hx hb dX0_count_181 rfl hl (by decide) rfl (fun ls hl => ?_)
        refine lv_iinc (v := nI (k + 1)) (lv' := [(3, .int (nI (k + 1))), (2, .int (nI (cntN (aSi S) (k + 1)))), (0, .ref (w 0))]) hx hb dX0_count_182 hl (k := 2) rfl (nI_add k 1) (by decide) rfl (fun ls hl => ?_)
        refine lv_goto (tgt := 146) hx hb dX0_count_185 (by decide) ?_
        exact ih146 (k + 1) (by omega) H locs ls ⟨by omega, hH, hS, lv_sub hl [2, 1, 0] rfl⟩
  by_cases w16 : what = nI 8
  · refine lv_tableIn (tgt := 190) hx hb dX0_count_3 (by rw [w16]; decide) (by rw [w16]; decide) (by rw [w16]; rfl) (by decide) ?_
    refine lv_iconst (v := nI 0) hx hb dX0_count_190 (by decide) ?_
    refine lv_istore_n (lv' := [(3, .int (nI 0)), (2, .int (nI 0)), (0, .ref (w 0)), (1, .int what)]) hx hb dX0_count_191 rfl hl (by decide) rfl (fun ls hl => ?_)
    refine w_loop1 (fun (k : Nat) => aRl S - k) (fun (k : Nat) H locs ls => (k ≤ aRl S) ∧ HP D CL (zA s0) h H ∧ va_S (zA s0) s.heap H locs ∧ lv_has ls 4 [(0, .ref (w 0)), (2, .int (nI (cntN (aRs S) k))), (3, .int (nI k))]) ?_ 0 ⟨Nat.zero_le _, hH, hS, lv_sub hl [2, 1, 0] rfl⟩
    intro k ih192 H locs ls hP
    obtain ⟨hk, hH, hS, hl⟩ := hP
    have hck := cntN_le (aRs S) k
    refine lv_iload_n hx hb dX0_count_192 rfl (lv_at hl 2 rfl) ?_
    refine lv_aload_n hx hb dX0_count_193 rfl (lv_at hl 0 rfl) ?_
    refine hp_get (C := RX0) (T := TX0) (N := 14) (v := .ref (w 5)) hx hb hts in_X0 hown hK hH hW.x rfl 4 (by decide) (hts _ q216) (fun _ z => z) rfl dX0_count_194 ?_
    refine hp_siz hx hb hml hown hts hPB hK0 hK hH hS hG (hW.li 2 (by decide)) hW.nr q807 (by first | decide | (simp only [rmk]; omega)) hl.1 rfl (Nat.le_of_ble_eq_true rfl) (by decide) dX0_count_197 (fun H locs hH hS => ?_)
    refine lvN_ge (tgt := 234) hx hb (by first | omega | (refine Nat.lt_of_lt_of_le (Nat.mod_lt _ ?_) ?_ <;> omega)) (by first | omega | (refine Nat.lt_of_lt_of_le (Nat.mod_lt _ ?_) ?_ <;> omega)) dX0_count_200 (by decide) (fun c17 => ?_) (fun c17 => ?_)
    · have ek : k = aRl S := by omega
      subst ek
      refine lv_iload_n hx hb dX0_count_234 rfl (lv_at hl 1 rfl) ?_
      exact hp_iret hx hb hr hlocks hH hS (by decide) (by decide) dX0_count_235 (⟨congrArg some (congrArg Value.int (by simp [spCount, nIne, nIn8, nIn9, w16, c17, Nat.not_lt.mpr c17])), rfl⟩)
    · refine lv_iload_n hx hb dX0_count_203 rfl (lv_at hl 1 rfl) ?_
      refine lv_aload_n hx hb dX0_count_204 rfl (lv_at hl 0 rfl) ?_
      refine hp_get (C := RX0) (T := TX0) (N := 14) (v := .ref (w 5)) hx hb hts in_X0 hown hK hH hW.x rfl 4 (by decide) (hts _ q216) (fun _ z => z) rfl dX0_count_205 ?_
      refine lv_iload_n hx hb dX0_count_208 rfl (lv_at hl 2 rfl) ?_
      refine hp_lget hx hb hml hown hts hPB hK0 hK hH hS hG (hW.li 2 (by decide)) (k9 := k) (by rw [hW.nr]; omega) q808 (by first | decide | (simp only [rmk]; omega)) hl.1 rfl (Nat.le_of_ble_eq_true rfl) (by decide) dX0_count_209 (fun H locs hH hS => ?_)
      have hn18 := cN_le S k
      have hkhn18 := hO.kd (show k < aRl S by omega)
      have hwhn18 := hO.wt (show k < aRl S by omega)
      refine hp_castR hx hb hown (hts _ q812) hG hPB hK hH (hW.r (show k < aRl S by omega)) (hO.kd (show k < aRl S by omega)) dX0_count_212 ?_
      refine hp_gR5 hx hb hts hown hK hH (hW.r (show k < aRl S by omega)) (hO.kd (show k < aRl S by omega)) (hts _ q744) dX0_count_215 ?_
      refine lvB_eq (tgt := 225) hx hb dX0_count_218 (by decide) (fun c19 => ?_) (fun c19 => ?_)
      · refine lv_iconst (v := nI 0) hx hb dX0_count_225 (by decide) ?_
        refine lv_iadd hx hb dX0_count_226 ?_
        refine lv_top (y := nI (cntN (aRs S) (k + 1))) (cntN_f (c19)) ?_
        refine lv_istore_n (lv' := [(2, .int (nI (cntN (aRs S) (k + 1)))), (0, .ref (w 0)), (3, .int (nI k))]) hx hb dX0_count_227 rfl hl (by decide) rfl (fun ls hl => ?_)
        refine lv_iinc (v := nI (k + 1)) (lv' := [(3, .int (nI (k + 1))), (2, .int (nI (cntN (aRs S) (k + 1)))), (0, .ref (w 0))]) hx hb dX0_count_228 hl (k := 2) rfl (nI_add k 1) (by decide) rfl (fun ls hl => ?_)
        refine lv_goto (tgt := 192) hx hb dX0_count_231 (by decide) ?_
        exact ih192 (k + 1) (by omega) H locs ls ⟨by omega, hH, hS, lv_sub hl [2, 1, 0] rfl⟩
      · refine lv_iconst (v := nI 1) hx hb dX0_count_221 (by decide) ?_
        refine lv_goto (tgt := 226) hx hb dX0_count_222 (by decide) ?_
        refine lv_iadd hx hb dX0_count_226 ?_
        refine lv_top (y := nI (cntN (aRs S) (k + 1))) (cntN_t (c19)) ?_
        refine lv_istore_n (lv' := [(2, .int (nI (cntN (aRs S) (k + 1)))), (0, .ref (w 0)), (3, .int (nI k))]) hx hb dX0_count_227 rfl hl (by decide) rfl (fun ls hl => ?_)
        refine lv_iinc (v := nI (k + 1)) (lv' := [(3, .int (nI (k + 1))), (2, .int (nI (cntN (aRs S) (k + 1)))), (0, .ref (w 0))]) hx hb dX0_count_228 hl (k := 2) rfl (nI_add k 1) (by decide) rfl (fun ls hl => ?_)
        refine lv_goto (tgt := 192) hx hb dX0_count_231 (by decide) ?_
        exact ih192 (k + 1) (by omega) H locs ls ⟨by omega, hH, hS, lv_sub hl [2, 1, 0] rfl⟩
  refine lv_tableOut (tgt := 236) hx hb dX0_count_3 (by have g0 := lv_neT (a := 0) w1 rfl; have g1 := lv_neT (a := 1) w2 rfl; have g2 := lv_neT (a := 2) w3 rfl; have g3 := lv_neT (a := 3) w4 rfl; have g4 := lv_neT (a := 4) w5 rfl; have g5 := lv_neT (a := 5) w6 rfl; have g6 := lv_neT (a := 6) w11 rfl; have g7 := lv_neT (a := 7) w13 rfl; have g8 := lv_neT (a := 8) w16 rfl; omega) (by decide) ?_
  refine lv_iconst (v := (-1)) hx hb dX0_count_236 (by decide) ?_
  exact hp_iret hx hb hr hlocks hH hS (by decide) (by decide) dX0_count_237 (⟨congrArg some (congrArg Value.int (by simp [spCount, nIne, nIn8, nIn9, w1, w2, w3, w4, w5, w6, w11, w13, w16])), rfl⟩)
end MODEL
