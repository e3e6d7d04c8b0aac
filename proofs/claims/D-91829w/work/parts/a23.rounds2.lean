/-! by gen/mspec.py -/
set_option maxRecDepth 100000
section MODEL
variable {l : Launch} {s0 : State} {D : va_G} {K : Nat → ClassId} {wd : Nat → Nat} {o : Nat} {h : Hp} {I : Nat → Int32} {V : Nat → Nat → Int32} {J : Nat → Nat → Int64}
set_option maxHeartbeats 4000000 in
theorem mc_rounds (hK0 : va_K D CL (TYS K) s0) {av : Nat → Nat} {ed mi : Nat} (hG : GX s0 wd av ed mi) {S : Ab} {w : Nat → Nat} {Ls : Nat → List Nat} {Jn : Nat → Nat} {Z : Nat → Nat → Int32} (hO : SOK S) (hO2 : SO2 S) (hW : CW K ed S h w Ls Jn Z) (room doors : Int32) : Met l yX0_rounds (ws_ yX0_rounds cX0_rounds 11 ((Option.some Jvm.ClassFile.FieldType.int))) (rmk 8 6 1072) (va_Pc [.ref (w 0), .int room, .int doors] (PB s0 D CL (h))) (QR s0 D CL (fun v h1 => v = some (.int (spRounds S room doors)) ∧ ∃ Z1, h1 = zset h K w S Z1)) 6 1072 (zA s0) := by
  refine hp_met (by decide) (Nat.le_of_ble_eq_true rfl) hK0 ?_
  intro p e s m below meth cd ls hx hb hr hlocks hml hown hnm hts hK hPB hl hS hH hA
  have hl : lv_has ls 11 [(0, .ref (w 0)), (1, .int room), (2, .int doors)] := hl
  have hown : s.vm.findClass RX0 = some m.cls := hown
  have hn := hO.n
  have hmk := hO.mk
  have hrl := hO.rl
  have hrm := hO.rm
  have hsz := hO.sz
  have hW0 := hW
  have hW := hW0.z Z
  have hH : HP D CL (zA s0) (zset h K w S Z) s.heap := by rw [zset_self hW0]; exact hH
  have hWo := hW0
  have hcb : comB S (aN S) < 1024 := Nat.lt_of_lt_of_le (comB_lt S (aN S)) (pow2_le hn)
  refine lv_aload_n hx hb dX0_rounds_0 rfl (lv_at hl 0 rfl) ?_
  refine lv_iload_n hx hb dX0_rounds_1 rfl (lv_at hl 1 rfl) ?_
  refine hp_callV (As := [.int room]) (rest := []) hx hb hml hown hts hPB hK hH hS (mc_roomAt hK0 hG hO hO2 hW room) hW.x rfl rfl 1 (lw_V q924 q926 qs24 q102 q927) (by decide +kernel) ⟨rfl, rfl⟩ (by decide) rfl hl.1 rfl (Nat.le_of_ble_eq_true rfl) (by decide) dX0_rounds_2 (fun v3 h5 H locs hp4 _ hH hS => ?_)
  rcases hp4.1 with ⟨k1, hk1, hgk1, rfl⟩ | ⟨cz2, rfl⟩
  · have hq := hp4.2; rw [hq] at hH
    subst hgk1
    have hik1 : inN (nI k1) (aRm S) = true := by rw [inN_nI (by omega)]; exact decide_eq_true hk1
    have ek1 := nI_clamp (show k1 < 2 ^ 31 by omega)
    have hp6 := hO.rp (show k1 < aRm S by omega)
    refine lv_ifnull hx hb dX0_rounds_5 ?_
    refine lv_iload_n hx hb dX0_rounds_8 rfl (lv_at hl 2 rfl) ?_
    refine lv_iconst (v := nI 1) hx hb dX0_rounds_9 (by decide) ?_
    refine lv_iconst (v := nI 4) hx hb dX0_rounds_10 (by decide) ?_
    refine hp_callS (As := [.int doors, .int (nI 1), .int (nI 4)]) (rest := []) hx hb hml hown hts hPB hH hS (mc_in hK0 doors (nI 1) (nI 4)) 3 (lw_S q268 q269 q102 q270) (by decide +kernel) ⟨rfl, rfl⟩ (by decide) rfl hl.1 rfl (Nat.le_of_ble_eq_true rfl) (by decide) dX0_rounds_11 (fun v7 h9 H locs hp8 _ hH hS => ?_)
    obtain ⟨rfl, hq⟩ := hp8
    rw [hq] at hH
    refine lv_top (y := zI (inN (doors - 1) 4)) (congrArg zI (in_i1 (by omega))) ?_
    refine lvB_ne (tgt := 19) hx hb dX0_rounds_14 (by decide) (fun c10 => ?_) (fun c10 => ?_)
    · obtain ⟨dr, hdr, rfl⟩ := in1d_t c10
      have edr := nI_clamp (show dr < 2 ^ 31 by omega)
      refine lv_aload_n hx hb dX0_rounds_19 rfl (lv_at hl 0 rfl) ?_
      refine lv_iload_n hx hb dX0_rounds_20 rfl (lv_at hl 1 rfl) ?_
      refine lv_iconst (v := nI 0) hx hb dX0_rounds_21 (by decide) ?_
      refine hp_callV (As := [.int (nI k1), .int (nI 0)]) (rest := []) hx hb hml hown hts hPB hK hH hS (mc_findAbove hK0 hG hO hO2 hW0 (Z := Z) (nI k1) (wo := 0) (by omega)) hW.x rfl rfl 2 (lw_V q1099 q1101 qs31 q102 q1102) (by decide +kernel) ⟨rfl, rfl⟩ (by decide) rfl hl.1 rfl (Nat.le_of_ble_eq_true rfl) (by decide) dX0_rounds_22 (fun v12 h14 H locs hp13 _ hH hS => ?_)
      obtain ⟨rfl, Y11, hq, hkpY11, hab⟩ := hp13
      rw [hq] at hH
      have hW := hW0.z Y11
      refine lv_aload_n hx hb dX0_rounds_25 rfl (lv_at hl 0 rfl) ?_
      refine lv_iload_n hx hb dX0_rounds_26 rfl (lv_at hl 1 rfl) ?_
      refine hp_callV (As := [.int (nI k1)]) (rest := []) hx hb hml hown hts hPB hK hH hS (mc_together hK0 hG hO hO2 hW0 (Z := Y11) (nI k1)) hW.x rfl rfl 1 (lw_V q1162 q1164 qs40 q102 q1165) (by decide +kernel) ⟨rfl, rfl⟩ (by decide) rfl hl.1 rfl (Nat.le_of_ble_eq_true rfl) (by decide) dX0_rounds_27 (fun v16 h18 H locs hp17 _ hH hS => ?_)
      obtain ⟨rfl, Y15, hq, hkpY15, f9, hhp, htg⟩ := hp17
      rw [hq] at hH
      have hab := rowZ_k hab hkpY15 (by decide)
      have hW := hW0.z Y15
      refine lv_iconst (v := nI 0) hx hb dX0_rounds_30 (by decide) ?_
      refine lv_istore_n (lv' := [(3, .int (nI 0)), (0, .ref (w 0)), (1, .int (nI k1)), (2, .int (nI dr))]) hx hb dX0_rounds_31 rfl hl (by decide) rfl (fun ls hl => ?_)
      refine lv_aload_n hx hb dX0_rounds_32 rfl (lv_at hl 1 rfl) ?_
      refine hp_callV (As := []) (rest := []) hx hb hml hown hts hPB hK hH hS (mc_coming hK0 hG hO hO2 hW) hW.x rfl rfl 0 (lw_V q1141 q1143 qs37 q102 q1144) (by decide +kernel) ⟨rfl, rfl⟩ (by decide) rfl hl.1 rfl (Nat.le_of_ble_eq_true rfl) (by decide) dX0_rounds_33 (fun v20 h22 H locs hp21 _ hH hS => ?_)
      obtain ⟨lc19, jlc19, tlc19, rfl, hAlc19, hxlc19, hnlc19, htlc19⟩ := hp21
      have hW := hW.X hxlc19
      have hnc := nC_le S
      refine lv_astore (lv' := [(4, .ref lc19), (3, .int (nI 0)), (0, .ref (w 0)), (1, .int (nI k1)), (2, .int (nI dr))]) hx hb dX0_rounds_36 hl (by decide) rfl (fun ls hl => ?_)
      refine lv_iconst (v := nI 0) hx hb dX0_rounds_38 (by decide) ?_
      refine lv_istore (lv' := [(5, .int (nI 0)), (4, .ref lc19), (3, .int (nI 0)), (0, .ref (w 0)), (1, .int (nI k1)), (2, .int (nI dr))]) hx hb dX0_rounds_39 hl (by decide) rfl (fun ls hl => ?_)
      refine w_loop1 (fun (k : Nat) => nC S - k) (fun (k : Nat) H locs ls => (k ≤ nC S) ∧ HP D CL (zA s0) h22 H ∧ va_S (zA s0) s.heap H locs ∧ lv_has ls 11 [(0, .ref (w 0)), (2, .int (nI dr)), (3, .int (nI (alB S k))), (4, .ref lc19), (5, .int (nI k))]) ?_ 0 ⟨Nat.zero_le _, hH, hS, lv_sub hl [3, 5, 2, 1, 0] rfl⟩
      intro k ih41 H locs ls hP
      obtain ⟨hk, hH, hS, hl⟩ := hP
      have hal := alB_lt hn hk
      refine lv_iload hx hb dX0_rounds_41 (lv_at hl 4 rfl) ?_
      refine lv_aload hx hb dX0_rounds_43 (lv_at hl 3 rfl) ?_
      refine hp_siz hx hb hml hown hts hPB hK0 hK hH hS hG hAlc19 comA_n q807 (by first | decide | (simp only [rmk]; omega)) hl.1 rfl (Nat.le_of_ble_eq_true rfl) (by decide) dX0_rounds_45 (fun H locs hH hS => ?_)
      refine lvN_ge (tgt := 75) hx hb (by first | omega | (refine Nat.lt_of_lt_of_le (Nat.mod_lt _ ?_) ?_ <;> omega)) (by first | omega | (refine Nat.lt_of_lt_of_le (Nat.mod_lt _ ?_) ?_ <;> omega)) dX0_rounds_48 (by decide) (fun c23 => ?_) (fun c23 => ?_)
      · refine lv_bipush (v := nI 10) hx hb dX0_rounds_75 (by decide) ?_
        have hWX := hW
        have hl : lv_has ls 11 [(0, .ref (w 0)), (2, .int (nI dr)), (3, .int (nI (comB S (aN S)))), (4, .ref lc19), (5, .int (nI k))] := by rw [show nI (comB S (aN S)) = nI (alB S k) from congrArg nI (by rw [← alB_com, show k = nC S by omega])]; exact hl
        obtain ⟨ha, hha, nha⟩ := hH.fr
        refine hp_newa (atype := .int) (ty := .int) (n := nI 10) (N' := 10) (a0 := (10, .inl (fun _ => 0))) hx hb (hts _ q255) rfl hK hH hS hA 0 rfl (fun z => z) (fun _ => rfl) (nI_pos (by first | omega | (refine Nat.lt_of_lt_of_le (Nat.mod_lt _ ?_) ?_ <;> omega))) (nI_clamp (by first | omega | (refine Nat.lt_of_lt_of_le (Nat.mod_lt _ ?_) ?_ <;> omega))) (by show _ * 4 ≤ _; omega) (by decide) (by decide) 41 dX0_rounds_77 (fun H _ hH hS => ?_)
        rw [← hha] at hH ⊢
        have hH : HP D CL (zA s0) (hset h22 ha (.inl (K 0, 10, .inl (fun _ => 0))) 41) H := hH
        have hW := hW.X (exH.new (e1 := .inl (K 0, 10, .inl (fun _ => 0))) (u1 := 41) nha)
        have e24 : (hset h22 ha (.inl (K 0, 10, .inl (fun _ => 0))) 41) ha = some (.inl (K 0, 10, .inl (fun _ => 0)), 41) := hset_self _ _ _ _
        refine lv_astore (lv' := [(5, .ref ha), (0, .ref (w 0)), (2, .int (nI dr)), (3, .int (nI (comB S (aN S)))), (4, .ref lc19)]) hx hb dX0_rounds_79 hl (by decide) rfl (fun ls hl => ?_)
        refine lv_bipush (v := nI 10) hx hb dX0_rounds_81 (by decide) ?_
        obtain ⟨aa, haa, naa⟩ := hH.fr
        refine hp_newa (atype := .int) (ty := .int) (n := nI 10) (N' := 10) (a0 := (10, .inl (fun _ => 0))) hx hb (hts _ q255) rfl hK hH hS hA 0 rfl (fun z => z) (fun _ => rfl) (nI_pos (by first | omega | (refine Nat.lt_of_lt_of_le (Nat.mod_lt _ ?_) ?_ <;> omega))) (nI_clamp (by first | omega | (refine Nat.lt_of_lt_of_le (Nat.mod_lt _ ?_) ?_ <;> omega))) (by show _ * 4 ≤ _; omega) (by decide) (by decide) 42 dX0_rounds_83 (fun H _ hH hS => ?_)
        rw [← haa] at hH ⊢
        have hH : HP D CL (zA s0) (hset (hset h22 ha (.inl (K 0, 10, .inl (fun _ => 0))) 41) aa (.inl (K 0, 10, .inl (fun _ => 0))) 42) H := hH
        have hW := hW.X (exH.new (e1 := .inl (K 0, 10, .inl (fun _ => 0))) (u1 := 42) naa)
        have x25 : ha ≠ aa := ne_new e24 naa
        have e26 : (hset (hset h22 ha (.inl (K 0, 10, .inl (fun _ => 0))) 41) aa (.inl (K 0, 10, .inl (fun _ => 0))) 42) ha = some (.inl (K 0, 10, .inl (fun _ => 0)), 41) := (hset_ne _ _ _ (x25)).trans e24
        have e27 : (hset (hset h22 ha (.inl (K 0, 10, .inl (fun _ => 0))) 41) aa (.inl (K 0, 10, .inl (fun _ => 0))) 42) aa = some (.inl (K 0, 10, .inl (fun _ => 0)), 42) := hset_self _ _ _ _
        refine lv_astore (lv' := [(6, .ref aa), (5, .ref ha), (0, .ref (w 0)), (2, .int (nI dr)), (3, .int (nI (comB S (aN S)))), (4, .ref lc19)]) hx hb dX0_rounds_85 hl (by decide) rfl (fun ls hl => ?_)
        refine lv_iconst (v := nI 0) hx hb dX0_rounds_87 (by decide) ?_
        refine lv_istore (lv' := [(7, .int (nI 0)), (6, .ref aa), (5, .ref ha), (0, .ref (w 0)), (2, .int (nI dr)), (3, .int (nI (comB S (aN S)))), (4, .ref lc19)]) hx hb dX0_rounds_88 hl (by decide) rfl (fun ls hl => ?_)
        refine w_loop4 (fun (m : Nat) (fh : Nat → Int32) (fa : Nat → Int32) (hh : Hp) => nC S - m) (fun (m : Nat) (fh : Nat → Int32) (fa : Nat → Int32) (hh : Hp) H locs ls => (m ≤ nC S) ∧ (∀ k, k < 10 → fh k = nI (heP S f9 m k)) ∧ (∀ k, k < 10 → fa k = nI (ahP S (abv S (nI k1) 0) f9 m k)) ∧ (hh ha = some (.inl (K 0, 10, .inl fh), 41)) ∧ (hh aa = some (.inl (K 0, 10, .inl fa), 42)) ∧ (exH h22 hh) ∧ HP D CL (zA s0) hh H ∧ va_S (zA s0) s.heap H locs ∧ lv_has ls 11 [(0, .ref (w 0)), (2, .int (nI dr)), (3, .int (nI (comB S (aN S)))), (4, .ref lc19), (5, .ref ha), (6, .ref aa), (7, .int (nI m))]) ?_ 0 (fun _ => 0) (fun _ => 0) (hset (hset h22 ha (.inl (K 0, 10, .inl (fun _ => 0))) 41) aa (.inl (K 0, 10, .inl (fun _ => 0))) 42) ⟨Nat.zero_le _, fun _ _ => rfl, fun _ _ => rfl, e26, e27, ex_set (ex_set ex_rf nha) (hset_none naa), hH, hS, lv_sub hl [3, 4, 5, 6, 2, 1, 0] rfl⟩
        intro m fh fa hh ih90 H locs ls hP
        obtain ⟨hm9, hfh, hfa, hha9, haa9, hxB, hH, hS, hl⟩ := hP
        have hW := hWX.X hxB
        have hAl := hAlc19.X hxB
        refine lv_iload hx hb dX0_rounds_90 (lv_at hl 6 rfl) ?_
        refine lv_aload hx hb dX0_rounds_92 (lv_at hl 3 rfl) ?_
        refine hp_siz hx hb hml hown hts hPB hK0 hK hH hS hG hAl comA_n q807 (by first | decide | (simp only [rmk]; omega)) hl.1 rfl (Nat.le_of_ble_eq_true rfl) (by decide) dX0_rounds_94 (fun H locs hH hS => ?_)
        refine lvN_ge (tgt := 211) hx hb (by first | omega | (refine Nat.lt_of_lt_of_le (Nat.mod_lt _ ?_) ?_ <;> omega)) (by first | omega | (refine Nat.lt_of_lt_of_le (Nat.mod_lt _ ?_) ?_ <;> omega)) dX0_rounds_97 (by decide) (fun c28 => ?_) (fun c28 => ?_)
        · have hfhN : ∀ k, k < 10 → fh k = nI (heP S f9 (nC S) k) := (show m = nC S by omega) ▸ hfh
          have hfaN := hfa
          rw [show m = nC S by omega] at hfaN
          refine lv_sipush (v := nI 1024) hx hb dX0_rounds_211 (by decide) ?_
          obtain ⟨la, hla, nla⟩ := hH.fr
          refine hp_newa (atype := .int) (ty := .int) (n := nI 1024) (N' := 1024) (a0 := (1024, .inl (fun _ => 0))) hx hb (hts _ q255) rfl hK hH hS hA 0 rfl (fun z => z) (fun _ => rfl) (nI_pos (by first | omega | (refine Nat.lt_of_lt_of_le (Nat.mod_lt _ ?_) ?_ <;> omega))) (nI_clamp (by first | omega | (refine Nat.lt_of_lt_of_le (Nat.mod_lt _ ?_) ?_ <;> omega))) (by show _ * 4 ≤ _; omega) (by decide) (by decide) 43 dX0_rounds_214 (fun H _ hH hS => ?_)
          rw [← hla] at hH ⊢
          have hH : HP D CL (zA s0) (hset hh la (.inl (K 0, 1024, .inl (fun _ => 0))) 43) H := hH
          have hW := hW.X (exH.new (e1 := .inl (K 0, 1024, .inl (fun _ => 0))) (u1 := 43) nla)
          have x29 : ha ≠ la := ne_new hha9 nla
          have x30 : aa ≠ la := ne_new haa9 nla
          have e31 : (hset hh la (.inl (K 0, 1024, .inl (fun _ => 0))) 43) ha = some (.inl (K 0, 10, .inl fh), 41) := (hset_ne _ _ _ (x29)).trans hha9
          have e32 : (hset hh la (.inl (K 0, 1024, .inl (fun _ => 0))) 43) aa = some (.inl (K 0, 10, .inl fa), 42) := (hset_ne _ _ _ (x30)).trans haa9
          have e33 : (hset hh la (.inl (K 0, 1024, .inl (fun _ => 0))) 43) la = some (.inl (K 0, 1024, .inl (fun _ => 0)), 43) := hset_self _ _ _ _
          refine lv_astore (lv' := [(7, .ref la), (0, .ref (w 0)), (2, .int (nI dr)), (3, .int (nI (comB S (aN S)))), (4, .ref lc19), (5, .ref ha), (6, .ref aa)]) hx hb dX0_rounds_216 hl (by decide) rfl (fun ls hl => ?_)
          have nlaX := ex_none hxB nla
          refine lv_iconst (v := nI 1) hx hb dX0_rounds_218 (by decide) ?_
          refine lv_istore (lv' := [(8, .int (nI 1)), (7, .ref la), (0, .ref (w 0)), (2, .int (nI dr)), (3, .int (nI (comB S (aN S)))), (4, .ref lc19), (5, .ref ha), (6, .ref aa)]) hx hb dX0_rounds_219 hl (by decide) rfl (fun ls hl => ?_)
          refine w_loop3 (fun (d : Nat) (f : Nat → Int32) (hh : Hp) => comB S (aN S) + 1 - d) (fun (d : Nat) (f : Nat → Int32) (hh : Hp) H locs ls => (1 ≤ d ∧ d ≤ comB S (aN S) + 1) ∧ (f 0 = 0) ∧ (∀ u, 1 ≤ u → u < d → f u = nI 1000000) ∧ (hh ha = some (.inl (K 0, 10, .inl fh), 41)) ∧ (hh aa = some (.inl (K 0, 10, .inl fa), 42)) ∧ (hh la = some (.inl (K 0, 1024, .inl f), 43)) ∧ (exH h22 hh) ∧ HP D CL (zA s0) hh H ∧ va_S (zA s0) s.heap H locs ∧ lv_has ls 11 [(0, .ref (w 0)), (2, .int (nI dr)), (3, .int (nI (comB S (aN S)))), (4, .ref lc19), (5, .ref ha), (6, .ref aa), (7, .ref la), (8, .int (nI d))]) ?_ 1 (fun _ => 0) (hset hh la (.inl (K 0, 1024, .inl (fun _ => 0))) 43) ⟨⟨Nat.le_refl _, by omega⟩, rfl, fun u h1 h2 => absurd h2 (by omega), e31, e32, e33, ex_set hxB (ex_none hxB nla), hH, hS, lv_sub hl [2, 3, 4, 5, 6, 7, 1, 0] rfl⟩
          intro d f hh ih221 H locs ls hP
          obtain ⟨hd9, hf0, hfd, hha9, haa9, hla9, hxB, hH, hS, hl⟩ := hP
          have hW := hWX.X hxB
          have hAl := hAlc19.X hxB
          refine lv_iload hx hb dX0_rounds_221 (lv_at hl 7 rfl) ?_
          refine lv_iload_n hx hb dX0_rounds_223 rfl (lv_at hl 2 rfl) ?_
          refine lvN_gt (tgt := 241) hx hb (by first | omega | (refine Nat.lt_of_lt_of_le (Nat.mod_lt _ ?_) ?_ <;> omega)) (by first | omega | (refine Nat.lt_of_lt_of_le (Nat.mod_lt _ ?_) ?_ <;> omega)) dX0_rounds_224 (by decide) (fun c34 => ?_) (fun c34 => ?_)
          · refine lv_iconst (v := nI 0) hx hb dX0_rounds_241 (by decide) ?_
            refine lv_istore (lv' := [(8, .int (nI 0)), (0, .ref (w 0)), (2, .int (nI dr)), (3, .int (nI (comB S (aN S)))), (4, .ref lc19), (5, .ref ha), (6, .ref aa), (7, .ref la)]) hx hb dX0_rounds_242 hl (by decide) rfl (fun ls hl => ?_)
            refine w_loop4 (fun (d : Nat) (T : Nat → Option Nat) (f : Nat → Int32) (hh : Hp) => comB S (aN S) - d) (fun (d : Nat) (T : Nat → Option Nat) (f : Nat → Int32) (hh : Hp) H locs ls => (d ≤ comB S (aN S)) ∧ (tbI (stp S (abv S (nI k1) 0) (evn S (nI k1)) dr) T d (fun _ => False)) ∧ (tbF T (comB S (aN S)) f) ∧ (hh ha = some (.inl (K 0, 10, .inl fh), 41)) ∧ (hh aa = some (.inl (K 0, 10, .inl fa), 42)) ∧ (hh la = some (.inl (K 0, 1024, .inl f), 43)) ∧ (exH h22 hh) ∧ HP D CL (zA s0) hh H ∧ va_S (zA s0) s.heap H locs ∧ lv_has ls 11 [(0, .ref (w 0)), (2, .int (nI dr)), (3, .int (nI (comB S (aN S)))), (5, .ref ha), (6, .ref aa), (7, .ref la), (8, .int (nI d))]) ?_ 0 T00 f hh ⟨Nat.zero_le _, tb_0 rfl (fun d hd => if_neg hd), T00_f hf0 (fun u h1 h2 => hfd u h1 (by omega)), hha9, haa9, hla9, hxB, hH, hS, lv_sub hl [1, 2, 3, 5, 6, 7, 0] rfl⟩
            intro d T f hh ih244 H locs ls hP
            obtain ⟨hd9, hT, hfT, hha9, haa9, hla9, hxB, hH, hS, hl⟩ := hP
            have hW := hWX.X hxB
            have hAl := hAlc19.X hxB
            have hxl := andn_le (a := d) (b := comB S (aN S))
            have hol := oFn_le hT (d := d) (by omega)
            refine lv_iload hx hb dX0_rounds_244 (lv_at hl 6 rfl) ?_
            refine lv_iload_n hx hb dX0_rounds_246 rfl (lv_at hl 2 rfl) ?_
            refine lvN_ge (tgt := 358) hx hb (by first | omega | (refine Nat.lt_of_lt_of_le (Nat.mod_lt _ ?_) ?_ <;> omega)) (by first | omega | (refine Nat.lt_of_lt_of_le (Nat.mod_lt _ ?_) ?_ <;> omega)) dX0_rounds_247 (by decide) (fun c35 => ?_) (fun c35 => ?_)
            · have eT : dst (stp S (abv S (nI k1) 0) (evn S (nI k1)) dr) (comB S (aN S)) = T (comB S (aN S)) := tb_endR ((show d = comB S (aN S) by omega) ▸ hT) _
              have hol3 := oFn_le hT (d := comB S (aN S)) (by omega)
              refine lv_aload hx hb dX0_rounds_358 (lv_at hl 5 rfl) ?_
              refine lv_iload_n hx hb dX0_rounds_360 rfl (lv_at hl 2 rfl) ?_
              refine hp_ild (n := 1024) (j := comB S (aN S)) (v := nI (oFn (T (comB S (aN S))))) hx hb hK hH 0 hla9 rfl (by first | omega | (refine Nat.lt_of_lt_of_le (Nat.mod_lt _ ?_) ?_ <;> omega)) (by first | omega | (refine Nat.lt_of_lt_of_le (Nat.mod_lt _ ?_) ?_ <;> omega)) ((hfT _ (Nat.le_refl _)).trans (oF_n _)) dX0_rounds_361 ?_
              refine lv_ldcw (v := 1000000) hx hb hown (hts _ q1171) dX0_rounds_362 ?_
              refine lv_top (y := nI 1000000) (by decide) ?_
              refine lvN_ne (tgt := 372) hx hb (by first | omega | (refine Nat.lt_of_lt_of_le (Nat.mod_lt _ ?_) ?_ <;> omega)) (by first | omega | (refine Nat.lt_of_lt_of_le (Nat.mod_lt _ ?_) ?_ <;> omega)) dX0_rounds_365 (by decide) (fun c8 => ?_) (fun c8 => ?_)
              · refine lv_aload hx hb dX0_rounds_372 (lv_at hl 5 rfl) ?_
                refine lv_iload_n hx hb dX0_rounds_374 rfl (lv_at hl 2 rfl) ?_
                refine hp_ild (n := 1024) (j := comB S (aN S)) (v := nI (oFn (T (comB S (aN S))))) hx hb hK hH 0 hla9 rfl (by first | omega | (refine Nat.lt_of_lt_of_le (Nat.mod_lt _ ?_) ?_ <;> omega)) (by first | omega | (refine Nat.lt_of_lt_of_le (Nat.mod_lt _ ?_) ?_ <;> omega)) ((hfT _ (Nat.le_refl _)).trans (oF_n _)) dX0_rounds_375 ?_
                have hH := hH.X (ex_tr hxlc19 hxB)
                exact hp_iret hx hb hr hlocks hH hS (by decide) (by decide) dX0_rounds_376 (⟨congrArg some (congrArg Value.int (by simp only [spRounds, hik1, edr, c10, Bool.and_self, if_true]; rw [eT]; obtain ⟨k8, hk8⟩ := oFn_is c8; rw [hk8]; rfl)), _, rfl⟩)
              · refine lv_iconst (v := (-1)) hx hb dX0_rounds_368 (by decide) ?_
                refine lv_goto (tgt := 376) hx hb dX0_rounds_369 (by decide) ?_
                have hH := hH.X (ex_tr hxlc19 hxB)
                exact hp_iret hx hb hr hlocks hH hS (by decide) (by decide) dX0_rounds_376 (⟨congrArg some (congrArg Value.int (by simp only [spRounds, hik1, edr, c10, Bool.and_self, if_true]; rw [eT]; rw [oFn_no hT (by omega) c8]; rfl)), _, rfl⟩)
            · refine lv_iload hx hb dX0_rounds_250 (lv_at hl 6 rfl) ?_
              refine lv_iload_n hx hb dX0_rounds_252 rfl (lv_at hl 2 rfl) ?_
              refine lv_iconst (v := (-1)) hx hb dX0_rounds_253 (by decide) ?_
              refine lv_ixor hx hb dX0_rounds_254 ?_
              refine lv_iand hx hb dX0_rounds_255 ?_
              refine lv_top (y := nI (d ^^^ (d &&& comB S (aN S)))) (bi_andn _ _) ?_
              refine lvZ_ne (tgt := 352) hx hb (by first | omega | (refine Nat.lt_of_lt_of_le (Nat.mod_lt _ ?_) ?_ <;> omega)) dX0_rounds_256 (by decide) (fun c1 => ?_) (fun c1 => ?_)
              · refine lv_iinc (v := nI (d + 1)) (lv' := [(8, .int (nI (d + 1))), (0, .ref (w 0)), (2, .int (nI dr)), (3, .int (nI (comB S (aN S)))), (5, .ref ha), (6, .ref aa), (7, .ref la)]) hx hb dX0_rounds_352 hl (k := 6) rfl (nI_add d 1) (by decide) rfl (fun ls hl => ?_)
                refine lv_goto (tgt := 244) hx hb dX0_rounds_355 (by decide) ?_
                exact ih244 (d + 1) T f hh (by omega) H locs ls ⟨by omega, tb_skip hT (tb_out hT c1), hfT, hha9, haa9, hla9, hxB, hH, hS, lv_sub hl [1, 2, 3, 4, 5, 6, 0] rfl⟩
              · refine lv_aload hx hb dX0_rounds_259 (lv_at hl 5 rfl) ?_
                refine lv_iload hx hb dX0_rounds_261 (lv_at hl 6 rfl) ?_
                refine hp_ild (n := 1024) (j := d) (v := nI (oFn (T d))) hx hb hK hH 0 hla9 rfl (by first | omega | (refine Nat.lt_of_lt_of_le (Nat.mod_lt _ ?_) ?_ <;> omega)) (by first | omega | (refine Nat.lt_of_lt_of_le (Nat.mod_lt _ ?_) ?_ <;> omega)) ((hfT d (by omega)).trans (oF_n _)) dX0_rounds_263 ?_
                refine lv_ldcw (v := 1000000) hx hb hown (hts _ q1171) dX0_rounds_264 ?_
                refine lv_top (y := nI 1000000) (by decide) ?_
                refine lvN_ne (tgt := 273) hx hb (by first | omega | (refine Nat.lt_of_lt_of_le (Nat.mod_lt _ ?_) ?_ <;> omega)) (by first | omega | (refine Nat.lt_of_lt_of_le (Nat.mod_lt _ ?_) ?_ <;> omega)) dX0_rounds_267 (by decide) (fun c2 => ?_) (fun c2 => ?_)
                · obtain ⟨k0, hk0⟩ := oFn_is c2
                  have hrl9 := andn_le (a := comB S (aN S)) (b := d)
                  refine lv_iload_n hx hb dX0_rounds_273 rfl (lv_at hl 2 rfl) ?_
                  refine lv_iload hx hb dX0_rounds_274 (lv_at hl 6 rfl) ?_
                  refine lv_iconst (v := (-1)) hx hb dX0_rounds_276 (by decide) ?_
                  refine lv_ixor hx hb dX0_rounds_277 ?_
                  refine lv_iand hx hb dX0_rounds_278 ?_
                  refine lv_top (y := nI (comB S (aN S) ^^^ (comB S (aN S) &&& d))) (bi_andn _ _) ?_
                  refine lv_istore (lv' := [(9, .int (nI (comB S (aN S) ^^^ (comB S (aN S) &&& d)))), (0, .ref (w 0)), (2, .int (nI dr)), (3, .int (nI (comB S (aN S)))), (5, .ref ha), (6, .ref aa), (7, .ref la), (8, .int (nI d))]) hx hb dX0_rounds_279 hl (by decide) rfl (fun ls hl => ?_)
                  refine lv_iload hx hb dX0_rounds_281 (lv_at hl 0 rfl) ?_
                  refine lv_istore (lv' := [(10, .int (nI (comB S (aN S) ^^^ (comB S (aN S) &&& d)))), (9, .int (nI (comB S (aN S) ^^^ (comB S (aN S) &&& d)))), (0, .ref (w 0)), (2, .int (nI dr)), (3, .int (nI (comB S (aN S)))), (5, .ref ha), (6, .ref aa), (7, .ref la), (8, .int (nI d))]) hx hb dX0_rounds_283 hl (by decide) rfl (fun ls hl => ?_)
                  refine w_loop4 (fun (s9 : Nat) (T : Nat → Option Nat) (f : Nat → Int32) (hh : Hp) => s9) (fun (s9 : Nat) (T : Nat → Option Nat) (f : Nat → Int32) (hh : Hp) H locs ls => (s9 &&& (comB S (aN S) ^^^ (comB S (aN S) &&& d)) = s9) ∧ (T d = some k0) ∧ (tbI (stp S (abv S (nI k1) 0) (evn S (nI k1)) dr) T d (ppR (comB S (aN S) ^^^ (comB S (aN S) &&& d)) d s9)) ∧ (tbF T (comB S (aN S)) f) ∧ (hh ha = some (.inl (K 0, 10, .inl fh), 41)) ∧ (hh aa = some (.inl (K 0, 10, .inl fa), 42)) ∧ (hh la = some (.inl (K 0, 1024, .inl f), 43)) ∧ (exH h22 hh) ∧ HP D CL (zA s0) hh H ∧ va_S (zA s0) s.heap H locs ∧ lv_has ls 11 [(0, .ref (w 0)), (2, .int (nI dr)), (3, .int (nI (comB S (aN S)))), (5, .ref ha), (6, .ref aa), (7, .ref la), (8, .int (nI d)), (9, .int (nI (comB S (aN S) ^^^ (comB S (aN S) &&& d)))), (10, .int (nI s9))]) ?_ (comB S (aN S) ^^^ (comB S (aN S) &&& d)) T f hh ⟨Nat.and_self _, hk0, pr_0 hT, hfT, hha9, haa9, hla9, hxB, hH, hS, lv_sub hl [2, 3, 4, 5, 6, 7, 8, 1, 0] rfl⟩
                  intro s9 T f hh ih285 H locs ls hP
                  obtain ⟨hs9, hk0, hT, hfT, hha9, haa9, hla9, hxB, hH, hS, hl⟩ := hP
                  have hW := hWX.X hxB
                  have hAl := hAlc19.X hxB
                  have hsl := sub_le hs9
                  have hpl := popN_le s9
                  have hkd := tb_lt hT hk0
                  refine lv_iload hx hb dX0_rounds_285 (lv_at hl 8 rfl) ?_
                  refine lvZ_le (tgt := 352) hx hb (by first | omega | (refine Nat.lt_of_lt_of_le (Nat.mod_lt _ ?_) ?_ <;> omega)) dX0_rounds_287 (by decide) (fun c3 => ?_) (fun c3 => ?_)
                  · refine lv_iinc (v := nI (d + 1)) (lv' := [(8, .int (nI (d + 1))), (0, .ref (w 0)), (2, .int (nI dr)), (3, .int (nI (comB S (aN S)))), (5, .ref ha), (6, .ref aa), (7, .ref la), (9, .int (nI (comB S (aN S) ^^^ (comB S (aN S) &&& d)))), (10, .int (nI s9))]) hx hb dX0_rounds_352 hl (k := 6) rfl (nI_add d 1) (by decide) rfl (fun ls hl => ?_)
                    refine lv_goto (tgt := 244) hx hb dX0_rounds_355 (by decide) ?_
                    exact ih244 (d + 1) T f hh (by omega) H locs ls ⟨by omega, pr_end ((show s9 = 0 by omega) ▸ hT), hfT, hha9, haa9, hla9, hxB, hH, hS, lv_sub hl [1, 2, 3, 4, 5, 6, 0] rfl⟩
                  · refine lv_iload hx hb dX0_rounds_290 (lv_at hl 8 rfl) ?_
                    refine hp_callS (As := [.int (nI s9)]) (rest := []) hx hb hml hown hts hPB hH hS (mt_bitCount hK0 (x := s9) (by omega)) 1 (lw_S q1127 q1128 q138 q1129) (by decide +kernel) ⟨rfl, rfl⟩ (by decide) rfl hl.1 rfl (Nat.le_of_ble_eq_true rfl) (by decide) dX0_rounds_292 (fun v36 h38 H locs hp37 _ hH hS => ?_)
                    obtain ⟨rfl, hq⟩ := hp37
                    rw [hq] at hH
                    refine lv_iload_n hx hb dX0_rounds_295 rfl (lv_at hl 1 rfl) ?_
                    refine lvN_gt (tgt := 340) hx hb (by first | omega | (refine Nat.lt_of_lt_of_le (Nat.mod_lt _ ?_) ?_ <;> omega)) (by first | omega | (refine Nat.lt_of_lt_of_le (Nat.mod_lt _ ?_) ?_ <;> omega)) dX0_rounds_296 (by decide) (fun c4 => ?_) (fun c4 => ?_)
                    · refine lv_iload hx hb dX0_rounds_340 (lv_at hl 8 rfl) ?_
                      refine lv_iconst (v := nI 1) hx hb dX0_rounds_342 (by decide) ?_
                      refine lv_isub hx hb dX0_rounds_343 ?_
                      refine lv_top (y := nI (s9 - 1)) (pk_sub (by first | omega | (refine Nat.lt_of_lt_of_le (Nat.mod_lt _ ?_) ?_ <;> omega))) ?_
                      refine lv_iload hx hb dX0_rounds_344 (lv_at hl 7 rfl) ?_
                      refine lv_iand hx hb dX0_rounds_346 ?_
                      refine lv_top (y := nI ((s9 - 1) &&& (comB S (aN S) ^^^ (comB S (aN S) &&& d)))) (bi_and _ _) ?_
                      refine lv_istore (lv' := [(10, .int (nI ((s9 - 1) &&& (comB S (aN S) ^^^ (comB S (aN S) &&& d))))), (0, .ref (w 0)), (2, .int (nI dr)), (3, .int (nI (comB S (aN S)))), (5, .ref ha), (6, .ref aa), (7, .ref la), (8, .int (nI d)), (9, .int (nI (comB S (aN S) ^^^ (comB S (aN S) &&& d))))]) hx hb dX0_rounds_347 hl (by decide) rfl (fun ls hl => ?_)
                      refine lv_goto (tgt := 285) hx hb dX0_rounds_349 (by decide) ?_
                      exact ih285 ((s9 - 1) &&& (comB S (aN S) ^^^ (comB S (aN S) &&& d))) T f hh (by (have := Nat.and_le_left (n := s9 - 1) (m := comB S (aN S) ^^^ (comB S (aN S) &&& d)); omega)) H locs ls ⟨and_idem _ _, hk0, pr_next hs9 (pr_no (fun z => (fun q => absurd q.1 (by omega)) ((step_ok hn htg (fun x y => evn_sym) (fun x y => evn_com) (fun x y q => ⟨(abv_lt hO hO2 q).1, (abv_com q).1⟩) hs9 (by omega)).mp z)) hT), hfT, hha9, haa9, hla9, hxB, hH, hS, lv_sub hl [1, 2, 3, 4, 5, 6, 7, 8, 0] rfl⟩
                    · refine lv_aload_n hx hb dX0_rounds_299 rfl (lv_at hl 0 rfl) ?_
                      refine lv_iload hx hb dX0_rounds_300 (lv_at hl 6 rfl) ?_
                      refine lv_iload hx hb dX0_rounds_302 (lv_at hl 8 rfl) ?_
                      refine lv_aload hx hb dX0_rounds_304 (lv_at hl 3 rfl) ?_
                      refine lv_aload hx hb dX0_rounds_306 (lv_at hl 4 rfl) ?_
                      refine hp_callV (As := [.int (nI d), .int (nI s9), .ref ha, .ref aa]) (rest := []) hx hb hml hown hts hPB hK hH hS (mc_mayGo hK0 hG hO hO2 hW (d := d) (s9 := s9) (H9 := heP S f9 (nC S)) (G9 := ahP S (abv S (nI k1) 0) f9 (nC S)) hha9 haa9 (fun k hk => ⟨hfhN k hk, heP_lt hn (Nat.le_refl _)⟩) (fun k hk => ⟨hfaN k hk, ahP_lt hn (Nat.le_refl _)⟩) (by omega) (by omega)) hW.x rfl rfl 4 (lw_V q1172 q1174 qs42 q102 q1175) (by decide +kernel) ⟨rfl, rfl⟩ (by decide) rfl hl.1 rfl (Nat.le_of_ble_eq_true rfl) (by decide) dX0_rounds_308 (fun v39 h41 H locs hp40 _ hH hS => ?_)
                      obtain ⟨rfl, hq⟩ := hp40
                      rw [hq] at hH
                      refine lvB_eq (tgt := 340) hx hb dX0_rounds_311 (by decide) (fun cm9 => ?_) (fun cm9 => ?_)
                      · refine lv_iload hx hb dX0_rounds_340 (lv_at hl 8 rfl) ?_
                        refine lv_iconst (v := nI 1) hx hb dX0_rounds_342 (by decide) ?_
                        refine lv_isub hx hb dX0_rounds_343 ?_
                        refine lv_top (y := nI (s9 - 1)) (pk_sub (by first | omega | (refine Nat.lt_of_lt_of_le (Nat.mod_lt _ ?_) ?_ <;> omega))) ?_
                        refine lv_iload hx hb dX0_rounds_344 (lv_at hl 7 rfl) ?_
                        refine lv_iand hx hb dX0_rounds_346 ?_
                        refine lv_top (y := nI ((s9 - 1) &&& (comB S (aN S) ^^^ (comB S (aN S) &&& d)))) (bi_and _ _) ?_
                        refine lv_istore (lv' := [(10, .int (nI ((s9 - 1) &&& (comB S (aN S) ^^^ (comB S (aN S) &&& d))))), (0, .ref (w 0)), (2, .int (nI dr)), (3, .int (nI (comB S (aN S)))), (5, .ref ha), (6, .ref aa), (7, .ref la), (8, .int (nI d)), (9, .int (nI (comB S (aN S) ^^^ (comB S (aN S) &&& d))))]) hx hb dX0_rounds_347 hl (by decide) rfl (fun ls hl => ?_)
                        refine lv_goto (tgt := 285) hx hb dX0_rounds_349 (by decide) ?_
                        exact ih285 ((s9 - 1) &&& (comB S (aN S) ^^^ (comB S (aN S) &&& d))) T f hh (by (have := Nat.and_le_left (n := s9 - 1) (m := comB S (aN S) ^^^ (comB S (aN S) &&& d)); omega)) H locs ls ⟨and_idem _ _, hk0, pr_next hs9 (pr_no (fun z => (fun q => by rw [cm9] at q; cases q.2) ((step_ok hn htg (fun x y => evn_sym) (fun x y => evn_com) (fun x y q => ⟨(abv_lt hO hO2 q).1, (abv_com q).1⟩) hs9 (by omega)).mp z)) hT), hfT, hha9, haa9, hla9, hxB, hH, hS, lv_sub hl [1, 2, 3, 4, 5, 6, 7, 8, 0] rfl⟩
                      · have hst := (step_ok hn htg (fun x y => evn_sym) (fun x y => evn_com) (fun x y q => ⟨(abv_lt hO hO2 q).1, (abv_com q).1⟩) hs9 (by omega)).mpr ⟨by omega, cm9⟩
                        have hora := or_le_all (tb_sub hT hk0) hs9
                        have hlo := lt_or hs9 (by omega)
                        have hol2 := oFn_le hT (d := d ||| s9) (by omega)
                        by_cases hj : ∃ j0, T (d ||| s9) = some j0 ∧ j0 ≤ k0 + 1
                        · obtain ⟨j0, hj0, hj1⟩ := hj
                          refine lv_aload hx hb dX0_rounds_314 (lv_at hl 5 rfl) ?_
                          refine lv_iload hx hb dX0_rounds_316 (lv_at hl 6 rfl) ?_
                          refine lv_iload hx hb dX0_rounds_318 (lv_at hl 8 rfl) ?_
                          refine lv_ior hx hb dX0_rounds_320 ?_
                          refine lv_top (y := nI (d ||| s9)) (bi_or _ _) ?_
                          refine lv_aload hx hb dX0_rounds_321 (lv_at hl 5 rfl) ?_
                          refine lv_iload hx hb dX0_rounds_323 (lv_at hl 6 rfl) ?_
                          refine lv_iload hx hb dX0_rounds_325 (lv_at hl 8 rfl) ?_
                          refine lv_ior hx hb dX0_rounds_327 ?_
                          refine lv_top (y := nI (d ||| s9)) (bi_or _ _) ?_
                          refine hp_ild (n := 1024) (j := d ||| s9) (v := nI (oFn (T (d ||| s9)))) hx hb hK hH 0 hla9 rfl (by first | omega | (refine Nat.lt_of_lt_of_le (Nat.mod_lt _ ?_) ?_ <;> omega)) (by first | omega | (refine Nat.lt_of_lt_of_le (Nat.mod_lt _ ?_) ?_ <;> omega)) ((hfT _ (by omega)).trans (oF_n _)) dX0_rounds_328 ?_
                          refine lv_aload hx hb dX0_rounds_329 (lv_at hl 5 rfl) ?_
                          refine lv_iload hx hb dX0_rounds_331 (lv_at hl 6 rfl) ?_
                          refine hp_ild (n := 1024) (j := d) (v := nI k0) hx hb hK hH 0 hla9 rfl (by first | omega | (refine Nat.lt_of_lt_of_le (Nat.mod_lt _ ?_) ?_ <;> omega)) (by first | omega | (refine Nat.lt_of_lt_of_le (Nat.mod_lt _ ?_) ?_ <;> omega)) ((hfT d (by omega)).trans (by rw [hk0]; rfl)) dX0_rounds_333 ?_
                          refine lv_iconst (v := nI 1) hx hb dX0_rounds_334 (by decide) ?_
                          refine lv_iadd hx hb dX0_rounds_335 ?_
                          refine lv_top (y := nI (k0 + 1)) (nI_add _ _) ?_
                          refine va_mmin hx hb (hml.trans hl.1.symm) hown (hts _ q1170) (hts _ q412) (hts _ q114) (hts _ q413) (Nat.le_of_ble_eq_true rfl) (Nat.le_of_ble_eq_true rfl) (Nat.le_of_ble_eq_true rfl) (Nat.le_of_ble_eq_true rfl) dX0_rounds_336 ?_
                          refine lv_top (y := nI (min (oFn (T (d ||| s9))) (k0 + 1))) (i_minN (by first | omega | (refine Nat.lt_of_lt_of_le (Nat.mod_lt _ ?_) ?_ <;> omega)) (by first | omega | (refine Nat.lt_of_lt_of_le (Nat.mod_lt _ ?_) ?_ <;> omega))) ?_
                          refine hp_ist (n := 1024) (j := d ||| s9) hx hb hK hH hS 0 hla9 rfl (by first | omega | (refine Nat.lt_of_lt_of_le (Nat.mod_lt _ ?_) ?_ <;> omega)) (by first | omega | (refine Nat.lt_of_lt_of_le (Nat.mod_lt _ ?_) ?_ <;> omega)) dX0_rounds_339 (fun H locs _ hH hS => ?_)
                          have hH : HP D CL (zA s0) (hset hh la (.inl (K 0, 1024, .inl (upd f (d ||| s9) (nI (min (oFn (T (d ||| s9))) (k0 + 1)))))) 43) H := hH
                          have hW := hW.fr (set_fr (c1 := .inl (K 0, 1024, .inl (upd f (d ||| s9) (nI (min (oFn (T (d ||| s9))) (k0 + 1)))))) hla9) (by omega) (ob_a hla9)
                          have e42 : (hset hh la (.inl (K 0, 1024, .inl (upd f (d ||| s9) (nI (min (oFn (T (d ||| s9))) (k0 + 1)))))) 43) ha = some (.inl (K 0, 10, .inl fh), 41) := (hset_ne _ _ _ (ne_tg hha9 hla9 (by decide))).trans hha9
                          have e43 : (hset hh la (.inl (K 0, 1024, .inl (upd f (d ||| s9) (nI (min (oFn (T (d ||| s9))) (k0 + 1)))))) 43) aa = some (.inl (K 0, 10, .inl fa), 42) := (hset_ne _ _ _ (ne_tg haa9 hla9 (by decide))).trans haa9
                          have e44 : (hset hh la (.inl (K 0, 1024, .inl (upd f (d ||| s9) (nI (min (oFn (T (d ||| s9))) (k0 + 1)))))) 43) la = some (.inl (K 0, 1024, .inl (upd f (d ||| s9) (nI (min (oFn (T (d ||| s9))) (k0 + 1))))), 43) := hset_self _ _ _ _
                          refine lv_iload hx hb dX0_rounds_340 (lv_at hl 8 rfl) ?_
                          refine lv_iconst (v := nI 1) hx hb dX0_rounds_342 (by decide) ?_
                          refine lv_isub hx hb dX0_rounds_343 ?_
                          refine lv_top (y := nI (s9 - 1)) (pk_sub (by first | omega | (refine Nat.lt_of_lt_of_le (Nat.mod_lt _ ?_) ?_ <;> omega))) ?_
                          refine lv_iload hx hb dX0_rounds_344 (lv_at hl 7 rfl) ?_
                          refine lv_iand hx hb dX0_rounds_346 ?_
                          refine lv_top (y := nI ((s9 - 1) &&& (comB S (aN S) ^^^ (comB S (aN S) &&& d)))) (bi_and _ _) ?_
                          refine lv_istore (lv' := [(10, .int (nI ((s9 - 1) &&& (comB S (aN S) ^^^ (comB S (aN S) &&& d))))), (0, .ref (w 0)), (2, .int (nI dr)), (3, .int (nI (comB S (aN S)))), (5, .ref ha), (6, .ref aa), (7, .ref la), (8, .int (nI d)), (9, .int (nI (comB S (aN S) ^^^ (comB S (aN S) &&& d))))]) hx hb dX0_rounds_347 hl (by decide) rfl (fun ls hl => ?_)
                          refine lv_goto (tgt := 285) hx hb dX0_rounds_349 (by decide) ?_
                          exact ih285 ((s9 - 1) &&& (comB S (aN S) ^^^ (comB S (aN S) &&& d))) T (upd f (d ||| s9) (nI (min (oFn (T (d ||| s9))) (k0 + 1)))) (hset hh la (.inl (K 0, 1024, .inl (upd f (d ||| s9) (nI (min (oFn (T (d ||| s9))) (k0 + 1)))))) 43) (by (have := Nat.and_le_left (n := s9 - 1) (m := comB S (aN S) ^^^ (comB S (aN S) &&& d)); omega)) H locs ls ⟨and_idem _ _, hk0, pr_next hs9 (tb_keep hT hk0 hj0 hj1), tbF_same hfT hj0 hj1, e42, e43, e44, ex_set hxB nlaX, hH, hS, lv_sub hl [1, 2, 3, 4, 5, 6, 7, 8, 0] rfl⟩
                        · skip
                          refine lv_aload hx hb dX0_rounds_314 (lv_at hl 5 rfl) ?_
                          refine lv_iload hx hb dX0_rounds_316 (lv_at hl 6 rfl) ?_
                          refine lv_iload hx hb dX0_rounds_318 (lv_at hl 8 rfl) ?_
                          refine lv_ior hx hb dX0_rounds_320 ?_
                          refine lv_top (y := nI (d ||| s9)) (bi_or _ _) ?_
                          refine lv_aload hx hb dX0_rounds_321 (lv_at hl 5 rfl) ?_
                          refine lv_iload hx hb dX0_rounds_323 (lv_at hl 6 rfl) ?_
                          refine lv_iload hx hb dX0_rounds_325 (lv_at hl 8 rfl) ?_
                          refine lv_ior hx hb dX0_rounds_327 ?_
                          refine lv_top (y := nI (d ||| s9)) (bi_or _ _) ?_
                          refine hp_ild (n := 1024) (j := d ||| s9) (v := nI (oFn (T (d ||| s9)))) hx hb hK hH 0 hla9 rfl (by first | omega | (refine Nat.lt_of_lt_of_le (Nat.mod_lt _ ?_) ?_ <;> omega)) (by first | omega | (refine Nat.lt_of_lt_of_le (Nat.mod_lt _ ?_) ?_ <;> omega)) ((hfT _ (by omega)).trans (oF_n _)) dX0_rounds_328 ?_
                          refine lv_aload hx hb dX0_rounds_329 (lv_at hl 5 rfl) ?_
                          refine lv_iload hx hb dX0_rounds_331 (lv_at hl 6 rfl) ?_
                          refine hp_ild (n := 1024) (j := d) (v := nI k0) hx hb hK hH 0 hla9 rfl (by first | omega | (refine Nat.lt_of_lt_of_le (Nat.mod_lt _ ?_) ?_ <;> omega)) (by first | omega | (refine Nat.lt_of_lt_of_le (Nat.mod_lt _ ?_) ?_ <;> omega)) ((hfT d (by omega)).trans (by rw [hk0]; rfl)) dX0_rounds_333 ?_
                          refine lv_iconst (v := nI 1) hx hb dX0_rounds_334 (by decide) ?_
                          refine lv_iadd hx hb dX0_rounds_335 ?_
                          refine lv_top (y := nI (k0 + 1)) (nI_add _ _) ?_
                          refine va_mmin hx hb (hml.trans hl.1.symm) hown (hts _ q1170) (hts _ q412) (hts _ q114) (hts _ q413) (Nat.le_of_ble_eq_true rfl) (Nat.le_of_ble_eq_true rfl) (Nat.le_of_ble_eq_true rfl) (Nat.le_of_ble_eq_true rfl) dX0_rounds_336 ?_
                          refine lv_top (y := nI (min (oFn (T (d ||| s9))) (k0 + 1))) (i_minN (by first | omega | (refine Nat.lt_of_lt_of_le (Nat.mod_lt _ ?_) ?_ <;> omega)) (by first | omega | (refine Nat.lt_of_lt_of_le (Nat.mod_lt _ ?_) ?_ <;> omega))) ?_
                          refine hp_ist (n := 1024) (j := d ||| s9) hx hb hK hH hS 0 hla9 rfl (by first | omega | (refine Nat.lt_of_lt_of_le (Nat.mod_lt _ ?_) ?_ <;> omega)) (by first | omega | (refine Nat.lt_of_lt_of_le (Nat.mod_lt _ ?_) ?_ <;> omega)) dX0_rounds_339 (fun H locs _ hH hS => ?_)
                          have hH : HP D CL (zA s0) (hset hh la (.inl (K 0, 1024, .inl (upd f (d ||| s9) (nI (min (oFn (T (d ||| s9))) (k0 + 1)))))) 43) H := hH
                          have hW := hW.fr (set_fr (c1 := .inl (K 0, 1024, .inl (upd f (d ||| s9) (nI (min (oFn (T (d ||| s9))) (k0 + 1)))))) hla9) (by omega) (ob_a hla9)
                          have e45 : (hset hh la (.inl (K 0, 1024, .inl (upd f (d ||| s9) (nI (min (oFn (T (d ||| s9))) (k0 + 1)))))) 43) ha = some (.inl (K 0, 10, .inl fh), 41) := (hset_ne _ _ _ (ne_tg hha9 hla9 (by decide))).trans hha9
                          have e46 : (hset hh la (.inl (K 0, 1024, .inl (upd f (d ||| s9) (nI (min (oFn (T (d ||| s9))) (k0 + 1)))))) 43) aa = some (.inl (K 0, 10, .inl fa), 42) := (hset_ne _ _ _ (ne_tg haa9 hla9 (by decide))).trans haa9
                          have e47 : (hset hh la (.inl (K 0, 1024, .inl (upd f (d ||| s9) (nI (min (oFn (T (d ||| s9))) (k0 + 1)))))) 43) la = some (.inl (K 0, 1024, .inl (upd f (d ||| s9) (nI (min (oFn (T (d ||| s9))) (k0 + 1))))), 43) := hset_self _ _ _ _
                          refine lv_iload hx hb dX0_rounds_340 (lv_at hl 8 rfl) ?_
                          refine lv_iconst (v := nI 1) hx hb dX0_rounds_342 (by decide) ?_
                          refine lv_isub hx hb dX0_rounds_343 ?_
                          refine lv_top (y := nI (s9 - 1)) (pk_sub (by first | omega | (refine Nat.lt_of_lt_of_le (Nat.mod_lt _ ?_) ?_ <;> omega))) ?_
                          refine lv_iload hx hb dX0_rounds_344 (lv_at hl 7 rfl) ?_
                          refine lv_iand hx hb dX0_rounds_346 ?_
                          refine lv_top (y := nI ((s9 - 1) &&& (comB S (aN S) ^^^ (comB S (aN S) &&& d)))) (bi_and _ _) ?_
                          refine lv_istore (lv' := [(10, .int (nI ((s9 - 1) &&& (comB S (aN S) ^^^ (comB S (aN S) &&& d))))), (0, .ref (w 0)), (2, .int (nI dr)), (3, .int (nI (comB S (aN S)))), (5, .ref ha), (6, .ref aa), (7, .ref la), (8, .int (nI d)), (9, .int (nI (comB S (aN S) ^^^ (comB S (aN S) &&& d))))]) hx hb dX0_rounds_347 hl (by decide) rfl (fun ls hl => ?_)
                          refine lv_goto (tgt := 285) hx hb dX0_rounds_349 (by decide) ?_
                          exact ih285 ((s9 - 1) &&& (comB S (aN S) ^^^ (comB S (aN S) &&& d))) (va_up T (d ||| s9) (some (k0 + 1))) (upd f (d ||| s9) (nI (min (oFn (T (d ||| s9))) (k0 + 1)))) (hset hh la (.inl (K 0, 1024, .inl (upd f (d ||| s9) (nI (min (oFn (T (d ||| s9))) (k0 + 1)))))) 43) (by (have := Nat.and_le_left (n := s9 - 1) (m := comB S (aN S) ^^^ (comB S (aN S) &&& d)); omega)) H locs ls ⟨and_idem _ _, by unfold va_up; rw [if_neg (by omega)]; exact hk0, pr_next hs9 (tb_put hT hk0 hst hlo (fun j e => by rcases Nat.lt_or_ge (k0 + 1) j with q | q; exact q; exact absurd ⟨j, e, q⟩ hj)), tbF_put hfT (fun j e => by rcases Nat.lt_or_ge (k0 + 1) j with q | q; exact q; exact absurd ⟨j, e, q⟩ hj) (by omega), e45, e46, e47, ex_set hxB nlaX, hH, hS, lv_sub hl [1, 2, 3, 4, 5, 6, 7, 8, 0] rfl⟩
                · refine lv_goto (tgt := 352) hx hb dX0_rounds_270 (by decide) ?_
                  refine lv_iinc (v := nI (d + 1)) (lv' := [(8, .int (nI (d + 1))), (0, .ref (w 0)), (2, .int (nI dr)), (3, .int (nI (comB S (aN S)))), (5, .ref ha), (6, .ref aa), (7, .ref la)]) hx hb dX0_rounds_352 hl (k := 6) rfl (nI_add d 1) (by decide) rfl (fun ls hl => ?_)
                  refine lv_goto (tgt := 244) hx hb dX0_rounds_355 (by decide) ?_
                  exact ih244 (d + 1) T f hh (by omega) H locs ls ⟨by omega, tb_skip hT (oFn_no hT (by omega) c2), hfT, hha9, haa9, hla9, hxB, hH, hS, lv_sub hl [1, 2, 3, 4, 5, 6, 0] rfl⟩
          · refine lv_aload hx hb dX0_rounds_227 (lv_at hl 6 rfl) ?_
            refine lv_iload hx hb dX0_rounds_229 (lv_at hl 7 rfl) ?_
            refine lv_ldcw (v := 1000000) hx hb hown (hts _ q1171) dX0_rounds_231 ?_
            refine lv_top (y := nI 1000000) (by decide) ?_
            refine hp_ist (n := 1024) (j := d) hx hb hK hH hS 0 hla9 rfl (by first | omega | (refine Nat.lt_of_lt_of_le (Nat.mod_lt _ ?_) ?_ <;> omega)) (by first | omega | (refine Nat.lt_of_lt_of_le (Nat.mod_lt _ ?_) ?_ <;> omega)) dX0_rounds_234 (fun H locs _ hH hS => ?_)
            have hH : HP D CL (zA s0) (hset hh la (.inl (K 0, 1024, .inl (upd f d (nI 1000000)))) 43) H := hH
            have hW := hW.fr (set_fr (c1 := .inl (K 0, 1024, .inl (upd f d (nI 1000000)))) hla9) (by omega) (ob_a hla9)
            have e48 : (hset hh la (.inl (K 0, 1024, .inl (upd f d (nI 1000000)))) 43) ha = some (.inl (K 0, 10, .inl fh), 41) := (hset_ne _ _ _ (ne_tg hha9 hla9 (by decide))).trans hha9
            have e49 : (hset hh la (.inl (K 0, 1024, .inl (upd f d (nI 1000000)))) 43) aa = some (.inl (K 0, 10, .inl fa), 42) := (hset_ne _ _ _ (ne_tg haa9 hla9 (by decide))).trans haa9
            have e50 : (hset hh la (.inl (K 0, 1024, .inl (upd f d (nI 1000000)))) 43) la = some (.inl (K 0, 1024, .inl (upd f d (nI 1000000))), 43) := hset_self _ _ _ _
            refine lv_iinc (v := nI (d + 1)) (lv' := [(8, .int (nI (d + 1))), (0, .ref (w 0)), (2, .int (nI dr)), (3, .int (nI (comB S (aN S)))), (4, .ref lc19), (5, .ref ha), (6, .ref aa), (7, .ref la)]) hx hb dX0_rounds_235 hl (k := 7) rfl (nI_add d 1) (by decide) rfl (fun ls hl => ?_)
            refine lv_goto (tgt := 221) hx hb dX0_rounds_238 (by decide) ?_
            exact ih221 (d + 1) (upd f d (nI 1000000)) (hset hh la (.inl (K 0, 1024, .inl (upd f d (nI 1000000)))) 43) (by omega) H locs ls ⟨by omega, by unfold upd; rw [if_neg (by omega)]; exact hf0, fun u h1 h2 => by unfold upd; split; rfl; exact hfd u h1 (by omega), e48, e49, e50, ex_set hxB nlaX, hH, hS, lv_sub hl [1, 2, 3, 4, 5, 6, 7, 0] rfl⟩
        · refine lv_aload hx hb dX0_rounds_100 (lv_at hl 3 rfl) ?_
          refine lv_iload hx hb dX0_rounds_102 (lv_at hl 6 rfl) ?_
          refine hp_lget hx hb hml hown hts hPB hK0 hK hH hS hG hAl (k9 := m) (by rw [comA_n]; omega) q808 (by first | decide | (simp only [rmk]; omega)) hl.1 rfl (Nat.le_of_ble_eq_true rfl) (by decide) dX0_rounds_104 (fun H locs hH hS => ?_)
          have hm51 := cm_lt (S := S) (i := m) (by omega)
          refine lv_topv (y := .ref ((Ls 0).getD (cm S m) 0)) (cm_at (by omega)) ?_
          refine va_castE hx hb hown (hts _ q809) (hp_rec hK hH (hW.g (show cm S m < aN S by omega)) rfl) dX0_rounds_107 ?_
          refine hp_get (C := RX5) (T := TX5) (N := 6) (v := .int (nI (cm S m))) hx hb hts in_X5 hown hK hH (hW.g (show cm S m < aN S by omega)) rfl 1 (by decide) (hts _ q562) (u_same (hts _ q555)) rfl dX0_rounds_110 ?_
          refine lv_istore (lv' := [(8, .int (nI (cm S m))), (0, .ref (w 0)), (2, .int (nI dr)), (3, .int (nI (comB S (aN S)))), (4, .ref lc19), (5, .ref ha), (6, .ref aa), (7, .int (nI m))]) hx hb dX0_rounds_113 hl (by decide) rfl (fun ls hl => ?_)
          have hfl := htg.le (cm S m)
          have hel := heP_lt (S := S) (f := f9) hn (m := m) (k := f9 (cm S m)) (by omega)
          have nhaX := nha
          have naaX := hset_none naa
          refine lv_aload hx hb dX0_rounds_115 (lv_at hl 5 rfl) ?_
          refine lv_aload_n hx hb dX0_rounds_117 rfl (lv_at hl 1 rfl) ?_
          refine hp_get (C := RX0) (T := TX0) (N := 14) (v := .ref (w 9)) hx hb hts in_X0 hown hK hH hW.x rfl 9 (by decide) (hts _ q221) (fun _ z => z) rfl dX0_rounds_118 ?_
          refine lv_iload hx hb dX0_rounds_121 (lv_at hl 0 rfl) ?_
          refine hp_ild (n := 10) (j := cm S m) (v := nI (f9 (cm S m))) hx hb hK hH 0 (hW.ar 2 (by decide)) rfl (by first | omega | (refine Nat.lt_of_lt_of_le (Nat.mod_lt _ ?_) ?_ <;> omega)) (by first | omega | (refine Nat.lt_of_lt_of_le (Nat.mod_lt _ ?_) ?_ <;> omega)) (hhp _ (by omega)) dX0_rounds_123 ?_
          refine lv_dup2_11 hx hb dX0_rounds_124 rfl rfl ?_
          refine hp_ild (n := 10) (j := f9 (cm S m)) (v := nI (heP S f9 m (f9 (cm S m)))) hx hb hK hH 0 hha9 rfl (by first | omega | (refine Nat.lt_of_lt_of_le (Nat.mod_lt _ ?_) ?_ <;> omega)) (by first | omega | (refine Nat.lt_of_lt_of_le (Nat.mod_lt _ ?_) ?_ <;> omega)) (hfh _ (by omega)) dX0_rounds_125 ?_
          refine lv_iconst (v := nI 1) hx hb dX0_rounds_126 (by decide) ?_
          refine lv_iload hx hb dX0_rounds_127 (lv_at hl 0 rfl) ?_
          refine lv_ishl hx hb dX0_rounds_129 ?_
          refine lv_top (y := nI (2 ^ (cm S m))) (bi_shl1 (by first | omega | (refine Nat.lt_of_lt_of_le (Nat.mod_lt _ ?_) ?_ <;> omega))) ?_
          refine lv_ior hx hb dX0_rounds_130 ?_
          refine lv_top (y := nI ((heP S f9 m (f9 (cm S m))) ||| (2 ^ (cm S m)))) (bi_or _ _) ?_
          refine hp_ist (n := 10) (j := f9 (cm S m)) hx hb hK hH hS 0 hha9 rfl (by first | omega | (refine Nat.lt_of_lt_of_le (Nat.mod_lt _ ?_) ?_ <;> omega)) (by first | omega | (refine Nat.lt_of_lt_of_le (Nat.mod_lt _ ?_) ?_ <;> omega)) dX0_rounds_131 (fun H locs _ hH hS => ?_)
          have hH : HP D CL (zA s0) (hset hh ha (.inl (K 0, 10, .inl (upd fh (f9 (cm S m)) (nI ((heP S f9 m (f9 (cm S m))) ||| (2 ^ (cm S m))))))) 41) H := hH
          have hW := hW.fr (set_fr (c1 := .inl (K 0, 10, .inl (upd fh (f9 (cm S m)) (nI ((heP S f9 m (f9 (cm S m))) ||| (2 ^ (cm S m))))))) hha9) (by omega) (ob_a hha9)
          have e52 : (hset hh ha (.inl (K 0, 10, .inl (upd fh (f9 (cm S m)) (nI ((heP S f9 m (f9 (cm S m))) ||| (2 ^ (cm S m))))))) 41) aa = some (.inl (K 0, 10, .inl fa), 42) := (hset_ne _ _ _ (ne_tg haa9 hha9 (by decide))).trans haa9
          have e53 : (hset hh ha (.inl (K 0, 10, .inl (upd fh (f9 (cm S m)) (nI ((heP S f9 m (f9 (cm S m))) ||| (2 ^ (cm S m))))))) 41) ha = some (.inl (K 0, 10, .inl (upd fh (f9 (cm S m)) (nI ((heP S f9 m (f9 (cm S m))) ||| (2 ^ (cm S m)))))), 41) := hset_self _ _ _ _
          refine lv_iconst (v := nI 0) hx hb dX0_rounds_132 (by decide) ?_
          refine lv_istore (lv' := [(9, .int (nI 0)), (8, .int (nI (cm S m))), (0, .ref (w 0)), (2, .int (nI dr)), (3, .int (nI (comB S (aN S)))), (4, .ref lc19), (5, .ref ha), (6, .ref aa), (7, .int (nI m))]) hx hb dX0_rounds_133 hl (by decide) rfl (fun ls hl => ?_)
          refine w_loop3 (fun (i : Nat) (fa : Nat → Int32) (hh : Hp) => nC S - i) (fun (i : Nat) (fa : Nat → Int32) (hh : Hp) H locs ls => (i ≤ nC S) ∧ (ahI S (abv S (nI k1) 0) f9 m i fa) ∧ (hh ha = some (.inl (K 0, 10, .inl (upd fh (f9 (cm S m)) (nI (heP S f9 m (f9 (cm S m)) ||| 2 ^ cm S m)))), 41)) ∧ (hh aa = some (.inl (K 0, 10, .inl fa), 42)) ∧ (exH h22 hh) ∧ HP D CL (zA s0) hh H ∧ va_S (zA s0) s.heap H locs ∧ lv_has ls 11 [(0, .ref (w 0)), (2, .int (nI dr)), (3, .int (nI (comB S (aN S)))), (4, .ref lc19), (5, .ref ha), (6, .ref aa), (7, .int (nI m)), (8, .int (nI (cm S m))), (9, .int (nI i))]) ?_ 0 fa (hset hh ha (.inl (K 0, 10, .inl (upd fh (f9 (cm S m)) (nI ((heP S f9 m (f9 (cm S m))) ||| (2 ^ (cm S m))))))) 41) ⟨Nat.zero_le _, ah_in hfa, e53, e52, ex_set hxB nhaX, hH, hS, lv_sub hl [2, 3, 4, 5, 6, 7, 8, 1, 0] rfl⟩
          intro i fa hh ih135 H locs ls hP
          obtain ⟨hi9, hfa, hha9, haa9, hxB, hH, hS, hl⟩ := hP
          have hW := hWX.X hxB
          have hAl := hAlc19.X hxB
          have hab1 := ahP_lt (S := S) (A := abv S (nI k1) 0) (f := f9) hn (m := m) (k := f9 (cm S m)) (by omega)
          have hab2 := abP_lt (S := S) (A := abv S (nI k1) 0) hn (g := cm S m) (i := i) (by omega)
          refine lv_iload hx hb dX0_rounds_135 (lv_at hl 8 rfl) ?_
          refine lv_aload hx hb dX0_rounds_137 (lv_at hl 3 rfl) ?_
          refine hp_siz hx hb hml hown hts hPB hK0 hK hH hS hG hAl comA_n q807 (by first | decide | (simp only [rmk]; omega)) hl.1 rfl (Nat.le_of_ble_eq_true rfl) (by decide) dX0_rounds_139 (fun H locs hH hS => ?_)
          refine lvN_ge (tgt := 205) hx hb (by first | omega | (refine Nat.lt_of_lt_of_le (Nat.mod_lt _ ?_) ?_ <;> omega)) (by first | omega | (refine Nat.lt_of_lt_of_le (Nat.mod_lt _ ?_) ?_ <;> omega)) dX0_rounds_142 (by decide) (fun c54 => ?_) (fun c54 => ?_)
          · refine lv_iinc (v := nI (m + 1)) (lv' := [(7, .int (nI (m + 1))), (0, .ref (w 0)), (2, .int (nI dr)), (3, .int (nI (comB S (aN S)))), (4, .ref lc19), (5, .ref ha), (6, .ref aa), (8, .int (nI (cm S m))), (9, .int (nI i))]) hx hb dX0_rounds_205 hl (k := 6) rfl (nI_add m 1) (by decide) rfl (fun ls hl => ?_)
            refine lv_goto (tgt := 90) hx hb dX0_rounds_208 (by decide) ?_
            exact ih90 (m + 1) (upd fh (f9 (cm S m)) (nI (heP S f9 m (f9 (cm S m)) ||| 2 ^ cm S m))) fa hh (by omega) H locs ls ⟨by omega, he_put hfh, ah_end ((show i = nC S by omega) ▸ hfa), hha9, haa9, hxB, hH, hS, lv_sub hl [1, 2, 3, 4, 5, 6, 0] rfl⟩
          · refine lv_aload hx hb dX0_rounds_145 (lv_at hl 5 rfl) ?_
            refine lv_aload_n hx hb dX0_rounds_147 rfl (lv_at hl 0 rfl) ?_
            refine hp_get (C := RX0) (T := TX0) (N := 14) (v := .ref (w 9)) hx hb hts in_X0 hown hK hH hW.x rfl 9 (by decide) (hts _ q221) (fun _ z => z) rfl dX0_rounds_148 ?_
            refine lv_iload hx hb dX0_rounds_151 (lv_at hl 7 rfl) ?_
            refine hp_ild (n := 10) (j := cm S m) (v := nI (f9 (cm S m))) hx hb hK hH 0 (hW.ar 2 (by decide)) rfl (by first | omega | (refine Nat.lt_of_lt_of_le (Nat.mod_lt _ ?_) ?_ <;> omega)) (by first | omega | (refine Nat.lt_of_lt_of_le (Nat.mod_lt _ ?_) ?_ <;> omega)) (hhp _ (by omega)) dX0_rounds_153 ?_
            refine lv_dup2_11 hx hb dX0_rounds_154 rfl rfl ?_
            refine hp_ild (n := 10) (j := f9 (cm S m)) (v := nI (ahP S (abv S (nI k1) 0) f9 m (f9 (cm S m)) ||| abP S (abv S (nI k1) 0) (cm S m) i)) hx hb hK hH 0 haa9 rfl (by first | omega | (refine Nat.lt_of_lt_of_le (Nat.mod_lt _ ?_) ?_ <;> omega)) (by first | omega | (refine Nat.lt_of_lt_of_le (Nat.mod_lt _ ?_) ?_ <;> omega)) (ah_at hfa (by omega)) dX0_rounds_155 ?_
            refine lv_aload_n hx hb dX0_rounds_156 rfl (lv_at hl 0 rfl) ?_
            refine lv_aload hx hb dX0_rounds_157 (lv_at hl 3 rfl) ?_
            refine lv_iload hx hb dX0_rounds_159 (lv_at hl 8 rfl) ?_
            refine hp_lget hx hb hml hown hts hPB hK0 hK hH hS hG hAl (k9 := i) (by rw [comA_n]; omega) q808 (by first | decide | (simp only [rmk]; omega)) hl.1 rfl (Nat.le_of_ble_eq_true rfl) (by decide) dX0_rounds_161 (fun H locs hH hS => ?_)
            have hm55 := cm_lt (S := S) (i := i) (by omega)
            refine lv_topv (y := .ref ((Ls 0).getD (cm S i) 0)) (cm_at (by omega)) ?_
            refine va_castE hx hb hown (hts _ q809) (hp_rec hK hH (hW.g (show cm S i < aN S by omega)) rfl) dX0_rounds_164 ?_
            refine hp_get (C := RX5) (T := TX5) (N := 6) (v := .int (nI (cm S i))) hx hb hts in_X5 hown hK hH (hW.g (show cm S i < aN S by omega)) rfl 1 (by decide) (hts _ q562) (u_same (hts _ q555)) rfl dX0_rounds_167 ?_
            refine lv_iload hx hb dX0_rounds_170 (lv_at hl 7 rfl) ?_
            refine hp_callV (As := [.int (nI (cm S i)), .int (nI (cm S m))]) (rest := [.int (nI (ahP S (abv S (nI k1) 0) f9 m (f9 (cm S m)) ||| abP S (abv S (nI k1) 0) (cm S m) i)), .int (nI (f9 (cm S m))), .ref aa]) hx hb hml hown hts hPB hK hH hS (mc_isAp hK0 hG hO hO2 hW (A := abv S (nI k1) 0) (x := cm S i) (y := cm S m) hab (by omega) (by omega)) hW.x rfl rfl 2 (lw_V q1107 q1109 qs33 q102 q1110) (by decide +kernel) ⟨rfl, rfl⟩ (by decide) rfl hl.1 rfl (Nat.le_of_ble_eq_true rfl) (by decide) dX0_rounds_172 (fun v56 h58 H locs hp57 _ hH hS => ?_)
            obtain ⟨rfl, hq⟩ := hp57
            rw [hq] at hH
            refine lvB_eq (tgt := 196) hx hb dX0_rounds_175 (by decide) (fun ca => ?_) (fun ca => ?_)
            · refine lv_iconst (v := nI 0) hx hb dX0_rounds_196 (by decide) ?_
              refine lv_ior hx hb dX0_rounds_197 ?_
              refine lv_top (y := nI ((ahP S (abv S (nI k1) 0) f9 m (f9 (cm S m)) ||| abP S (abv S (nI k1) 0) (cm S m) i) ||| 0)) (bi_or _ _) ?_
              refine hp_ist (n := 10) (j := f9 (cm S m)) hx hb hK hH hS 0 haa9 rfl (by first | omega | (refine Nat.lt_of_lt_of_le (Nat.mod_lt _ ?_) ?_ <;> omega)) (by first | omega | (refine Nat.lt_of_lt_of_le (Nat.mod_lt _ ?_) ?_ <;> omega)) dX0_rounds_198 (fun H locs _ hH hS => ?_)
              have hH : HP D CL (zA s0) (hset hh aa (.inl (K 0, 10, .inl (upd fa (f9 (cm S m)) (nI ((ahP S (abv S (nI k1) 0) f9 m (f9 (cm S m)) ||| abP S (abv S (nI k1) 0) (cm S m) i) ||| 0))))) 42) H := hH
              have hW := hW.fr (set_fr (c1 := .inl (K 0, 10, .inl (upd fa (f9 (cm S m)) (nI ((ahP S (abv S (nI k1) 0) f9 m (f9 (cm S m)) ||| abP S (abv S (nI k1) 0) (cm S m) i) ||| 0))))) haa9) (by omega) (ob_a haa9)
              have e59 : (hset hh aa (.inl (K 0, 10, .inl (upd fa (f9 (cm S m)) (nI ((ahP S (abv S (nI k1) 0) f9 m (f9 (cm S m)) ||| abP S (abv S (nI k1) 0) (cm S m) i) ||| 0))))) 42) ha = some (.inl (K 0, 10, .inl (upd fh (f9 (cm S m)) (nI (heP S f9 m (f9 (cm S m)) ||| 2 ^ cm S m)))), 41) := (hset_ne _ _ _ (ne_tg hha9 haa9 (by decide))).trans hha9
              have e60 : (hset hh aa (.inl (K 0, 10, .inl (upd fa (f9 (cm S m)) (nI ((ahP S (abv S (nI k1) 0) f9 m (f9 (cm S m)) ||| abP S (abv S (nI k1) 0) (cm S m) i) ||| 0))))) 42) aa = some (.inl (K 0, 10, .inl (upd fa (f9 (cm S m)) (nI ((ahP S (abv S (nI k1) 0) f9 m (f9 (cm S m)) ||| abP S (abv S (nI k1) 0) (cm S m) i) ||| 0)))), 42) := hset_self _ _ _ _
              refine lv_iinc (v := nI (i + 1)) (lv' := [(9, .int (nI (i + 1))), (0, .ref (w 0)), (2, .int (nI dr)), (3, .int (nI (comB S (aN S)))), (4, .ref lc19), (5, .ref ha), (6, .ref aa), (7, .int (nI m)), (8, .int (nI (cm S m)))]) hx hb dX0_rounds_199 hl (k := 8) rfl (nI_add i 1) (by decide) rfl (fun ls hl => ?_)
              refine lv_goto (tgt := 135) hx hb dX0_rounds_202 (by decide) ?_
              exact ih135 (i + 1) (upd fa (f9 (cm S m)) (nI ((ahP S (abv S (nI k1) 0) f9 m (f9 (cm S m)) ||| abP S (abv S (nI k1) 0) (cm S m) i) ||| 0))) (hset hh aa (.inl (K 0, 10, .inl (upd fa (f9 (cm S m)) (nI ((ahP S (abv S (nI k1) 0) f9 m (f9 (cm S m)) ||| abP S (abv S (nI k1) 0) (cm S m) i) ||| 0))))) 42) (by omega) H locs ls ⟨by omega, ah_put hfa (by rw [ca]; rfl), e59, e60, ex_set hxB naaX, hH, hS, lv_sub hl [1, 2, 3, 4, 5, 6, 7, 8, 0] rfl⟩
            · refine lv_iconst (v := nI 1) hx hb dX0_rounds_178 (by decide) ?_
              refine lv_aload hx hb dX0_rounds_179 (lv_at hl 3 rfl) ?_
              refine lv_iload hx hb dX0_rounds_181 (lv_at hl 8 rfl) ?_
              refine hp_lget hx hb hml hown hts hPB hK0 hK hH hS hG hAl (k9 := i) (by rw [comA_n]; omega) q808 (by first | decide | (simp only [rmk]; omega)) hl.1 rfl (Nat.le_of_ble_eq_true rfl) (by decide) dX0_rounds_183 (fun H locs hH hS => ?_)
              have hm61 := cm_lt (S := S) (i := i) (by omega)
              refine lv_topv (y := .ref ((Ls 0).getD (cm S i) 0)) (cm_at (by omega)) ?_
              refine va_castE hx hb hown (hts _ q809) (hp_rec hK hH (hW.g (show cm S i < aN S by omega)) rfl) dX0_rounds_186 ?_
              refine hp_get (C := RX5) (T := TX5) (N := 6) (v := .int (nI (cm S i))) hx hb hts in_X5 hown hK hH (hW.g (show cm S i < aN S by omega)) rfl 1 (by decide) (hts _ q562) (u_same (hts _ q555)) rfl dX0_rounds_189 ?_
              refine lv_ishl hx hb dX0_rounds_192 ?_
              refine lv_top (y := nI (2 ^ (cm S i))) (bi_shl1 (by first | omega | (refine Nat.lt_of_lt_of_le (Nat.mod_lt _ ?_) ?_ <;> omega))) ?_
              refine lv_goto (tgt := 197) hx hb dX0_rounds_193 (by decide) ?_
              refine lv_ior hx hb dX0_rounds_197 ?_
              refine lv_top (y := nI ((ahP S (abv S (nI k1) 0) f9 m (f9 (cm S m)) ||| abP S (abv S (nI k1) 0) (cm S m) i) ||| (2 ^ (cm S i)))) (bi_or _ _) ?_
              refine hp_ist (n := 10) (j := f9 (cm S m)) hx hb hK hH hS 0 haa9 rfl (by first | omega | (refine Nat.lt_of_lt_of_le (Nat.mod_lt _ ?_) ?_ <;> omega)) (by first | omega | (refine Nat.lt_of_lt_of_le (Nat.mod_lt _ ?_) ?_ <;> omega)) dX0_rounds_198 (fun H locs _ hH hS => ?_)
              have hH : HP D CL (zA s0) (hset hh aa (.inl (K 0, 10, .inl (upd fa (f9 (cm S m)) (nI ((ahP S (abv S (nI k1) 0) f9 m (f9 (cm S m)) ||| abP S (abv S (nI k1) 0) (cm S m) i) ||| (2 ^ (cm S i))))))) 42) H := hH
              have hW := hW.fr (set_fr (c1 := .inl (K 0, 10, .inl (upd fa (f9 (cm S m)) (nI ((ahP S (abv S (nI k1) 0) f9 m (f9 (cm S m)) ||| abP S (abv S (nI k1) 0) (cm S m) i) ||| (2 ^ (cm S i))))))) haa9) (by omega) (ob_a haa9)
              have e62 : (hset hh aa (.inl (K 0, 10, .inl (upd fa (f9 (cm S m)) (nI ((ahP S (abv S (nI k1) 0) f9 m (f9 (cm S m)) ||| abP S (abv S (nI k1) 0) (cm S m) i) ||| (2 ^ (cm S i))))))) 42) ha = some (.inl (K 0, 10, .inl (upd fh (f9 (cm S m)) (nI (heP S f9 m (f9 (cm S m)) ||| 2 ^ cm S m)))), 41) := (hset_ne _ _ _ (ne_tg hha9 haa9 (by decide))).trans hha9
              have e63 : (hset hh aa (.inl (K 0, 10, .inl (upd fa (f9 (cm S m)) (nI ((ahP S (abv S (nI k1) 0) f9 m (f9 (cm S m)) ||| abP S (abv S (nI k1) 0) (cm S m) i) ||| (2 ^ (cm S i))))))) 42) aa = some (.inl (K 0, 10, .inl (upd fa (f9 (cm S m)) (nI ((ahP S (abv S (nI k1) 0) f9 m (f9 (cm S m)) ||| abP S (abv S (nI k1) 0) (cm S m) i) ||| (2 ^ (cm S i)))))), 42) := hset_self _ _ _ _
              refine lv_iinc (v := nI (i + 1)) (lv' := [(9, .int (nI (i + 1))), (0, .ref (w 0)), (2, .int (nI dr)), (3, .int (nI (comB S (aN S)))), (4, .ref lc19), (5, .ref ha), (6, .ref aa), (7, .int (nI m)), (8, .int (nI (cm S m)))]) hx hb dX0_rounds_199 hl (k := 8) rfl (nI_add i 1) (by decide) rfl (fun ls hl => ?_)
              refine lv_goto (tgt := 135) hx hb dX0_rounds_202 (by decide) ?_
              exact ih135 (i + 1) (upd fa (f9 (cm S m)) (nI ((ahP S (abv S (nI k1) 0) f9 m (f9 (cm S m)) ||| abP S (abv S (nI k1) 0) (cm S m) i) ||| (2 ^ (cm S i))))) (hset hh aa (.inl (K 0, 10, .inl (upd fa (f9 (cm S m)) (nI ((ahP S (abv S (nI k1) 0) f9 m (f9 (cm S m)) ||| abP S (abv S (nI k1) 0) (cm S m) i) ||| (2 ^ (cm S i))))))) 42) (by omega) H locs ls ⟨by omega, ah_put hfa (by rw [ca]; rfl), e62, e63, ex_set hxB naaX, hH, hS, lv_sub hl [1, 2, 3, 4, 5, 6, 7, 8, 0] rfl⟩
      · refine lv_iload_n hx hb dX0_rounds_51 rfl (lv_at hl 2 rfl) ?_
        refine lv_iconst (v := nI 1) hx hb dX0_rounds_52 (by decide) ?_
        refine lv_aload hx hb dX0_rounds_53 (lv_at hl 3 rfl) ?_
        refine lv_iload hx hb dX0_rounds_55 (lv_at hl 4 rfl) ?_
        refine hp_lget hx hb hml hown hts hPB hK0 hK hH hS hG hAlc19 (k9 := k) (by rw [comA_n]; omega) q808 (by first | decide | (simp only [rmk]; omega)) hl.1 rfl (Nat.le_of_ble_eq_true rfl) (by decide) dX0_rounds_57 (fun H locs hH hS => ?_)
        have hm64 := cm_lt (S := S) (i := k) (by omega)
        refine lv_topv (y := .ref ((Ls 0).getD (cm S k) 0)) (cm_at (by omega)) ?_
        refine va_castE hx hb hown (hts _ q809) (hp_rec hK hH (hW.g (show cm S k < aN S by omega)) rfl) dX0_rounds_60 ?_
        refine hp_get (C := RX5) (T := TX5) (N := 6) (v := .int (nI (cm S k))) hx hb hts in_X5 hown hK hH (hW.g (show cm S k < aN S by omega)) rfl 1 (by decide) (hts _ q562) (u_same (hts _ q555)) rfl dX0_rounds_63 ?_
        refine lv_ishl hx hb dX0_rounds_66 ?_
        refine lv_top (y := nI (2 ^ (cm S k))) (bi_shl1 (by first | omega | (refine Nat.lt_of_lt_of_le (Nat.mod_lt _ ?_) ?_ <;> omega))) ?_
        refine lv_ior hx hb dX0_rounds_67 ?_
        refine lv_top (y := nI ((alB S k) ||| (2 ^ (cm S k)))) (bi_or _ _) ?_
        refine lv_istore_n (lv' := [(3, .int (nI ((alB S k) ||| (2 ^ (cm S k))))), (0, .ref (w 0)), (2, .int (nI dr)), (4, .ref lc19), (5, .int (nI k))]) hx hb dX0_rounds_68 rfl hl (by decide) rfl (fun ls hl => ?_)
        refine lv_iinc (v := nI (k + 1)) (lv' := [(5, .int (nI (k + 1))), (3, .int (nI ((alB S k) ||| (2 ^ (cm S k))))), (0, .ref (w 0)), (2, .int (nI dr)), (4, .ref lc19)]) hx hb dX0_rounds_69 hl (k := 4) rfl (nI_add k 1) (by decide) rfl (fun ls hl => ?_)
        refine lv_goto (tgt := 41) hx hb dX0_rounds_72 (by decide) ?_
        exact ih41 (k + 1) (by omega) H locs ls ⟨by omega, hH, hS, lv_sub hl [2, 3, 1, 4, 0] rfl⟩
    · refine lv_iconst (v := (-1)) hx hb dX0_rounds_17 (by decide) ?_
      exact hp_iret hx hb hr hlocks hH hS (by decide) (by decide) dX0_rounds_18 (⟨congrArg some (congrArg Value.int (by simp [spRounds, hik1, ek1, c10])), _, rfl⟩)
  · have hq := hp4.2; rw [hq] at hH
    refine lv_ifnullN (tgt := 17) hx hb dX0_rounds_5 (by decide) ?_
    refine lv_iconst (v := (-1)) hx hb dX0_rounds_17 (by decide) ?_
    exact hp_iret hx hb hr hlocks hH hS (by decide) (by decide) dX0_rounds_18 (⟨congrArg some (congrArg Value.int (by simp [spRounds, cz2])), _, rfl⟩)
end MODEL
