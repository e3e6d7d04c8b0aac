/-! by gen/mspec.py -/
set_option maxRecDepth 100000
section MODEL
variable {l : Launch} {s0 : State} {D : va_G} {K : Nat → ClassId} {wd : Nat → Nat} {o : Nat} {h : Hp} {I : Nat → Int32} {V : Nat → Nat → Int32} {J : Nat → Nat → Int64}
set_option maxHeartbeats 4000000 in
theorem mc_next (hK0 : va_K D CL (TYS K) s0) {av : Nat → Nat} {ed mi : Nat} (hG : GX s0 wd av ed mi) {us ss : Value} (hTX : TX s0 us ss) {S : Ab} {rd ta lg lm lr : Nat} {tx : Nat → Int32} (hta : h ta = some (.inl (K 1, 700, .inl tx), 2)) (htx : ∀ k, k < aSz S → tx k = aTx S k) (hsz : aSz S ≤ 700) {t : Nat} {b0 : Nat} (hrd : h rd = some (.inr (1, [.ref ta, .int (nI (aSz S)), .int (nI t), .int (nI b0), .ref lg, .ref lm, .ref lr]), 3)) (ht : t ≤ aSz S) : MetT l yX1_next (ws_ yX1_next cX1_next 2 ((Option.none : Option Jvm.ClassFile.FieldType))) (rmk 6 1 7) (va_Pc [.ref rd] (PB s0 D CL (h))) (QT s0 D CL (fun v h1 => v = none ∧ badT S (nx S t) = false ∧ h1 = hset h rd (.inr (1, [.ref ta, .int (nI (aSz S)), .int (nI ((nx S t).2)), .int (nI ((nx S t).1)), .ref lg, .ref lm, .ref lr])) 3) (fun a h1 => badT S (nx S t) = true ∧ TRW h rd lg lm lr (nx S t).1 a h1)) 1 7 (zA s0) := by
  refine hpT_met (by decide) (Nat.le_of_ble_eq_true rfl) hK0 ?_
  intro p e s m below meth cd ls hx hb hr hlocks hml hown hnm hts hK hPB hl hS hH hA hout
  have hl : lv_has ls 2 [(0, .ref rd)] := hl
  have hown : s.vm.findClass RX1 = some m.cls := hown
  have hnt : ta ≠ rd := ne_ao hta hrd
  have hH := (show HP D CL (zA s0) (hset h rd (.inr (1, [.ref ta, .int (nI (aSz S)), .int (nI t), .int (nI b0), .ref lg, .ref lm, .ref lr])) 3) _ from by rw [hset_eq hrd]; exact hH)
  refine w_loop1 (fun (t9 : Nat) => aSz S - t9) (fun (t9 : Nat) H locs ls => (t9 ≤ aSz S) ∧ (nxA S t9 = nxA S t) ∧ HP D CL (zA s0) (hset h rd (.inr (1, [.ref ta, .int (nI (aSz S)), .int (nI t9), .int (nI b0), .ref lg, .ref lm, .ref lr])) 3) H ∧ va_S (zA s0) s.heap H locs ∧ lv_has ls 2 [(0, .ref rd)]) ?_ t ⟨ht, rfl, hH, hS, lv_sub hl [0] rfl⟩
  intro t9 ih0 H locs ls hP
  obtain ⟨hle_t9, hq_t9, hH, hS, hl⟩ := hP
  refine lv_aload_n hx hb dX1_next_0 rfl (lv_at hl 0 rfl) ?_
  refine hp_get (C := RX1) (T := TX1) (N := 7) (v := .int (nI t9)) hx hb hts in_X1 hown hK hH (hset_self _ _ _ _ : (hset h rd (.inr (1, [.ref ta, .int (nI (aSz S)), .int (nI t9), .int (nI b0), .ref lg, .ref lm, .ref lr])) 3) rd = some (.inr (1, [.ref ta, .int (nI (aSz S)), .int (nI t9), .int (nI b0), .ref lg, .ref lm, .ref lr]), 3)) rfl 2 (by decide) (hts _ q187) (fun _ z => z) rfl dX1_next_1 ?_
  refine lv_aload_n hx hb dX1_next_4 rfl (lv_at hl 0 rfl) ?_
  refine hp_get (C := RX1) (T := TX1) (N := 7) (v := .int (nI (aSz S))) hx hb hts in_X1 hown hK hH (hset_self _ _ _ _ : (hset h rd (.inr (1, [.ref ta, .int (nI (aSz S)), .int (nI t9), .int (nI b0), .ref lg, .ref lm, .ref lr])) 3) rd = some (.inr (1, [.ref ta, .int (nI (aSz S)), .int (nI t9), .int (nI b0), .ref lg, .ref lm, .ref lr]), 3)) rfl 1 (by decide) (hts _ q186) (fun _ z => z) rfl dX1_next_5 ?_
  refine lvN_ge (tgt := 52) hx hb (by first | omega | (refine Nat.lt_of_lt_of_le (Nat.mod_lt _ ?_) ?_ <;> omega)) (by first | omega | (refine Nat.lt_of_lt_of_le (Nat.mod_lt _ ?_) ?_ <;> omega)) dX1_next_8 (by decide) (fun ce => ?_) (fun ce => ?_)
  · have hsp : isSp S t9 = false := sp_f (Or.inl (by omega))
    refine lv_aload_n hx hb dX1_next_52 rfl (lv_at hl 0 rfl) ?_
    refine lv_aload_n hx hb dX1_next_53 rfl (lv_at hl 0 rfl) ?_
    refine hp_get (C := RX1) (T := TX1) (N := 7) (v := .int (nI t9)) hx hb hts in_X1 hown hK hH (hset_self _ _ _ _ : (hset h rd (.inr (1, [.ref ta, .int (nI (aSz S)), .int (nI t9), .int (nI b0), .ref lg, .ref lm, .ref lr])) 3) rd = some (.inr (1, [.ref ta, .int (nI (aSz S)), .int (nI t9), .int (nI b0), .ref lg, .ref lm, .ref lr]), 3)) rfl 2 (by decide) (hts _ q187) (fun _ z => z) rfl dX1_next_54 ?_
    refine hp_put (C := RX1) (T := TX1) (N := 7) (v := .int (nI t9)) (ty := .int) hx hb hts in_X1 tyX1 tyX1_ok nmX1 hown hK hH hS (hset_self _ _ _ _ : (hset h rd (.inr (1, [.ref ta, .int (nI (aSz S)), .int (nI t9), .int (nI b0), .ref lg, .ref lm, .ref lr])) 3) rd = some (.inr (1, [.ref ta, .int (nI (aSz S)), .int (nI t9), .int (nI b0), .ref lg, .ref lm, .ref lr]), 3)) rfl 3 (by decide) (hts _ q188) (fun _ z => z) rfl (by decide +kernel) rfl rfl (Nat.le_of_ble_eq_true rfl) dX1_next_57 (fun H locs _ hH hS => ?_)
    have hH : HP D CL (zA s0) (hset h rd (.inr (1, [.ref ta, .int (nI (aSz S)), .int (nI t9), .int (nI t9), .ref lg, .ref lm, .ref lr])) 3) H := by have q := hH; rw [hset_hset] at q; exact q
    refine lv_aload_n hx hb dX1_next_60 rfl (lv_at hl 0 rfl) ?_
    refine hp_get (C := RX1) (T := TX1) (N := 7) (v := .int (nI t9)) hx hb hts in_X1 hown hK hH (hset_self _ _ _ _ : (hset h rd (.inr (1, [.ref ta, .int (nI (aSz S)), .int (nI t9), .int (nI t9), .ref lg, .ref lm, .ref lr])) 3) rd = some (.inr (1, [.ref ta, .int (nI (aSz S)), .int (nI t9), .int (nI t9), .ref lg, .ref lm, .ref lr]), 3)) rfl 2 (by decide) (hts _ q187) (fun _ z => z) rfl dX1_next_61 ?_
    refine lv_aload_n hx hb dX1_next_64 rfl (lv_at hl 0 rfl) ?_
    refine hp_get (C := RX1) (T := TX1) (N := 7) (v := .int (nI (aSz S))) hx hb hts in_X1 hown hK hH (hset_self _ _ _ _ : (hset h rd (.inr (1, [.ref ta, .int (nI (aSz S)), .int (nI t9), .int (nI t9), .ref lg, .ref lm, .ref lr])) 3) rd = some (.inr (1, [.ref ta, .int (nI (aSz S)), .int (nI t9), .int (nI t9), .ref lg, .ref lm, .ref lr]), 3)) rfl 1 (by decide) (hts _ q186) (fun _ z => z) rfl dX1_next_65 ?_
    refine lvN_ne (tgt := 72) hx hb (by first | omega | (refine Nat.lt_of_lt_of_le (Nat.mod_lt _ ?_) ?_ <;> omega)) (by first | omega | (refine Nat.lt_of_lt_of_le (Nat.mod_lt _ ?_) ?_ <;> omega)) dX1_next_68 (by decide) (fun cz => ?_) (fun cz => ?_)
    · refine lv_aload_n hx hb dX1_next_72 rfl (lv_at hl 0 rfl) ?_
      refine hp_get (C := RX1) (T := TX1) (N := 7) (v := .ref ta) hx hb hts in_X1 hown hK hH (hset_self _ _ _ _ : (hset h rd (.inr (1, [.ref ta, .int (nI (aSz S)), .int (nI t9), .int (nI t9), .ref lg, .ref lm, .ref lr])) 3) rd = some (.inr (1, [.ref ta, .int (nI (aSz S)), .int (nI t9), .int (nI t9), .ref lg, .ref lm, .ref lr]), 3)) rfl 0 (by decide) (hts _ q185) (fun _ z => z) rfl dX1_next_73 ?_
      refine lv_aload_n hx hb dX1_next_76 rfl (lv_at hl 0 rfl) ?_
      refine hp_get (C := RX1) (T := TX1) (N := 7) (v := .int (nI t9)) hx hb hts in_X1 hown hK hH (hset_self _ _ _ _ : (hset h rd (.inr (1, [.ref ta, .int (nI (aSz S)), .int (nI t9), .int (nI t9), .ref lg, .ref lm, .ref lr])) 3) rd = some (.inr (1, [.ref ta, .int (nI (aSz S)), .int (nI t9), .int (nI t9), .ref lg, .ref lm, .ref lr]), 3)) rfl 2 (by decide) (hts _ q187) (fun _ z => z) rfl dX1_next_77 ?_
      refine hp_bld (n := 700) (j := t9) (v := aTx S t9) hx hb hK hH 1 ((hset_ne _ _ _ hnt).trans hta : (hset h rd (.inr (1, [.ref ta, .int (nI (aSz S)), .int (nI t9), .int (nI t9), .ref lg, .ref lm, .ref lr])) 3) ta = some (.inl (K 1, 700, .inl tx), 2)) rfl (by first | omega | (refine Nat.lt_of_lt_of_le (Nat.mod_lt _ ?_) ?_ <;> omega)) (by first | omega | (refine Nat.lt_of_lt_of_le (Nat.mod_lt _ ?_) ?_ <;> omega)) (htx _ (by omega)) dX1_next_80 ?_
      refine lv_istore_n (lv' := [(1, .int (aTx S t9)), (0, .ref rd)]) hx hb dX1_next_81 rfl hl (by decide) rfl (fun ls hl => ?_)
      refine lv_aload_n hx hb dX1_next_82 rfl (lv_at hl 1 rfl) ?_
      refine lv_dup hx hb dX1_next_83 rfl ?_
      refine hp_get (C := RX1) (T := TX1) (N := 7) (v := .int (nI t9)) hx hb hts in_X1 hown hK hH (hset_self _ _ _ _ : (hset h rd (.inr (1, [.ref ta, .int (nI (aSz S)), .int (nI t9), .int (nI t9), .ref lg, .ref lm, .ref lr])) 3) rd = some (.inr (1, [.ref ta, .int (nI (aSz S)), .int (nI t9), .int (nI t9), .ref lg, .ref lm, .ref lr]), 3)) rfl 2 (by decide) (hts _ q187) (fun _ z => z) rfl dX1_next_84 ?_
      refine lv_iconst (v := nI 1) hx hb dX1_next_87 (by decide) ?_
      refine lv_iadd hx hb dX1_next_88 ?_
      refine lv_top (y := nI (t9 + 1)) (nI_add _ _) ?_
      refine hp_put (C := RX1) (T := TX1) (N := 7) (v := .int (nI (t9 + 1))) (ty := .int) hx hb hts in_X1 tyX1 tyX1_ok nmX1 hown hK hH hS (hset_self _ _ _ _ : (hset h rd (.inr (1, [.ref ta, .int (nI (aSz S)), .int (nI t9), .int (nI t9), .ref lg, .ref lm, .ref lr])) 3) rd = some (.inr (1, [.ref ta, .int (nI (aSz S)), .int (nI t9), .int (nI t9), .ref lg, .ref lm, .ref lr]), 3)) rfl 2 (by decide) (hts _ q187) (fun _ z => z) rfl (by decide +kernel) rfl rfl (Nat.le_of_ble_eq_true rfl) dX1_next_89 (fun H locs _ hH hS => ?_)
      have hH : HP D CL (zA s0) (hset h rd (.inr (1, [.ref ta, .int (nI (aSz S)), .int (nI (t9 + 1)), .int (nI t9), .ref lg, .ref lm, .ref lr])) 3) H := by have q := hH; rw [hset_hset] at q; exact q
      refine lv_iload_n hx hb dX1_next_92 rfl (lv_at hl 0 rfl) ?_
      refine hp_callS (As := [.int (aTx S t9)]) (rest := []) hx hb hml hown hts hPB hH hS (mc_isLetter hK0 (aTx S t9)) 1 (lw_S q288 q289 q103 q290) (by decide +kernel) ⟨rfl, rfl⟩ (by first | decide | omega | (simp only [rmk]; omega)) rfl hl.1 rfl (Nat.le_of_ble_eq_true rfl) (by first | decide | omega | (simp only [rmk]; omega)) dX1_next_93 (fun v1 h3 H locs hp2 _ hH hS => ?_)
      obtain ⟨rfl, hq⟩ := hp2
      rw [hq] at hH
      refine lv_top (y := zI (inR S t9 97 122)) (congrArg zI (let_in (show t9 < aSz S by omega) 97 122)) ?_
      refine lvB_eq (tgt := 138) hx hb dX1_next_96 (by decide) (fun cl => ?_) (fun cl => ?_)
      · refine lv_iload_n hx hb dX1_next_138 rfl (lv_at hl 0 rfl) ?_
        refine hp_callS (As := [.int (aTx S t9)]) (rest := []) hx hb hml hown hts hPB hH hS (mc_isDigit hK0 (aTx S t9)) 1 (lw_S q291 q292 q103 q293) (by decide +kernel) ⟨rfl, rfl⟩ (by first | decide | omega | (simp only [rmk]; omega)) rfl hl.1 rfl (Nat.le_of_ble_eq_true rfl) (by first | decide | omega | (simp only [rmk]; omega)) dX1_next_139 (fun v4 h6 H locs hp5 _ hH hS => ?_)
        obtain ⟨rfl, hq⟩ := hp5
        rw [hq] at hH
        refine lv_top (y := zI (inR S t9 48 57)) (congrArg zI (let_in (show t9 < aSz S by omega) 48 57)) ?_
        refine lvB_eq (tgt := 184) hx hb dX1_next_142 (by decide) (fun cd => ?_) (fun cd => ?_)
        · refine lv_iload_n hx hb dX1_next_184 rfl (lv_at hl 0 rfl) ?_
          refine lv_bipush (v := nI 59) hx hb dX1_next_185 (by decide) ?_
          refine lv_icmp_eq (tgt := 195) hx hb dX1_next_187 (by decide) (fun csc => ?_) (fun csc => ?_)
          · refine w_mono mq_t ?_
            exact hp_vret hx hb hr hlocks hH hS (by first | decide | omega | (simp only [rmk]; omega)) (by first | decide | omega | (simp only [rmk]; omega)) dX1_next_195 ((by rw [nx_is (hq_t9.symm.trans (skp_f hsp)) (nxT_one cl cd (by omega))]; exact ⟨rfl, bad_f _ (Or.inr (Or.inr (Or.inr csc))), rfl⟩))
          · refine lv_aload_n hx hb dX1_next_190 rfl (lv_at hl 1 rfl) ?_
            refine hp_callV (As := []) (rest := []) hx hb hml hown hts hPB hK hH hS (mc_wrong hK0 hG hTX (hset_self _ _ _ _ : (hset h rd (.inr (1, [.ref ta, .int (nI (aSz S)), .int (nI (t9 + 1)), .int (nI t9), .ref lg, .ref lm, .ref lr])) 3) rd = some (.inr (1, [.ref ta, .int (nI (aSz S)), .int (nI (t9 + 1)), .int (nI t9), .ref lg, .ref lm, .ref lr]), 3)) (tf := 30)) (hset_self _ _ _ _ : (hset h rd (.inr (1, [.ref ta, .int (nI (aSz S)), .int (nI (t9 + 1)), .int (nI t9), .ref lg, .ref lm, .ref lr])) 3) rd = some (.inr (1, [.ref ta, .int (nI (aSz S)), .int (nI (t9 + 1)), .int (nI t9), .ref lg, .ref lm, .ref lr]), 3)) rfl rfl 0 (lw_V q294 q296 qs2 q103 q297) (by decide +kernel) ⟨rfl, rfl⟩ (by first | decide | omega | (simp only [rmk]; omega)) rfl hl.1 rfl (Nat.le_of_ble_eq_true rfl) (by first | decide | omega | (simp only [rmk]; omega)) dX1_next_191 (fun v8 h10 H locs hp9 _ hH hS => ?_)
            obtain ⟨q7, rfl, hnq7, hqq7⟩ := hp9
            rw [hqq7] at hH
            exact hp_throw hx hb hlocks (hout _) hH hS (by first | decide | omega | (simp only [rmk]; omega)) (by first | decide | omega | (simp only [rmk]; omega)) dX1_next_194 ((by rw [nx_is (hq_t9.symm.trans (skp_f hsp)) (nxT_one cl cd (by omega))]; exact ⟨bad_t _ (by show t9 < aSz S; omega) cl cd csc, ⟨30, hset_self _ _ _ _⟩, ⟨_, _, _, _, (hset_ne _ _ _ (ne_new (hset_self _ _ _ _ : (hset h rd (.inr (1, [.ref ta, .int (nI (aSz S)), .int (nI (t9 + 1)), .int (nI t9), .ref lg, .ref lm, .ref lr])) 3) rd = some (.inr (1, [.ref ta, .int (nI (aSz S)), .int (nI (t9 + 1)), .int (nI t9), .ref lg, .ref lm, .ref lr]), 3)) hnq7)).trans (hset_self _ _ _ _ : (hset h rd (.inr (1, [.ref ta, .int (nI (aSz S)), .int (nI (t9 + 1)), .int (nI t9), .ref lg, .ref lm, .ref lr])) 3) rd = some (.inr (1, [.ref ta, .int (nI (aSz S)), .int (nI (t9 + 1)), .int (nI t9), .ref lg, .ref lm, .ref lr]), 3))⟩, (set_fr hrd).new hnq7, (ob_o hrd).tr (exH.ob (exH.new hnq7))⟩))
        · refine w_loop1 (fun (t8 : Nat) => aSz S - t8) (fun (t8 : Nat) H locs ls => (t8 ≤ aSz S) ∧ (skp S (fun k => inR S k 48 57) t8 = skp S (fun k => inR S k 48 57) (t9 + 1)) ∧ HP D CL (zA s0) (hset h rd (.inr (1, [.ref ta, .int (nI (aSz S)), .int (nI t8), .int (nI t9), .ref lg, .ref lm, .ref lr])) 3) H ∧ va_S (zA s0) s.heap H locs ∧ lv_has ls 2 [(0, .ref rd)]) ?_ (t9 + 1) ⟨by omega, rfl, hH, hS, lv_sub hl [1] rfl⟩
          intro t8 ih145 H locs ls hP
          obtain ⟨hle_t8, hq_t8, hH, hS, hl⟩ := hP
          refine lv_aload_n hx hb dX1_next_145 rfl (lv_at hl 0 rfl) ?_
          refine hp_get (C := RX1) (T := TX1) (N := 7) (v := .int (nI t8)) hx hb hts in_X1 hown hK hH (hset_self _ _ _ _ : (hset h rd (.inr (1, [.ref ta, .int (nI (aSz S)), .int (nI t8), .int (nI t9), .ref lg, .ref lm, .ref lr])) 3) rd = some (.inr (1, [.ref ta, .int (nI (aSz S)), .int (nI t8), .int (nI t9), .ref lg, .ref lm, .ref lr]), 3)) rfl 2 (by decide) (hts _ q187) (fun _ z => z) rfl dX1_next_146 ?_
          refine lv_aload_n hx hb dX1_next_149 rfl (lv_at hl 0 rfl) ?_
          refine hp_get (C := RX1) (T := TX1) (N := 7) (v := .int (nI (aSz S))) hx hb hts in_X1 hown hK hH (hset_self _ _ _ _ : (hset h rd (.inr (1, [.ref ta, .int (nI (aSz S)), .int (nI t8), .int (nI t9), .ref lg, .ref lm, .ref lr])) 3) rd = some (.inr (1, [.ref ta, .int (nI (aSz S)), .int (nI t8), .int (nI t9), .ref lg, .ref lm, .ref lr]), 3)) rfl 1 (by decide) (hts _ q186) (fun _ z => z) rfl dX1_next_150 ?_
          refine lvN_ge (tgt := 195) hx hb (by first | omega | (refine Nat.lt_of_lt_of_le (Nat.mod_lt _ ?_) ?_ <;> omega)) (by first | omega | (refine Nat.lt_of_lt_of_le (Nat.mod_lt _ ?_) ?_ <;> omega)) dX1_next_153 (by decide) (fun cd1 => ?_) (fun cd1 => ?_)
          · refine w_mono mq_t ?_
            exact hp_vret hx hb hr hlocks hH hS (by first | decide | omega | (simp only [rmk]; omega)) (by first | decide | omega | (simp only [rmk]; omega)) dX1_next_195 ((by rw [nx_is (hq_t9.symm.trans (skp_f hsp)) ((nxT_dig cl cd).trans (hq_t8.symm.trans (skp_f (by unfold inR; rw [decide_eq_false (show ¬ t8 < aSz S by omega)]; rfl))))]; exact ⟨rfl, bad_f _ (Or.inr (Or.inr (Or.inl cd))), rfl⟩))
          · refine lv_aload_n hx hb dX1_next_156 rfl (lv_at hl 0 rfl) ?_
            refine hp_get (C := RX1) (T := TX1) (N := 7) (v := .ref ta) hx hb hts in_X1 hown hK hH (hset_self _ _ _ _ : (hset h rd (.inr (1, [.ref ta, .int (nI (aSz S)), .int (nI t8), .int (nI t9), .ref lg, .ref lm, .ref lr])) 3) rd = some (.inr (1, [.ref ta, .int (nI (aSz S)), .int (nI t8), .int (nI t9), .ref lg, .ref lm, .ref lr]), 3)) rfl 0 (by decide) (hts _ q185) (fun _ z => z) rfl dX1_next_157 ?_
            refine lv_aload_n hx hb dX1_next_160 rfl (lv_at hl 0 rfl) ?_
            refine hp_get (C := RX1) (T := TX1) (N := 7) (v := .int (nI t8)) hx hb hts in_X1 hown hK hH (hset_self _ _ _ _ : (hset h rd (.inr (1, [.ref ta, .int (nI (aSz S)), .int (nI t8), .int (nI t9), .ref lg, .ref lm, .ref lr])) 3) rd = some (.inr (1, [.ref ta, .int (nI (aSz S)), .int (nI t8), .int (nI t9), .ref lg, .ref lm, .ref lr]), 3)) rfl 2 (by decide) (hts _ q187) (fun _ z => z) rfl dX1_next_161 ?_
            refine hp_bld (n := 700) (j := t8) (v := aTx S t8) hx hb hK hH 1 ((hset_ne _ _ _ hnt).trans hta : (hset h rd (.inr (1, [.ref ta, .int (nI (aSz S)), .int (nI t8), .int (nI t9), .ref lg, .ref lm, .ref lr])) 3) ta = some (.inl (K 1, 700, .inl tx), 2)) rfl (by first | omega | (refine Nat.lt_of_lt_of_le (Nat.mod_lt _ ?_) ?_ <;> omega)) (by first | omega | (refine Nat.lt_of_lt_of_le (Nat.mod_lt _ ?_) ?_ <;> omega)) (htx _ (by omega)) dX1_next_164 ?_
            refine hp_callS (As := [.int (aTx S t8)]) (rest := []) hx hb hml hown hts hPB hH hS (mc_isDigit hK0 (aTx S t8)) 1 (lw_S q291 q292 q103 q293) (by decide +kernel) ⟨rfl, rfl⟩ (by first | decide | omega | (simp only [rmk]; omega)) rfl hl.1 rfl (Nat.le_of_ble_eq_true rfl) (by first | decide | omega | (simp only [rmk]; omega)) dX1_next_165 (fun v11 h13 H locs hp12 _ hH hS => ?_)
            obtain ⟨rfl, hq⟩ := hp12
            rw [hq] at hH
            refine lv_top (y := zI (inR S t8 48 57)) (congrArg zI (let_in (show t8 < aSz S by omega) 48 57)) ?_
            refine lvB_eq (tgt := 195) hx hb dX1_next_168 (by decide) (fun cd2 => ?_) (fun cd2 => ?_)
            · refine w_mono mq_t ?_
              exact hp_vret hx hb hr hlocks hH hS (by first | decide | omega | (simp only [rmk]; omega)) (by first | decide | omega | (simp only [rmk]; omega)) dX1_next_195 ((by rw [nx_is (hq_t9.symm.trans (skp_f hsp)) ((nxT_dig cl cd).trans (hq_t8.symm.trans (skp_f (cd2))))]; exact ⟨rfl, bad_f _ (Or.inr (Or.inr (Or.inl cd))), rfl⟩))
            · refine lv_aload_n hx hb dX1_next_171 rfl (lv_at hl 0 rfl) ?_
              refine lv_dup hx hb dX1_next_172 rfl ?_
              refine hp_get (C := RX1) (T := TX1) (N := 7) (v := .int (nI t8)) hx hb hts in_X1 hown hK hH (hset_self _ _ _ _ : (hset h rd (.inr (1, [.ref ta, .int (nI (aSz S)), .int (nI t8), .int (nI t9), .ref lg, .ref lm, .ref lr])) 3) rd = some (.inr (1, [.ref ta, .int (nI (aSz S)), .int (nI t8), .int (nI t9), .ref lg, .ref lm, .ref lr]), 3)) rfl 2 (by decide) (hts _ q187) (fun _ z => z) rfl dX1_next_173 ?_
              refine lv_iconst (v := nI 1) hx hb dX1_next_176 (by decide) ?_
              refine lv_iadd hx hb dX1_next_177 ?_
              refine lv_top (y := nI (t8 + 1)) (nI_add _ _) ?_
              refine hp_put (C := RX1) (T := TX1) (N := 7) (v := .int (nI (t8 + 1))) (ty := .int) hx hb hts in_X1 tyX1 tyX1_ok nmX1 hown hK hH hS (hset_self _ _ _ _ : (hset h rd (.inr (1, [.ref ta, .int (nI (aSz S)), .int (nI t8), .int (nI t9), .ref lg, .ref lm, .ref lr])) 3) rd = some (.inr (1, [.ref ta, .int (nI (aSz S)), .int (nI t8), .int (nI t9), .ref lg, .ref lm, .ref lr]), 3)) rfl 2 (by decide) (hts _ q187) (fun _ z => z) rfl (by decide +kernel) rfl rfl (Nat.le_of_ble_eq_true rfl) dX1_next_178 (fun H locs _ hH hS => ?_)
              have hH : HP D CL (zA s0) (hset h rd (.inr (1, [.ref ta, .int (nI (aSz S)), .int (nI (t8 + 1)), .int (nI t9), .ref lg, .ref lm, .ref lr])) 3) H := by have q := hH; rw [hset_hset] at q; exact q
              refine lv_goto (tgt := 145) hx hb dX1_next_181 (by decide) ?_
              exact ih145 (t8 + 1) (by omega) H locs ls ⟨by omega, (skp_t (f := fun k => inR S k 48 57) cd2 (by omega)).symm.trans hq_t8, hH, hS, lv_sub hl [0] rfl⟩
      · refine w_loop1 (fun (t8 : Nat) => aSz S - t8) (fun (t8 : Nat) H locs ls => (t8 ≤ aSz S) ∧ (skp S (fun k => inR S k 97 122) t8 = skp S (fun k => inR S k 97 122) (t9 + 1)) ∧ HP D CL (zA s0) (hset h rd (.inr (1, [.ref ta, .int (nI (aSz S)), .int (nI t8), .int (nI t9), .ref lg, .ref lm, .ref lr])) 3) H ∧ va_S (zA s0) s.heap H locs ∧ lv_has ls 2 [(0, .ref rd)]) ?_ (t9 + 1) ⟨by omega, rfl, hH, hS, lv_sub hl [1] rfl⟩
        intro t8 ih99 H locs ls hP
        obtain ⟨hle_t8, hq_t8, hH, hS, hl⟩ := hP
        refine lv_aload_n hx hb dX1_next_99 rfl (lv_at hl 0 rfl) ?_
        refine hp_get (C := RX1) (T := TX1) (N := 7) (v := .int (nI t8)) hx hb hts in_X1 hown hK hH (hset_self _ _ _ _ : (hset h rd (.inr (1, [.ref ta, .int (nI (aSz S)), .int (nI t8), .int (nI t9), .ref lg, .ref lm, .ref lr])) 3) rd = some (.inr (1, [.ref ta, .int (nI (aSz S)), .int (nI t8), .int (nI t9), .ref lg, .ref lm, .ref lr]), 3)) rfl 2 (by decide) (hts _ q187) (fun _ z => z) rfl dX1_next_100 ?_
        refine lv_aload_n hx hb dX1_next_103 rfl (lv_at hl 0 rfl) ?_
        refine hp_get (C := RX1) (T := TX1) (N := 7) (v := .int (nI (aSz S))) hx hb hts in_X1 hown hK hH (hset_self _ _ _ _ : (hset h rd (.inr (1, [.ref ta, .int (nI (aSz S)), .int (nI t8), .int (nI t9), .ref lg, .ref lm, .ref lr])) 3) rd = some (.inr (1, [.ref ta, .int (nI (aSz S)), .int (nI t8), .int (nI t9), .ref lg, .ref lm, .ref lr]), 3)) rfl 1 (by decide) (hts _ q186) (fun _ z => z) rfl dX1_next_104 ?_
        refine lvN_ge (tgt := 195) hx hb (by first | omega | (refine Nat.lt_of_lt_of_le (Nat.mod_lt _ ?_) ?_ <;> omega)) (by first | omega | (refine Nat.lt_of_lt_of_le (Nat.mod_lt _ ?_) ?_ <;> omega)) dX1_next_107 (by decide) (fun cl1 => ?_) (fun cl1 => ?_)
        · refine w_mono mq_t ?_
          exact hp_vret hx hb hr hlocks hH hS (by first | decide | omega | (simp only [rmk]; omega)) (by first | decide | omega | (simp only [rmk]; omega)) dX1_next_195 ((by rw [nx_is (hq_t9.symm.trans (skp_f hsp)) ((nxT_let cl).trans (hq_t8.symm.trans (skp_f (by unfold inR; rw [decide_eq_false (show ¬ t8 < aSz S by omega)]; rfl))))]; exact ⟨rfl, bad_f _ (Or.inr (Or.inl cl)), rfl⟩))
        · refine lv_aload_n hx hb dX1_next_110 rfl (lv_at hl 0 rfl) ?_
          refine hp_get (C := RX1) (T := TX1) (N := 7) (v := .ref ta) hx hb hts in_X1 hown hK hH (hset_self _ _ _ _ : (hset h rd (.inr (1, [.ref ta, .int (nI (aSz S)), .int (nI t8), .int (nI t9), .ref lg, .ref lm, .ref lr])) 3) rd = some (.inr (1, [.ref ta, .int (nI (aSz S)), .int (nI t8), .int (nI t9), .ref lg, .ref lm, .ref lr]), 3)) rfl 0 (by decide) (hts _ q185) (fun _ z => z) rfl dX1_next_111 ?_
          refine lv_aload_n hx hb dX1_next_114 rfl (lv_at hl 0 rfl) ?_
          refine hp_get (C := RX1) (T := TX1) (N := 7) (v := .int (nI t8)) hx hb hts in_X1 hown hK hH (hset_self _ _ _ _ : (hset h rd (.inr (1, [.ref ta, .int (nI (aSz S)), .int (nI t8), .int (nI t9), .ref lg, .ref lm, .ref lr])) 3) rd = some (.inr (1, [.ref ta, .int (nI (aSz S)), .int (nI t8), .int (nI t9), .ref lg, .ref lm, .ref lr]), 3)) rfl 2 (by decide) (hts _ q187) (fun _ z => z) rfl dX1_next_115 ?_
          refine hp_bld (n := 700) (j := t8) (v := aTx S t8) hx hb hK hH 1 ((hset_ne _ _ _ hnt).trans hta : (hset h rd (.inr (1, [.ref ta, .int (nI (aSz S)), .int (nI t8), .int (nI t9), .ref lg, .ref lm, .ref lr])) 3) ta = some (.inl (K 1, 700, .inl tx), 2)) rfl (by first | omega | (refine Nat.lt_of_lt_of_le (Nat.mod_lt _ ?_) ?_ <;> omega)) (by first | omega | (refine Nat.lt_of_lt_of_le (Nat.mod_lt _ ?_) ?_ <;> omega)) (htx _ (by omega)) dX1_next_118 ?_
          refine hp_callS (As := [.int (aTx S t8)]) (rest := []) hx hb hml hown hts hPB hH hS (mc_isLetter hK0 (aTx S t8)) 1 (lw_S q288 q289 q103 q290) (by decide +kernel) ⟨rfl, rfl⟩ (by first | decide | omega | (simp only [rmk]; omega)) rfl hl.1 rfl (Nat.le_of_ble_eq_true rfl) (by first | decide | omega | (simp only [rmk]; omega)) dX1_next_119 (fun v14 h16 H locs hp15 _ hH hS => ?_)
          obtain ⟨rfl, hq⟩ := hp15
          rw [hq] at hH
          refine lv_top (y := zI (inR S t8 97 122)) (congrArg zI (let_in (show t8 < aSz S by omega) 97 122)) ?_
          refine lvB_eq (tgt := 195) hx hb dX1_next_122 (by decide) (fun cl2 => ?_) (fun cl2 => ?_)
          · refine w_mono mq_t ?_
            exact hp_vret hx hb hr hlocks hH hS (by first | decide | omega | (simp only [rmk]; omega)) (by first | decide | omega | (simp only [rmk]; omega)) dX1_next_195 ((by rw [nx_is (hq_t9.symm.trans (skp_f hsp)) ((nxT_let cl).trans (hq_t8.symm.trans (skp_f (cl2))))]; exact ⟨rfl, bad_f _ (Or.inr (Or.inl cl)), rfl⟩))
          · refine lv_aload_n hx hb dX1_next_125 rfl (lv_at hl 0 rfl) ?_
            refine lv_dup hx hb dX1_next_126 rfl ?_
            refine hp_get (C := RX1) (T := TX1) (N := 7) (v := .int (nI t8)) hx hb hts in_X1 hown hK hH (hset_self _ _ _ _ : (hset h rd (.inr (1, [.ref ta, .int (nI (aSz S)), .int (nI t8), .int (nI t9), .ref lg, .ref lm, .ref lr])) 3) rd = some (.inr (1, [.ref ta, .int (nI (aSz S)), .int (nI t8), .int (nI t9), .ref lg, .ref lm, .ref lr]), 3)) rfl 2 (by decide) (hts _ q187) (fun _ z => z) rfl dX1_next_127 ?_
            refine lv_iconst (v := nI 1) hx hb dX1_next_130 (by decide) ?_
            refine lv_iadd hx hb dX1_next_131 ?_
            refine lv_top (y := nI (t8 + 1)) (nI_add _ _) ?_
            refine hp_put (C := RX1) (T := TX1) (N := 7) (v := .int (nI (t8 + 1))) (ty := .int) hx hb hts in_X1 tyX1 tyX1_ok nmX1 hown hK hH hS (hset_self _ _ _ _ : (hset h rd (.inr (1, [.ref ta, .int (nI (aSz S)), .int (nI t8), .int (nI t9), .ref lg, .ref lm, .ref lr])) 3) rd = some (.inr (1, [.ref ta, .int (nI (aSz S)), .int (nI t8), .int (nI t9), .ref lg, .ref lm, .ref lr]), 3)) rfl 2 (by decide) (hts _ q187) (fun _ z => z) rfl (by decide +kernel) rfl rfl (Nat.le_of_ble_eq_true rfl) dX1_next_132 (fun H locs _ hH hS => ?_)
            have hH : HP D CL (zA s0) (hset h rd (.inr (1, [.ref ta, .int (nI (aSz S)), .int (nI (t8 + 1)), .int (nI t9), .ref lg, .ref lm, .ref lr])) 3) H := by have q := hH; rw [hset_hset] at q; exact q
            refine lv_goto (tgt := 99) hx hb dX1_next_135 (by decide) ?_
            exact ih99 (t8 + 1) (by omega) H locs ls ⟨by omega, (skp_t (f := fun k => inR S k 97 122) cl2 (by omega)).symm.trans hq_t8, hH, hS, lv_sub hl [0] rfl⟩
    · refine w_mono mq_t ?_
      exact hp_vret hx hb hr hlocks hH hS (by first | decide | omega | (simp only [rmk]; omega)) (by first | decide | omega | (simp only [rmk]; omega)) dX1_next_71 ((by rw [nx_is (hq_t9.symm.trans (skp_f hsp)) (nxT_over (by omega))]; exact ⟨rfl, bad_f _ (Or.inl (by show ¬ t9 < aSz S; omega)), rfl⟩))
  · refine lv_aload_n hx hb dX1_next_11 rfl (lv_at hl 0 rfl) ?_
    refine hp_get (C := RX1) (T := TX1) (N := 7) (v := .ref ta) hx hb hts in_X1 hown hK hH (hset_self _ _ _ _ : (hset h rd (.inr (1, [.ref ta, .int (nI (aSz S)), .int (nI t9), .int (nI b0), .ref lg, .ref lm, .ref lr])) 3) rd = some (.inr (1, [.ref ta, .int (nI (aSz S)), .int (nI t9), .int (nI b0), .ref lg, .ref lm, .ref lr]), 3)) rfl 0 (by decide) (hts _ q185) (fun _ z => z) rfl dX1_next_12 ?_
    refine lv_aload_n hx hb dX1_next_15 rfl (lv_at hl 0 rfl) ?_
    refine hp_get (C := RX1) (T := TX1) (N := 7) (v := .int (nI t9)) hx hb hts in_X1 hown hK hH (hset_self _ _ _ _ : (hset h rd (.inr (1, [.ref ta, .int (nI (aSz S)), .int (nI t9), .int (nI b0), .ref lg, .ref lm, .ref lr])) 3) rd = some (.inr (1, [.ref ta, .int (nI (aSz S)), .int (nI t9), .int (nI b0), .ref lg, .ref lm, .ref lr]), 3)) rfl 2 (by decide) (hts _ q187) (fun _ z => z) rfl dX1_next_16 ?_
    refine hp_bld (n := 700) (j := t9) (v := aTx S t9) hx hb hK hH 1 ((hset_ne _ _ _ hnt).trans hta : (hset h rd (.inr (1, [.ref ta, .int (nI (aSz S)), .int (nI t9), .int (nI b0), .ref lg, .ref lm, .ref lr])) 3) ta = some (.inl (K 1, 700, .inl tx), 2)) rfl (by first | omega | (refine Nat.lt_of_lt_of_le (Nat.mod_lt _ ?_) ?_ <;> omega)) (by first | omega | (refine Nat.lt_of_lt_of_le (Nat.mod_lt _ ?_) ?_ <;> omega)) (htx _ (by omega)) dX1_next_19 ?_
    refine lv_bipush (v := nI 32) hx hb dX1_next_20 (by decide) ?_
    refine lv_icmp_eq (tgt := 39) hx hb dX1_next_22 (by decide) (fun c1 => ?_) (fun c1 => ?_)
    · refine lv_aload_n hx hb dX1_next_39 rfl (lv_at hl 0 rfl) ?_
      refine lv_dup hx hb dX1_next_40 rfl ?_
      refine hp_get (C := RX1) (T := TX1) (N := 7) (v := .int (nI t9)) hx hb hts in_X1 hown hK hH (hset_self _ _ _ _ : (hset h rd (.inr (1, [.ref ta, .int (nI (aSz S)), .int (nI t9), .int (nI b0), .ref lg, .ref lm, .ref lr])) 3) rd = some (.inr (1, [.ref ta, .int (nI (aSz S)), .int (nI t9), .int (nI b0), .ref lg, .ref lm, .ref lr]), 3)) rfl 2 (by decide) (hts _ q187) (fun _ z => z) rfl dX1_next_41 ?_
      refine lv_iconst (v := nI 1) hx hb dX1_next_44 (by decide) ?_
      refine lv_iadd hx hb dX1_next_45 ?_
      refine lv_top (y := nI (t9 + 1)) (nI_add _ _) ?_
      refine hp_put (C := RX1) (T := TX1) (N := 7) (v := .int (nI (t9 + 1))) (ty := .int) hx hb hts in_X1 tyX1 tyX1_ok nmX1 hown hK hH hS (hset_self _ _ _ _ : (hset h rd (.inr (1, [.ref ta, .int (nI (aSz S)), .int (nI t9), .int (nI b0), .ref lg, .ref lm, .ref lr])) 3) rd = some (.inr (1, [.ref ta, .int (nI (aSz S)), .int (nI t9), .int (nI b0), .ref lg, .ref lm, .ref lr]), 3)) rfl 2 (by decide) (hts _ q187) (fun _ z => z) rfl (by decide +kernel) rfl rfl (Nat.le_of_ble_eq_true rfl) dX1_next_46 (fun H locs _ hH hS => ?_)
      have hH : HP D CL (zA s0) (hset h rd (.inr (1, [.ref ta, .int (nI (aSz S)), .int (nI (t9 + 1)), .int (nI b0), .ref lg, .ref lm, .ref lr])) 3) H := by have q := hH; rw [hset_hset] at q; exact q
      refine lv_goto (tgt := 0) hx hb dX1_next_49 (by decide) ?_
      exact ih0 (t9 + 1) (by omega) H locs ls ⟨by omega, (skp_t (sp_t (by omega) (Or.inl c1)) (by omega)).symm.trans hq_t9, hH, hS, lv_sub hl [0] rfl⟩
    · refine lv_aload_n hx hb dX1_next_25 rfl (lv_at hl 0 rfl) ?_
      refine hp_get (C := RX1) (T := TX1) (N := 7) (v := .ref ta) hx hb hts in_X1 hown hK hH (hset_self _ _ _ _ : (hset h rd (.inr (1, [.ref ta, .int (nI (aSz S)), .int (nI t9), .int (nI b0), .ref lg, .ref lm, .ref lr])) 3) rd = some (.inr (1, [.ref ta, .int (nI (aSz S)), .int (nI t9), .int (nI b0), .ref lg, .ref lm, .ref lr]), 3)) rfl 0 (by decide) (hts _ q185) (fun _ z => z) rfl dX1_next_26 ?_
      refine lv_aload_n hx hb dX1_next_29 rfl (lv_at hl 0 rfl) ?_
      refine hp_get (C := RX1) (T := TX1) (N := 7) (v := .int (nI t9)) hx hb hts in_X1 hown hK hH (hset_self _ _ _ _ : (hset h rd (.inr (1, [.ref ta, .int (nI (aSz S)), .int (nI t9), .int (nI b0), .ref lg, .ref lm, .ref lr])) 3) rd = some (.inr (1, [.ref ta, .int (nI (aSz S)), .int (nI t9), .int (nI b0), .ref lg, .ref lm, .ref lr]), 3)) rfl 2 (by decide) (hts _ q187) (fun _ z => z) rfl dX1_next_30 ?_
      refine hp_bld (n := 700) (j := t9) (v := aTx S t9) hx hb hK hH 1 ((hset_ne _ _ _ hnt).trans hta : (hset h rd (.inr (1, [.ref ta, .int (nI (aSz S)), .int (nI t9), .int (nI b0), .ref lg, .ref lm, .ref lr])) 3) ta = some (.inl (K 1, 700, .inl tx), 2)) rfl (by first | omega | (refine Nat.lt_of_lt_of_le (Nat.mod_lt _ ?_) ?_ <;> omega)) (by first | omega | (refine Nat.lt_of_lt_of_le (Nat.mod_lt _ ?_) ?_ <;> omega)) (htx _ (by omega)) dX1_next_33 ?_
      refine lv_bipush (v := nI 10) hx hb dX1_next_34 (by decide) ?_
      refine lv_icmp_ne (tgt := 52) hx hb dX1_next_36 (by decide) (fun c2 => ?_) (fun c2 => ?_)
      · have hsp : isSp S t9 = false := sp_f (Or.inr ⟨c1, c2⟩)
        refine lv_aload_n hx hb dX1_next_52 rfl (lv_at hl 0 rfl) ?_
        refine lv_aload_n hx hb dX1_next_53 rfl (lv_at hl 0 rfl) ?_
        refine hp_get (C := RX1) (T := TX1) (N := 7) (v := .int (nI t9)) hx hb hts in_X1 hown hK hH (hset_self _ _ _ _ : (hset h rd (.inr (1, [.ref ta, .int (nI (aSz S)), .int (nI t9), .int (nI b0), .ref lg, .ref lm, .ref lr])) 3) rd = some (.inr (1, [.ref ta, .int (nI (aSz S)), .int (nI t9), .int (nI b0), .ref lg, .ref lm, .ref lr]), 3)) rfl 2 (by decide) (hts _ q187) (fun _ z => z) rfl dX1_next_54 ?_
        refine hp_put (C := RX1) (T := TX1) (N := 7) (v := .int (nI t9)) (ty := .int) hx hb hts in_X1 tyX1 tyX1_ok nmX1 hown hK hH hS (hset_self _ _ _ _ : (hset h rd (.inr (1, [.ref ta, .int (nI (aSz S)), .int (nI t9), .int (nI b0), .ref lg, .ref lm, .ref lr])) 3) rd = some (.inr (1, [.ref ta, .int (nI (aSz S)), .int (nI t9), .int (nI b0), .ref lg, .ref lm, .ref lr]), 3)) rfl 3 (by decide) (hts _ q188) (fun _ z => z) rfl (by decide +kernel) rfl rfl (Nat.le_of_ble_eq_true rfl) dX1_next_57 (fun H locs _ hH hS => ?_)
        have hH : HP D CL (zA s0) (hset h rd (.inr (1, [.ref ta, .int (nI (aSz S)), .int (nI t9), .int (nI t9), .ref lg, .ref lm, .ref lr])) 3) H := by have q := hH; rw [hset_hset] at q; exact q
        refine lv_aload_n hx hb dX1_next_60 rfl (lv_at hl 0 rfl) ?_
        refine hp_get (C := RX1) (T := TX1) (N := 7) (v := .int (nI t9)) hx hb hts in_X1 hown hK hH (hset_self _ _ _ _ : (hset h rd (.inr (1, [.ref ta, .int (nI (aSz S)), .int (nI t9), .int (nI t9), .ref lg, .ref lm, .ref lr])) 3) rd = some (.inr (1, [.ref ta, .int (nI (aSz S)), .int (nI t9), .int (nI t9), .ref lg, .ref lm, .ref lr]), 3)) rfl 2 (by decide) (hts _ q187) (fun _ z => z) rfl dX1_next_61 ?_
        refine lv_aload_n hx hb dX1_next_64 rfl (lv_at hl 0 rfl) ?_
        refine hp_get (C := RX1) (T := TX1) (N := 7) (v := .int (nI (aSz S))) hx hb hts in_X1 hown hK hH (hset_self _ _ _ _ : (hset h rd (.inr (1, [.ref ta, .int (nI (aSz S)), .int (nI t9), .int (nI t9), .ref lg, .ref lm, .ref lr])) 3) rd = some (.inr (1, [.ref ta, .int (nI (aSz S)), .int (nI t9), .int (nI t9), .ref lg, .ref lm, .ref lr]), 3)) rfl 1 (by decide) (hts _ q186) (fun _ z => z) rfl dX1_next_65 ?_
        refine lvN_ne (tgt := 72) hx hb (by first | omega | (refine Nat.lt_of_lt_of_le (Nat.mod_lt _ ?_) ?_ <;> omega)) (by first | omega | (refine Nat.lt_of_lt_of_le (Nat.mod_lt _ ?_) ?_ <;> omega)) dX1_next_68 (by decide) (fun cz => ?_) (fun cz => ?_)
        · refine lv_aload_n hx hb dX1_next_72 rfl (lv_at hl 0 rfl) ?_
          refine hp_get (C := RX1) (T := TX1) (N := 7) (v := .ref ta) hx hb hts in_X1 hown hK hH (hset_self _ _ _ _ : (hset h rd (.inr (1, [.ref ta, .int (nI (aSz S)), .int (nI t9), .int (nI t9), .ref lg, .ref lm, .ref lr])) 3) rd = some (.inr (1, [.ref ta, .int (nI (aSz S)), .int (nI t9), .int (nI t9), .ref lg, .ref lm, .ref lr]), 3)) rfl 0 (by decide) (hts _ q185) (fun _ z => z) rfl dX1_next_73 ?_
          refine lv_aload_n hx hb dX1_next_76 rfl (lv_at hl 0 rfl) ?_
          refine hp_get (C := RX1) (T := TX1) (N := 7) (v := .int (nI t9)) hx hb hts in_X1 hown hK hH (hset_self _ _ _ _ : (hset h rd (.inr (1, [.ref ta, .int (nI (aSz S)), .int (nI t9), .int (nI t9), .ref lg, .ref lm, .ref lr])) 3) rd = some (.inr (1, [.ref ta, .int (nI (aSz S)), .int (nI t9), .int (nI t9), .ref lg, .ref lm, .ref lr]), 3)) rfl 2 (by decide) (hts _ q187) (fun _ z => z) rfl dX1_next_77 ?_
          refine hp_bld (n := 700) (j := t9) (v := aTx S t9) hx hb hK hH 1 ((hset_ne _ _ _ hnt).trans hta : (hset h rd (.inr (1, [.ref ta, .int (nI (aSz S)), .int (nI t9), .int (nI t9), .ref lg, .ref lm, .ref lr])) 3) ta = some (.inl (K 1, 700, .inl tx), 2)) rfl (by first | omega | (refine Nat.lt_of_lt_of_le (Nat.mod_lt _ ?_) ?_ <;> omega)) (by first | omega | (refine Nat.lt_of_lt_of_le (Nat.mod_lt _ ?_) ?_ <;> omega)) (htx _ (by omega)) dX1_next_80 ?_
          refine lv_istore_n (lv' := [(1, .int (aTx S t9)), (0, .ref rd)]) hx hb dX1_next_81 rfl hl (by decide) rfl (fun ls hl => ?_)
          refine lv_aload_n hx hb dX1_next_82 rfl (lv_at hl 1 rfl) ?_
          refine lv_dup hx hb dX1_next_83 rfl ?_
          refine hp_get (C := RX1) (T := TX1) (N := 7) (v := .int (nI t9)) hx hb hts in_X1 hown hK hH (hset_self _ _ _ _ : (hset h rd (.inr (1, [.ref ta, .int (nI (aSz S)), .int (nI t9), .int (nI t9), .ref lg, .ref lm, .ref lr])) 3) rd = some (.inr (1, [.ref ta, .int (nI (aSz S)), .int (nI t9), .int (nI t9), .ref lg, .ref lm, .ref lr]), 3)) rfl 2 (by decide) (hts _ q187) (fun _ z => z) rfl dX1_next_84 ?_
          refine lv_iconst (v := nI 1) hx hb dX1_next_87 (by decide) ?_
          refine lv_iadd hx hb dX1_next_88 ?_
          refine lv_top (y := nI (t9 + 1)) (nI_add _ _) ?_
          refine hp_put (C := RX1) (T := TX1) (N := 7) (v := .int (nI (t9 + 1))) (ty := .int) hx hb hts in_X1 tyX1 tyX1_ok nmX1 hown hK hH hS (hset_self _ _ _ _ : (hset h rd (.inr (1, [.ref ta, .int (nI (aSz S)), .int (nI t9), .int (nI t9), .ref lg, .ref lm, .ref lr])) 3) rd = some (.inr (1, [.ref ta, .int (nI (aSz S)), .int (nI t9), .int (nI t9), .ref lg, .ref lm, .ref lr]), 3)) rfl 2 (by decide) (hts _ q187) (fun _ z => z) rfl (by decide +kernel) rfl rfl (Nat.le_of_ble_eq_true rfl) dX1_next_89 (fun H locs _ hH hS => ?_)
          have hH : HP D CL (zA s0) (hset h rd (.inr (1, [.ref ta, .int (nI (aSz S)), .int (nI (t9 + 1)), .int (nI t9), .ref lg, .ref lm, .ref lr])) 3) H := by have q := hH; rw [hset_hset] at q; exact q
          refine lv_iload_n hx hb dX1_next_92 rfl (lv_at hl 0 rfl) ?_
          refine hp_callS (As := [.int (aTx S t9)]) (rest := []) hx hb hml hown hts hPB hH hS (mc_isLetter hK0 (aTx S t9)) 1 (lw_S q288 q289 q103 q290) (by decide +kernel) ⟨rfl, rfl⟩ (by first | decide | omega | (simp only [rmk]; omega)) rfl hl.1 rfl (Nat.le_of_ble_eq_true rfl) (by first | decide | omega | (simp only [rmk]; omega)) dX1_next_93 (fun v17 h19 H locs hp18 _ hH hS => ?_)
          obtain ⟨rfl, hq⟩ := hp18
          rw [hq] at hH
          refine lv_top (y := zI (inR S t9 97 122)) (congrArg zI (let_in (show t9 < aSz S by omega) 97 122)) ?_
          refine lvB_eq (tgt := 138) hx hb dX1_next_96 (by decide) (fun cl => ?_) (fun cl => ?_)
          · refine lv_iload_n hx hb dX1_next_138 rfl (lv_at hl 0 rfl) ?_
            refine hp_callS (As := [.int (aTx S t9)]) (rest := []) hx hb hml hown hts hPB hH hS (mc_isDigit hK0 (aTx S t9)) 1 (lw_S q291 q292 q103 q293) (by decide +kernel) ⟨rfl, rfl⟩ (by first | decide | omega | (simp only [rmk]; omega)) rfl hl.1 rfl (Nat.le_of_ble_eq_true rfl) (by first | decide | omega | (simp only [rmk]; omega)) dX1_next_139 (fun v20 h22 H locs hp21 _ hH hS => ?_)
            obtain ⟨rfl, hq⟩ := hp21
            rw [hq] at hH
            refine lv_top (y := zI (inR S t9 48 57)) (congrArg zI (let_in (show t9 < aSz S by omega) 48 57)) ?_
            refine lvB_eq (tgt := 184) hx hb dX1_next_142 (by decide) (fun cd => ?_) (fun cd => ?_)
            · refine lv_iload_n hx hb dX1_next_184 rfl (lv_at hl 0 rfl) ?_
              refine lv_bipush (v := nI 59) hx hb dX1_next_185 (by decide) ?_
              refine lv_icmp_eq (tgt := 195) hx hb dX1_next_187 (by decide) (fun csc => ?_) (fun csc => ?_)
              · refine w_mono mq_t ?_
                exact hp_vret hx hb hr hlocks hH hS (by first | decide | omega | (simp only [rmk]; omega)) (by first | decide | omega | (simp only [rmk]; omega)) dX1_next_195 ((by rw [nx_is (hq_t9.symm.trans (skp_f hsp)) (nxT_one cl cd (by omega))]; exact ⟨rfl, bad_f _ (Or.inr (Or.inr (Or.inr csc))), rfl⟩))
              · refine lv_aload_n hx hb dX1_next_190 rfl (lv_at hl 1 rfl) ?_
                refine hp_callV (As := []) (rest := []) hx hb hml hown hts hPB hK hH hS (mc_wrong hK0 hG hTX (hset_self _ _ _ _ : (hset h rd (.inr (1, [.ref ta, .int (nI (aSz S)), .int (nI (t9 + 1)), .int (nI t9), .ref lg, .ref lm, .ref lr])) 3) rd = some (.inr (1, [.ref ta, .int (nI (aSz S)), .int (nI (t9 + 1)), .int (nI t9), .ref lg, .ref lm, .ref lr]), 3)) (tf := 30)) (hset_self _ _ _ _ : (hset h rd (.inr (1, [.ref ta, .int (nI (aSz S)), .int (nI (t9 + 1)), .int (nI t9), .ref lg, .ref lm, .ref lr])) 3) rd = some (.inr (1, [.ref ta, .int (nI (aSz S)), .int (nI (t9 + 1)), .int (nI t9), .ref lg, .ref lm, .ref lr]), 3)) rfl rfl 0 (lw_V q294 q296 qs2 q103 q297) (by decide +kernel) ⟨rfl, rfl⟩ (by first | decide | omega | (simp only [rmk]; omega)) rfl hl.1 rfl (Nat.le_of_ble_eq_true rfl) (by first | decide | omega | (simp only [rmk]; omega)) dX1_next_191 (fun v24 h26 H locs hp25 _ hH hS => ?_)
                obtain ⟨q23, rfl, hnq23, hqq23⟩ := hp25
                rw [hqq23] at hH
                exact hp_throw hx hb hlocks (hout _) hH hS (by first | decide | omega | (simp only [rmk]; omega)) (by first | decide | omega | (simp only [rmk]; omega)) dX1_next_194 ((by rw [nx_is (hq_t9.symm.trans (skp_f hsp)) (nxT_one cl cd (by omega))]; exact ⟨bad_t _ (by show t9 < aSz S; omega) cl cd csc, ⟨30, hset_self _ _ _ _⟩, ⟨_, _, _, _, (hset_ne _ _ _ (ne_new (hset_self _ _ _ _ : (hset h rd (.inr (1, [.ref ta, .int (nI (aSz S)), .int (nI (t9 + 1)), .int (nI t9), .ref lg, .ref lm, .ref lr])) 3) rd = some (.inr (1, [.ref ta, .int (nI (aSz S)), .int (nI (t9 + 1)), .int (nI t9), .ref lg, .ref lm, .ref lr]), 3)) hnq23)).trans (hset_self _ _ _ _ : (hset h rd (.inr (1, [.ref ta, .int (nI (aSz S)), .int (nI (t9 + 1)), .int (nI t9), .ref lg, .ref lm, .ref lr])) 3) rd = some (.inr (1, [.ref ta, .int (nI (aSz S)), .int (nI (t9 + 1)), .int (nI t9), .ref lg, .ref lm, .ref lr]), 3))⟩, (set_fr hrd).new hnq23, (ob_o hrd).tr (exH.ob (exH.new hnq23))⟩))
            · refine w_loop1 (fun (t8 : Nat) => aSz S - t8) (fun (t8 : Nat) H locs ls => (t8 ≤ aSz S) ∧ (skp S (fun k => inR S k 48 57) t8 = skp S (fun k => inR S k 48 57) (t9 + 1)) ∧ HP D CL (zA s0) (hset h rd (.inr (1, [.ref ta, .int (nI (aSz S)), .int (nI t8), .int (nI t9), .ref lg, .ref lm, .ref lr])) 3) H ∧ va_S (zA s0) s.heap H locs ∧ lv_has ls 2 [(0, .ref rd)]) ?_ (t9 + 1) ⟨by omega, rfl, hH, hS, lv_sub hl [1] rfl⟩
              intro t8 ih145 H locs ls hP
              obtain ⟨hle_t8, hq_t8, hH, hS, hl⟩ := hP
              refine lv_aload_n hx hb dX1_next_145 rfl (lv_at hl 0 rfl) ?_
              refine hp_get (C := RX1) (T := TX1) (N := 7) (v := .int (nI t8)) hx hb hts in_X1 hown hK hH (hset_self _ _ _ _ : (hset h rd (.inr (1, [.ref ta, .int (nI (aSz S)), .int (nI t8), .int (nI t9), .ref lg, .ref lm, .ref lr])) 3) rd = some (.inr (1, [.ref ta, .int (nI (aSz S)), .int (nI t8), .int (nI t9), .ref lg, .ref lm, .ref lr]), 3)) rfl 2 (by decide) (hts _ q187) (fun _ z => z) rfl dX1_next_146 ?_
              refine lv_aload_n hx hb dX1_next_149 rfl (lv_at hl 0 rfl) ?_
              refine hp_get (C := RX1) (T := TX1) (N := 7) (v := .int (nI (aSz S))) hx hb hts in_X1 hown hK hH (hset_self _ _ _ _ : (hset h rd (.inr (1, [.ref ta, .int (nI (aSz S)), .int (nI t8), .int (nI t9), .ref lg, .ref lm, .ref lr])) 3) rd = some (.inr (1, [.ref ta, .int (nI (aSz S)), .int (nI t8), .int (nI t9), .ref lg, .ref lm, .ref lr]), 3)) rfl 1 (by decide) (hts _ q186) (fun _ z => z) rfl dX1_next_150 ?_
              refine lvN_ge (tgt := 195) hx hb (by first | omega | (refine Nat.lt_of_lt_of_le (Nat.mod_lt _ ?_) ?_ <;> omega)) (by first | omega | (refine Nat.lt_of_lt_of_le (Nat.mod_lt _ ?_) ?_ <;> omega)) dX1_next_153 (by decide) (fun cd1 => ?_) (fun cd1 => ?_)
              · refine w_mono mq_t ?_
                exact hp_vret hx hb hr hlocks hH hS (by first | decide | omega | (simp only [rmk]; omega)) (by first | decide | omega | (simp only [rmk]; omega)) dX1_next_195 ((by rw [nx_is (hq_t9.symm.trans (skp_f hsp)) ((nxT_dig cl cd).trans (hq_t8.symm.trans (skp_f (by unfold inR; rw [decide_eq_false (show ¬ t8 < aSz S by omega)]; rfl))))]; exact ⟨rfl, bad_f _ (Or.inr (Or.inr (Or.inl cd))), rfl⟩))
              · refine lv_aload_n hx hb dX1_next_156 rfl (lv_at hl 0 rfl) ?_
                refine hp_get (C := RX1) (T := TX1) (N := 7) (v := .ref ta) hx hb hts in_X1 hown hK hH (hset_self _ _ _ _ : (hset h rd (.inr (1, [.ref ta, .int (nI (aSz S)), .int (nI t8), .int (nI t9), .ref lg, .ref lm, .ref lr])) 3) rd = some (.inr (1, [.ref ta, .int (nI (aSz S)), .int (nI t8), .int (nI t9), .ref lg, .ref lm, .ref lr]), 3)) rfl 0 (by decide) (hts _ q185) (fun _ z => z) rfl dX1_next_157 ?_
                refine lv_aload_n hx hb dX1_next_160 rfl (lv_at hl 0 rfl) ?_
                refine hp_get (C := RX1) (T := TX1) (N := 7) (v := .int (nI t8)) hx hb hts in_X1 hown hK hH (hset_self _ _ _ _ : (hset h rd (.inr (1, [.ref ta, .int (nI (aSz S)), .int (nI t8), .int (nI t9), .ref lg, .ref lm, .ref lr])) 3) rd = some (.inr (1, [.ref ta, .int (nI (aSz S)), .int (nI t8), .int (nI t9), .ref lg, .ref lm, .ref lr]), 3)) rfl 2 (by decide) (hts _ q187) (fun _ z => z) rfl dX1_next_161 ?_
                refine hp_bld (n := 700) (j := t8) (v := aTx S t8) hx hb hK hH 1 ((hset_ne _ _ _ hnt).trans hta : (hset h rd (.inr (1, [.ref ta, .int (nI (aSz S)), .int (nI t8), .int (nI t9), .ref lg, .ref lm, .ref lr])) 3) ta = some (.inl (K 1, 700, .inl tx), 2)) rfl (by first | omega | (refine Nat.lt_of_lt_of_le (Nat.mod_lt _ ?_) ?_ <;> omega)) (by first | omega | (refine Nat.lt_of_lt_of_le (Nat.mod_lt _ ?_) ?_ <;> omega)) (htx _ (by omega)) dX1_next_164 ?_
                refine hp_callS (As := [.int (aTx S t8)]) (rest := []) hx hb hml hown hts hPB hH hS (mc_isDigit hK0 (aTx S t8)) 1 (lw_S q291 q292 q103 q293) (by decide +kernel) ⟨rfl, rfl⟩ (by first | decide | omega | (simp only [rmk]; omega)) rfl hl.1 rfl (Nat.le_of_ble_eq_true rfl) (by first | decide | omega | (simp only [rmk]; omega)) dX1_next_165 (fun v27 h29 H locs hp28 _ hH hS => ?_)
                obtain ⟨rfl, hq⟩ := hp28
                rw [hq] at hH
                refine lv_top (y := zI (inR S t8 48 57)) (congrArg zI (let_in (show t8 < aSz S by omega) 48 57)) ?_
                refine lvB_eq (tgt := 195) hx hb dX1_next_168 (by decide) (fun cd2 => ?_) (fun cd2 => ?_)
                · refine w_mono mq_t ?_
                  exact hp_vret hx hb hr hlocks hH hS (by first | decide | omega | (simp only [rmk]; omega)) (by first | decide | omega | (simp only [rmk]; omega)) dX1_next_195 ((by rw [nx_is (hq_t9.symm.trans (skp_f hsp)) ((nxT_dig cl cd).trans (hq_t8.symm.trans (skp_f (cd2))))]; exact ⟨rfl, bad_f _ (Or.inr (Or.inr (Or.inl cd))), rfl⟩))
                · refine lv_aload_n hx hb dX1_next_171 rfl (lv_at hl 0 rfl) ?_
                  refine lv_dup hx hb dX1_next_172 rfl ?_
                  refine hp_get (C := RX1) (T := TX1) (N := 7) (v := .int (nI t8)) hx hb hts in_X1 hown hK hH (hset_self _ _ _ _ : (hset h rd (.inr (1, [.ref ta, .int (nI (aSz S)), .int (nI t8), .int (nI t9), .ref lg, .ref lm, .ref lr])) 3) rd = some (.inr (1, [.ref ta, .int (nI (aSz S)), .int (nI t8), .int (nI t9), .ref lg, .ref lm, .ref lr]), 3)) rfl 2 (by decide) (hts _ q187) (fun _ z => z) rfl dX1_next_173 ?_
                  refine lv_iconst (v := nI 1) hx hb dX1_next_176 (by decide) ?_
                  refine lv_iadd hx hb dX1_next_177 ?_
                  refine lv_top (y := nI (t8 + 1)) (nI_add _ _) ?_
                  refine hp_put (C := RX1) (T := TX1) (N := 7) (v := .int (nI (t8 + 1))) (ty := .int) hx hb hts in_X1 tyX1 tyX1_ok nmX1 hown hK hH hS (hset_self _ _ _ _ : (hset h rd (.inr (1, [.ref ta, .int (nI (aSz S)), .int (nI t8), .int (nI t9), .ref lg, .ref lm, .ref lr])) 3) rd = some (.inr (1, [.ref ta, .int (nI (aSz S)), .int (nI t8), .int (nI t9), .ref lg, .ref lm, .ref lr]), 3)) rfl 2 (by decide) (hts _ q187) (fun _ z => z) rfl (by decide +kernel) rfl rfl (Nat.le_of_ble_eq_true rfl) dX1_next_178 (fun H locs _ hH hS => ?_)
                  have hH : HP D CL (zA s0) (hset h rd (.inr (1, [.ref ta, .int (nI (aSz S)), .int (nI (t8 + 1)), .int (nI t9), .ref lg, .ref lm, .ref lr])) 3) H := by have q := hH; rw [hset_hset] at q; exact q
                  refine lv_goto (tgt := 145) hx hb dX1_next_181 (by decide) ?_
                  exact ih145 (t8 + 1) (by omega) H locs ls ⟨by omega, (skp_t (f := fun k => inR S k 48 57) cd2 (by omega)).symm.trans hq_t8, hH, hS, lv_sub hl [0] rfl⟩
          · refine w_loop1 (fun (t8 : Nat) => aSz S - t8) (fun (t8 : Nat) H locs ls => (t8 ≤ aSz S) ∧ (skp S (fun k => inR S k 97 122) t8 = skp S (fun k => inR S k 97 122) (t9 + 1)) ∧ HP D CL (zA s0) (hset h rd (.inr (1, [.ref ta, .int (nI (aSz S)), .int (nI t8), .int (nI t9), .ref lg, .ref lm, .ref lr])) 3) H ∧ va_S (zA s0) s.heap H locs ∧ lv_has ls 2 [(0, .ref rd)]) ?_ (t9 + 1) ⟨by omega, rfl, hH, hS, lv_sub hl [1] rfl⟩
            intro t8 ih99 H locs ls hP
            obtain ⟨hle_t8, hq_t8, hH, hS, hl⟩ := hP
            refine lv_aload_n hx hb dX1_next_99 rfl (lv_at hl 0 rfl) ?_
            refine hp_get (C := RX1) (T := TX1) (N := 7) (v := .int (nI t8)) hx hb hts in_X1 hown hK hH (hset_self _ _ _ _ : (hset h rd (.inr (1, [.ref ta, .int (nI (aSz S)), .int (nI t8), .int (nI t9), .ref lg, .ref lm, .ref lr])) 3) rd = some (.inr (1, [.ref ta, .int (nI (aSz S)), .int (nI t8), .int (nI t9), .ref lg, .ref lm, .ref lr]), 3)) rfl 2 (by decide) (hts _ q187) (fun _ z => z) rfl dX1_next_100 ?_
            refine lv_aload_n hx hb dX1_next_103 rfl (lv_at hl 0 rfl) ?_
            refine hp_get (C := RX1) (T := TX1) (N := 7) (v := .int (nI (aSz S))) hx hb hts in_X1 hown hK hH (hset_self _ _ _ _ : (hset h rd (.inr (1, [.ref ta, .int (nI (aSz S)), .int (nI t8), .int (nI t9), .ref lg, .ref lm, .ref lr])) 3) rd = some (.inr (1, [.ref ta, .int (nI (aSz S)), .int (nI t8), .int (nI t9), .ref lg, .ref lm, .ref lr]), 3)) rfl 1 (by decide) (hts _ q186) (fun _ z => z) rfl dX1_next_104 ?_
            refine lvN_ge (tgt := 195) hx hb (by first | omega | (refine Nat.lt_of_lt_of_le (Nat.mod_lt _ ?_) ?_ <;> omega)) (by first | omega | (refine Nat.lt_of_lt_of_le (Nat.mod_lt _ ?_) ?_ <;> omega)) dX1_next_107 (by decide) (fun cl1 => ?_) (fun cl1 => ?_)
            · refine w_mono mq_t ?_
              exact hp_vret hx hb hr hlocks hH hS (by first | decide | omega | (simp only [rmk]; omega)) (by first | decide | omega | (simp only [rmk]; omega)) dX1_next_195 ((by rw [nx_is (hq_t9.symm.trans (skp_f hsp)) ((nxT_let cl).trans (hq_t8.symm.trans (skp_f (by unfold inR; rw [decide_eq_false (show ¬ t8 < aSz S by omega)]; rfl))))]; exact ⟨rfl, bad_f _ (Or.inr (Or.inl cl)), rfl⟩))
            · refine lv_aload_n hx hb dX1_next_110 rfl (lv_at hl 0 rfl) ?_
              refine hp_get (C := RX1) (T := TX1) (N := 7) (v := .ref ta) hx hb hts in_X1 hown hK hH (hset_self _ _ _ _ : (hset h rd (.inr (1, [.ref ta, .int (nI (aSz S)), .int (nI t8), .int (nI t9), .ref lg, .ref lm, .ref lr])) 3) rd = some (.inr (1, [.ref ta, .int (nI (aSz S)), .int (nI t8), .int (nI t9), .ref lg, .ref lm, .ref lr]), 3)) rfl 0 (by decide) (hts _ q185) (fun _ z => z) rfl dX1_next_111 ?_
              refine lv_aload_n hx hb dX1_next_114 rfl (lv_at hl 0 rfl) ?_
              refine hp_get (C := RX1) (T := TX1) (N := 7) (v := .int (nI t8)) hx hb hts in_X1 hown hK hH (hset_self _ _ _ _ : (hset h rd (.inr (1, [.ref ta, .int (nI (aSz S)), .int (nI t8), .int (nI t9), .ref lg, .ref lm, .ref lr])) 3) rd = some (.inr (1, [.ref ta, .int (nI (aSz S)), .int (nI t8), .int (nI t9), .ref lg, .ref lm, .ref lr]), 3)) rfl 2 (by decide) (hts _ q187) (fun _ z => z) rfl dX1_next_115 ?_
              refine hp_bld (n := 700) (j := t8) (v := aTx S t8) hx hb hK hH 1 ((hset_ne _ _ _ hnt).trans hta : (hset h rd (.inr (1, [.ref ta, .int (nI (aSz S)), .int (nI t8), .int (nI t9), .ref lg, .ref lm, .ref lr])) 3) ta = some (.inl (K 1, 700, .inl tx), 2)) rfl (by first | omega | (refine Nat.lt_of_lt_of_le (Nat.mod_lt _ ?_) ?_ <;> omega)) (by first | omega | (refine Nat.lt_of_lt_of_le (Nat.mod_lt _ ?_) ?_ <;> omega)) (htx _ (by omega)) dX1_next_118 ?_
              refine hp_callS (As := [.int (aTx S t8)]) (rest := []) hx hb hml hown hts hPB hH hS (mc_isLetter hK0 (aTx S t8)) 1 (lw_S q288 q289 q103 q290) (by decide +kernel) ⟨rfl, rfl⟩ (by first | decide | omega | (simp only [rmk]; omega)) rfl hl.1 rfl (Nat.le_of_ble_eq_true rfl) (by first | decide | omega | (simp only [rmk]; omega)) dX1_next_119 (fun v30 h32 H locs hp31 _ hH hS => ?_)
              obtain ⟨rfl, hq⟩ := hp31
              rw [hq] at hH
              refine lv_top (y := zI (inR S t8 97 122)) (congrArg zI (let_in (show t8 < aSz S by omega) 97 122)) ?_
              refine lvB_eq (tgt := 195) hx hb dX1_next_122 (by decide) (fun cl2 => ?_) (fun cl2 => ?_)
              · refine w_mono mq_t ?_
                exact hp_vret hx hb hr hlocks hH hS (by first | decide | omega | (simp only [rmk]; omega)) (by first | decide | omega | (simp only [rmk]; omega)) dX1_next_195 ((by rw [nx_is (hq_t9.symm.trans (skp_f hsp)) ((nxT_let cl).trans (hq_t8.symm.trans (skp_f (cl2))))]; exact ⟨rfl, bad_f _ (Or.inr (Or.inl cl)), rfl⟩))
              · refine lv_aload_n hx hb dX1_next_125 rfl (lv_at hl 0 rfl) ?_
                refine lv_dup hx hb dX1_next_126 rfl ?_
                refine hp_get (C := RX1) (T := TX1) (N := 7) (v := .int (nI t8)) hx hb hts in_X1 hown hK hH (hset_self _ _ _ _ : (hset h rd (.inr (1, [.ref ta, .int (nI (aSz S)), .int (nI t8), .int (nI t9), .ref lg, .ref lm, .ref lr])) 3) rd = some (.inr (1, [.ref ta, .int (nI (aSz S)), .int (nI t8), .int (nI t9), .ref lg, .ref lm, .ref lr]), 3)) rfl 2 (by decide) (hts _ q187) (fun _ z => z) rfl dX1_next_127 ?_
                refine lv_iconst (v := nI 1) hx hb dX1_next_130 (by decide) ?_
                refine lv_iadd hx hb dX1_next_131 ?_
                refine lv_top (y := nI (t8 + 1)) (nI_add _ _) ?_
                refine hp_put (C := RX1) (T := TX1) (N := 7) (v := .int (nI (t8 + 1))) (ty := .int) hx hb hts in_X1 tyX1 tyX1_ok nmX1 hown hK hH hS (hset_self _ _ _ _ : (hset h rd (.inr (1, [.ref ta, .int (nI (aSz S)), .int (nI t8), .int (nI t9), .ref lg, .ref lm, .ref lr])) 3) rd = some (.inr (1, [.ref ta, .int (nI (aSz S)), .int (nI t8), .int (nI t9), .ref lg, .ref lm, .ref lr]), 3)) rfl 2 (by decide) (hts _ q187) (fun _ z => z) rfl (by decide +kernel) rfl rfl (Nat.le_of_ble_eq_true rfl) dX1_next_132 (fun H locs _ hH hS => ?_)
                have hH : HP D CL (zA s0) (hset h rd (.inr (1, [.ref ta, .int (nI (aSz S)), .int (nI (t8 + 1)), .int (nI t9), .ref lg, .ref lm, .ref lr])) 3) H := by have q := hH; rw [hset_hset] at q; exact q
                refine lv_goto (tgt := 99) hx hb dX1_next_135 (by decide) ?_
                exact ih99 (t8 + 1) (by omega) H locs ls ⟨by omega, (skp_t (f := fun k => inR S k 97 122) cl2 (by omega)).symm.trans hq_t8, hH, hS, lv_sub hl [0] rfl⟩
        · refine w_mono mq_t ?_
          exact hp_vret hx hb hr hlocks hH hS (by first | decide | omega | (simp only [rmk]; omega)) (by first | decide | omega | (simp only [rmk]; omega)) dX1_next_71 ((by rw [nx_is (hq_t9.symm.trans (skp_f hsp)) (nxT_over (by omega))]; exact ⟨rfl, bad_f _ (Or.inl (by show ¬ t9 < aSz S; omega)), rfl⟩))
      · refine lv_aload_n hx hb dX1_next_39 rfl (lv_at hl 0 rfl) ?_
        refine lv_dup hx hb dX1_next_40 rfl ?_
        refine hp_get (C := RX1) (T := TX1) (N := 7) (v := .int (nI t9)) hx hb hts in_X1 hown hK hH (hset_self _ _ _ _ : (hset h rd (.inr (1, [.ref ta, .int (nI (aSz S)), .int (nI t9), .int (nI b0), .ref lg, .ref lm, .ref lr])) 3) rd = some (.inr (1, [.ref ta, .int (nI (aSz S)), .int (nI t9), .int (nI b0), .ref lg, .ref lm, .ref lr]), 3)) rfl 2 (by decide) (hts _ q187) (fun _ z => z) rfl dX1_next_41 ?_
        refine lv_iconst (v := nI 1) hx hb dX1_next_44 (by decide) ?_
        refine lv_iadd hx hb dX1_next_45 ?_
        refine lv_top (y := nI (t9 + 1)) (nI_add _ _) ?_
        refine hp_put (C := RX1) (T := TX1) (N := 7) (v := .int (nI (t9 + 1))) (ty := .int) hx hb hts in_X1 tyX1 tyX1_ok nmX1 hown hK hH hS (hset_self _ _ _ _ : (hset h rd (.inr (1, [.ref ta, .int (nI (aSz S)), .int (nI t9), .int (nI b0), .ref lg, .ref lm, .ref lr])) 3) rd = some (.inr (1, [.ref ta, .int (nI (aSz S)), .int (nI t9), .int (nI b0), .ref lg, .ref lm, .ref lr]), 3)) rfl 2 (by decide) (hts _ q187) (fun _ z => z) rfl (by decide +kernel) rfl rfl (Nat.le_of_ble_eq_true rfl) dX1_next_46 (fun H locs _ hH hS => ?_)
        have hH : HP D CL (zA s0) (hset h rd (.inr (1, [.ref ta, .int (nI (aSz S)), .int (nI (t9 + 1)), .int (nI b0), .ref lg, .ref lm, .ref lr])) 3) H := by have q := hH; rw [hset_hset] at q; exact q
        refine lv_goto (tgt := 0) hx hb dX1_next_49 (by decide) ?_
        exact ih0 (t9 + 1) (by omega) H locs ls ⟨by omega, (skp_t (sp_t (by omega) (Or.inr c2)) (by omega)).symm.trans hq_t9, hH, hS, lv_sub hl [0] rfl⟩
end MODEL
