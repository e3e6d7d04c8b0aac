/-! by gen/mspec.py -/
set_option maxRecDepth 100000
section MODEL
variable {l : Launch} {s0 : State} {D : va_G} {K : Nat → ClassId} {wd : Nat → Nat} {o : Nat} {h : Hp} {I : Nat → Int32} {V : Nat → Nat → Int32} {J : Nat → Nat → Int64}
set_option maxHeartbeats 4000000 in
theorem mt_bitsOf (hK0 : va_K D CL (TYS K) s0) {S : Ab} (hO : SOK S) (hM : MOK S I V) {f : Nat → Nat} {s9 : Nat} (hs9 : s9 < 1024) (hgb : ∀ i, i < (rtP S f (aN S)).length → V 49 i = nI (gpB S f ((rtP S f (aN S)).getD i 0) (aN S))) : Met l yX2_bitsOf (ws_ yX2_bitsOf cX2_bitsOf 5 ((Option.some Jvm.ClassFile.FieldType.int))) (rmk 0 0 0) (va_Pc [.ref o, .int (nI s9), .int (nI ((rtP S f (aN S)).length))] (PB s0 D CL (mset h K wd o I V J))) (QR s0 D CL (fun v h1 => v = some (.int (nI (gmB S f s9))) ∧ h1 = mset h K wd o I V J)) 0 0 (zA s0) := by
  refine hp_met (by decide) (Nat.le_of_ble_eq_true rfl) hK0 ?_
  intro p e s m below meth cd ls hx hb hr hlocks hml hown hnm hts hK hPB hl hS hH hA
  have hl : lv_has ls 5 [(0, .ref o), (1, .int (nI s9)), (2, .int (nI ((rtP S f (aN S)).length)))] := hl
  have hown : s.vm.findClass RX2 = some m.cls := hown
  have hn := hO.n
  have hmk := hO.mk
  have hrl := hO.rl
  have hrm := hO.rm
  have hsz := hO.sz
  have hrl9 := rtP_len S f (aN S)
  refine lv_iconst (v := nI 0) hx hb dX2_bitsOf_0 (by decide) ?_
  refine lv_istore_n (lv' := [(3, .int (nI 0)), (0, .ref o), (1, .int (nI s9)), (2, .int (nI ((rtP S f (aN S)).length)))]) hx hb dX2_bitsOf_1 rfl hl (by decide) rfl (fun ls hl => ?_)
  refine lv_iconst (v := nI 0) hx hb dX2_bitsOf_2 (by decide) ?_
  refine lv_istore (lv' := [(4, .int (nI 0)), (3, .int (nI 0)), (0, .ref o), (1, .int (nI s9)), (2, .int (nI ((rtP S f (aN S)).length)))]) hx hb dX2_bitsOf_3 hl (by decide) rfl (fun ls hl => ?_)
  refine w_loop1 (fun (k : Nat) => (rtP S f (aN S)).length - k) (fun (k : Nat) H locs ls => (k ≤ (rtP S f (aN S)).length) ∧ HP D CL (zA s0) (mset h K wd o I V J) H ∧ va_S (zA s0) s.heap H locs ∧ lv_has ls 5 [(0, .ref o), (1, .int (nI s9)), (2, .int (nI ((rtP S f (aN S)).length))), (3, .int (nI (boB (fun i => gpB S f ((rtP S f (aN S)).getD i 0) (aN S)) s9 k))), (4, .int (nI k))]) ?_ 0 ⟨Nat.zero_le _, hH, hS, lv_sub hl [2, 3, 4, 1, 0] rfl⟩
  intro k ih5 H locs ls hP
  obtain ⟨hkk, hH, hS, hl⟩ := hP
  refine lv_iload hx hb dX2_bitsOf_5 (lv_at hl 4 rfl) ?_
  refine lv_iload_n hx hb dX2_bitsOf_7 rfl (lv_at hl 2 rfl) ?_
  refine lvN_ge (tgt := 41) hx hb (by first | omega | (refine Nat.lt_of_lt_of_le (Nat.mod_lt _ ?_) ?_ <;> omega)) (by first | omega | (refine Nat.lt_of_lt_of_le (Nat.mod_lt _ ?_) ?_ <;> omega)) dX2_bitsOf_8 (by decide) (fun c1 => ?_) (fun c1 => ?_)
  · refine lv_iload_n hx hb dX2_bitsOf_41 rfl (lv_at hl 3 rfl) ?_
    exact hp_iret hx hb hr hlocks hH hS (by decide) (by decide) dX2_bitsOf_42 (⟨congrArg some (congrArg Value.int (by rw [show k = (rtP S f (aN S)).length by omega]; rfl)), rfl⟩)
  · refine lv_iload_n hx hb dX2_bitsOf_11 rfl (lv_at hl 3 rfl) ?_
    refine lv_iload_n hx hb dX2_bitsOf_12 rfl (lv_at hl 1 rfl) ?_
    refine lv_iload hx hb dX2_bitsOf_13 (lv_at hl 4 rfl) ?_
    refine lv_ishr hx hb dX2_bitsOf_15 ?_
    refine lv_top (y := nI (s9 / 2 ^ k)) (bi_shr (by first | omega | (refine Nat.lt_of_lt_of_le (Nat.mod_lt _ ?_) ?_ <;> omega)) (by first | omega | (refine Nat.lt_of_lt_of_le (Nat.mod_lt _ ?_) ?_ <;> omega))) ?_
    refine lv_iconst (v := nI 1) hx hb dX2_bitsOf_16 (by decide) ?_
    refine lv_iand hx hb dX2_bitsOf_17 ?_
    refine lv_top (y := zI (Nat.testBit s9 k)) ((bi_and _ _).trans (bi_z _ _)) ?_
    refine lv_iconst (v := nI 1) hx hb dX2_bitsOf_18 (by decide) ?_
    refine lvB_ne1 (tgt := 32) hx hb dX2_bitsOf_19 (by decide) (fun cb => ?_) (fun cb => ?_)
    · refine lv_iconst (v := nI 0) hx hb dX2_bitsOf_32 (by decide) ?_
      refine lv_ior hx hb dX2_bitsOf_33 ?_
      refine lv_top (y := nI (boB (fun i => gpB S f ((rtP S f (aN S)).getD i 0) (aN S)) s9 (k + 1))) (by rw [bi_or]; exact congrArg nI (by simp [boB, cb])) ?_
      refine lv_istore_n (lv' := [(3, .int (nI (boB (fun i => gpB S f ((rtP S f (aN S)).getD i 0) (aN S)) s9 (k + 1)))), (0, .ref o), (1, .int (nI s9)), (2, .int (nI ((rtP S f (aN S)).length))), (4, .int (nI k))]) hx hb dX2_bitsOf_34 rfl hl (by decide) rfl (fun ls hl => ?_)
      refine lv_iinc (v := nI (k + 1)) (lv' := [(4, .int (nI (k + 1))), (3, .int (nI (boB (fun i => gpB S f ((rtP S f (aN S)).getD i 0) (aN S)) s9 (k + 1)))), (0, .ref o), (1, .int (nI s9)), (2, .int (nI ((rtP S f (aN S)).length)))]) hx hb dX2_bitsOf_35 hl (k := 4) rfl (nI_add k 1) (by decide) rfl (fun ls hl => ?_)
      refine lv_goto (tgt := 5) hx hb dX2_bitsOf_38 (by decide) ?_
      exact ih5 (k + 1) (by omega) H locs ls ⟨by omega, hH, hS, lv_sub hl [2, 3, 4, 1, 0] rfl⟩
    · refine lv_aload_n hx hb dX2_bitsOf_22 rfl (lv_at hl 0 rfl) ?_
      refine m_get hx hb hts hown hK hH 37 (by decide) q1489 rfl (v := .ref (o + 49)) rfl dX2_bitsOf_23 ?_
      refine lv_iload hx hb dX2_bitsOf_26 (lv_at hl 4 rfl) ?_
      refine m_iald (n := 10) (j := k) (v := nI (gpB S f ((rtP S f (aN S)).getD k 0) (aN S))) hx hb hK hH (by decide) rfl (by first | omega | (refine Nat.lt_of_lt_of_le (Nat.mod_lt _ ?_) ?_ <;> omega)) (by decide) (hgb k (by omega)) dX2_bitsOf_28 ?_
      refine lv_goto (tgt := 33) hx hb dX2_bitsOf_29 (by decide) ?_
      refine lv_ior hx hb dX2_bitsOf_33 ?_
      refine lv_top (y := nI (boB (fun i => gpB S f ((rtP S f (aN S)).getD i 0) (aN S)) s9 (k + 1))) (by rw [bi_or]; exact congrArg nI (by simp [boB, cb])) ?_
      refine lv_istore_n (lv' := [(3, .int (nI (boB (fun i => gpB S f ((rtP S f (aN S)).getD i 0) (aN S)) s9 (k + 1)))), (0, .ref o), (1, .int (nI s9)), (2, .int (nI ((rtP S f (aN S)).length))), (4, .int (nI k))]) hx hb dX2_bitsOf_34 rfl hl (by decide) rfl (fun ls hl => ?_)
      refine lv_iinc (v := nI (k + 1)) (lv' := [(4, .int (nI (k + 1))), (3, .int (nI (boB (fun i => gpB S f ((rtP S f (aN S)).getD i 0) (aN S)) s9 (k + 1)))), (0, .ref o), (1, .int (nI s9)), (2, .int (nI ((rtP S f (aN S)).length)))]) hx hb dX2_bitsOf_35 hl (k := 4) rfl (nI_add k 1) (by decide) rfl (fun ls hl => ?_)
      refine lv_goto (tgt := 5) hx hb dX2_bitsOf_38 (by decide) ?_
      exact ih5 (k + 1) (by omega) H locs ls ⟨by omega, hH, hS, lv_sub hl [2, 3, 4, 1, 0] rfl⟩
set_option maxHeartbeats 4000000 in
theorem mt_mayGo (hK0 : va_K D CL (TYS K) s0) {S : Ab} (hO : SOK S) (hM : MOK S I V) {w9 : Nat} {d : Nat} (hw9 : w9 < 1024) (hd0 : d < 1024) (A : Nat → Nat → Bool) (hab : ∀ x y, x < aN S → y < aN S → V 44 (10 * x + y) = zI (A x y)) : Met l yX2_mayGo (ws_ yX2_mayGo cX2_mayGo 4 ((Option.some Jvm.ClassFile.FieldType.boolean))) (rmk 1 0 0) (va_Pc [.ref o, .int (nI w9), .int (nI d)] (PB s0 D CL (mset h K wd o I V J))) (QR s0 D CL (fun v h1 => v = some (.int (zI (mgB A (aN S) w9 d))) ∧ h1 = mset h K wd o I V J)) 0 0 (zA s0) := by
  refine hp_met (by decide) (Nat.le_of_ble_eq_true rfl) hK0 ?_
  intro p e s m below meth cd ls hx hb hr hlocks hml hown hnm hts hK hPB hl hS hH hA
  have hl : lv_has ls 4 [(0, .ref o), (1, .int (nI w9)), (2, .int (nI d))] := hl
  have hown : s.vm.findClass RX2 = some m.cls := hown
  have hn := hO.n
  have hmk := hO.mk
  have hrl := hO.rl
  have hrm := hO.rm
  have hsz := hO.sz
  refine lv_iconst (v := nI 0) hx hb dX2_mayGo_0 (by decide) ?_
  refine lv_istore_n (lv' := [(3, .int (nI 0)), (0, .ref o), (1, .int (nI w9)), (2, .int (nI d))]) hx hb dX2_mayGo_1 rfl hl (by decide) rfl (fun ls hl => ?_)
  refine w_loop1 (fun (g : Nat) => aN S - g) (fun (g : Nat) H locs ls => (g ≤ aN S) ∧ (anyB (fun g => Nat.testBit w9 g && !(freeG A (aN S) g d)) g = false) ∧ HP D CL (zA s0) (mset h K wd o I V J) H ∧ va_S (zA s0) s.heap H locs ∧ lv_has ls 4 [(0, .ref o), (1, .int (nI w9)), (2, .int (nI d)), (3, .int (nI g))]) ?_ 0 ⟨Nat.zero_le _, rfl, hH, hS, lv_sub hl [1, 2, 3, 0] rfl⟩
  intro g ih2 H locs ls hP
  obtain ⟨hgg, hno, hH, hS, hl⟩ := hP
  refine lv_iload_n hx hb dX2_mayGo_2 rfl (lv_at hl 3 rfl) ?_
  refine lv_aload_n hx hb dX2_mayGo_3 rfl (lv_at hl 0 rfl) ?_
  refine m_get hx hb hts hown hK hH 15 (by decide) q1467 rfl (v := .ref (o + 29)) rfl dX2_mayGo_4 ?_
  refine lv_iconst (v := nI 0) hx hb dX2_mayGo_7 (by decide) ?_
  refine m_iald (n := 2) (j := 0) (v := nI (aN S)) hx hb hK hH (by decide) rfl (by first | omega | (refine Nat.lt_of_lt_of_le (Nat.mod_lt _ ?_) ?_ <;> omega)) (by decide) (hM.n) dX2_mayGo_8 ?_
  refine lvN_ge (tgt := 38) hx hb (by first | omega | (refine Nat.lt_of_lt_of_le (Nat.mod_lt _ ?_) ?_ <;> omega)) (by first | omega | (refine Nat.lt_of_lt_of_le (Nat.mod_lt _ ?_) ?_ <;> omega)) dX2_mayGo_9 (by decide) (fun c1 => ?_) (fun c1 => ?_)
  · refine lv_iconst (v := nI 1) hx hb dX2_mayGo_38 (by decide) ?_
    exact hp_zret hx hb hr rfl hlocks hH hS (by decide) (by decide) dX2_mayGo_39 (⟨congrArg some (congrArg Value.int (zI_1 (by unfold mgB; rw [show anyB (fun g => Nat.testBit w9 g && !(freeG A (aN S) g d)) (aN S) = false by rw [show aN S = g by omega] at hno ⊢; exact hno]; rfl))), rfl⟩)
  · refine lv_iload_n hx hb dX2_mayGo_12 rfl (lv_at hl 1 rfl) ?_
    refine lv_iload_n hx hb dX2_mayGo_13 rfl (lv_at hl 3 rfl) ?_
    refine lv_ishr hx hb dX2_mayGo_14 ?_
    refine lv_top (y := nI (w9 / 2 ^ g)) (bi_shr (by first | omega | (refine Nat.lt_of_lt_of_le (Nat.mod_lt _ ?_) ?_ <;> omega)) (by first | omega | (refine Nat.lt_of_lt_of_le (Nat.mod_lt _ ?_) ?_ <;> omega))) ?_
    refine lv_iconst (v := nI 1) hx hb dX2_mayGo_15 (by decide) ?_
    refine lv_iand hx hb dX2_mayGo_16 ?_
    refine lv_top (y := zI (Nat.testBit w9 g)) ((bi_and _ _).trans (bi_z _ _)) ?_
    refine lv_iconst (v := nI 1) hx hb dX2_mayGo_17 (by decide) ?_
    refine lvB_ne1 (tgt := 32) hx hb dX2_mayGo_18 (by decide) (fun cb => ?_) (fun cb => ?_)
    · refine lv_iinc (v := nI (g + 1)) (lv' := [(3, .int (nI (g + 1))), (0, .ref o), (1, .int (nI w9)), (2, .int (nI d))]) hx hb dX2_mayGo_32 hl (k := 3) rfl (nI_add g 1) (by decide) rfl (fun ls hl => ?_)
      refine lv_goto (tgt := 2) hx hb dX2_mayGo_35 (by decide) ?_
      exact ih2 (g + 1) (by omega) H locs ls ⟨by omega, by rw [anyB_f (by simp [cb])]; exact hno, hH, hS, lv_sub hl [1, 2, 3, 0] rfl⟩
    · refine lv_aload_n hx hb dX2_mayGo_21 rfl (lv_at hl 0 rfl) ?_
      refine lv_iload_n hx hb dX2_mayGo_22 rfl (lv_at hl 3 rfl) ?_
      refine lv_iload_n hx hb dX2_mayGo_23 rfl (lv_at hl 2 rfl) ?_
      refine hp_callV (As := [.int (nI g), .int (nI d)]) (rest := []) hx hb hml hown hts hPB hK hH hS (mt_isFree hK0 hO hM (g := g) (d := d) (by omega) (by omega) A hab) mset_o rfl rfl 2 (lw_V q1898 q1900 qs87 q107 q1901) (by decide +kernel) ⟨rfl, rfl⟩ (by decide) rfl hl.1 rfl (Nat.le_of_ble_eq_true rfl) (by decide) dX2_mayGo_24 (fun v2 h4 H locs hp3 _ hH hS => ?_)
      obtain ⟨rfl, rfl⟩ := hp3
      refine lvB_ne (tgt := 32) hx hb dX2_mayGo_27 (by decide) (fun cf => ?_) (fun cf => ?_)
      · refine lv_iinc (v := nI (g + 1)) (lv' := [(3, .int (nI (g + 1))), (0, .ref o), (1, .int (nI w9)), (2, .int (nI d))]) hx hb dX2_mayGo_32 hl (k := 3) rfl (nI_add g 1) (by decide) rfl (fun ls hl => ?_)
        refine lv_goto (tgt := 2) hx hb dX2_mayGo_35 (by decide) ?_
        exact ih2 (g + 1) (by omega) H locs ls ⟨by omega, by rw [anyB_f (by simp [cf])]; exact hno, hH, hS, lv_sub hl [1, 2, 3, 0] rfl⟩
      · refine lv_iconst (v := nI 0) hx hb dX2_mayGo_30 (by decide) ?_
        exact hp_zret hx hb hr rfl hlocks hH hS (by decide) (by decide) dX2_mayGo_31 (⟨congrArg some (congrArg Value.int (zI_0 (by unfold mgB; rw [(anyB_iff _ _).mpr ⟨g, by omega, by simp [cb, cf]⟩]; rfl))), rfl⟩)
set_option maxHeartbeats 4000000 in
theorem mt_rounds (hK0 : va_K D CL (TYS K) s0) {S : Ab} (hO : SOK S) (hM : MOK S I V) (room doors : Int32) : Met l yX2_rounds (ws_ yX2_rounds cX2_rounds 8 ((Option.some Jvm.ClassFile.FieldType.int))) (rmk 6 0 0) (va_Pc [.ref o, .int room, .int doors] (PB s0 D CL (mset h K wd o I V J))) (QR s0 D CL (fun v h1 => v = some (.int (spRounds S room doors)) ∧ ∃ P U, h1 = mset h K wd o P U J ∧ MOK S P U)) 0 0 (zA s0) := by
  refine hp_met (by decide) (Nat.le_of_ble_eq_true rfl) hK0 ?_
  intro p e s m below meth cd ls hx hb hr hlocks hml hown hnm hts hK hPB hl hS hH hA
  have hl : lv_has ls 8 [(0, .ref o), (1, .int room), (2, .int doors)] := hl
  have hown : s.vm.findClass RX2 = some m.cls := hown
  have hn := hO.n
  have hmk := hO.mk
  have hrl := hO.rl
  have hrm := hO.rm
  have hsz := hO.sz
  refine lv_aload_n hx hb dX2_rounds_0 rfl (lv_at hl 0 rfl) ?_
  refine lv_iload_n hx hb dX2_rounds_1 rfl (lv_at hl 1 rfl) ?_
  refine hp_callV (As := [.int room]) (rest := []) hx hb hml hown hts hPB hK hH hS (mt_isRoom hK0 hO hM room) mset_o rfl rfl 1 (lw_V q1788 q1790 qs72 q107 q1791) (by decide +kernel) ⟨rfl, rfl⟩ (by decide) rfl hl.1 rfl (Nat.le_of_ble_eq_true rfl) (by decide) dX2_rounds_2 (fun v1 h3 H locs hp2 _ hH hS => ?_)
  obtain ⟨rfl, rfl⟩ := hp2
  refine lvB_eq (tgt := 20) hx hb dX2_rounds_5 (by decide) (fun cr0 => ?_) (fun cr0 => ?_)
  · refine lv_iconst (v := (-1)) hx hb dX2_rounds_20 (by decide) ?_
    exact hp_iret hx hb hr hlocks hH hS (by decide) (by decide) dX2_rounds_21 (⟨congrArg some (congrArg Value.int (by simp [spRounds, cr0])), _, _, rfl, hM⟩)
  · obtain ⟨q, hq, rfl⟩ := inN_t cr0
    have eq := nI_clamp (show q < 2 ^ 31 by omega)
    refine lv_iload_n hx hb dX2_rounds_8 rfl (lv_at hl 2 rfl) ?_
    refine lv_i2l hx hb dX2_rounds_9 rfl ?_
    refine lv_lconst (v := 1) hx hb dX2_rounds_10 rfl ?_
    refine lv_ldc2 (v := 4) hx hb hown (hts _ q1742) dX2_rounds_11 ?_
    refine hp_callS (As := [.long (Int32.toInt64 doors), .long 1, .long 4]) (rest := []) hx hb hml hown hts hPB hH hS (mt_in hK0 (Int32.toInt64 doors) 1 4) 3 (lw_S q1658 q1659 q107 q1660) (by decide +kernel) ⟨rfl, rfl⟩ (by decide) rfl hl.1 rfl (Nat.le_of_ble_eq_true rfl) (by decide) dX2_rounds_14 (fun v4 h6 H locs hp5 _ hH hS => ?_)
    obtain ⟨rfl, rfl⟩ := hp5
    refine lvB_ne (tgt := 22) hx hb dX2_rounds_17 (by decide) (fun cd1 => ?_) (fun cd1 => ?_)
    · rw [in_1d] at cd1
      obtain ⟨ds, hds, rfl⟩ := in1d_t cd1
      have eds := nI_clamp (show ds < 2 ^ 31 by omega)
      refine lv_aload_n hx hb dX2_rounds_22 rfl (lv_at hl 0 rfl) ?_
      refine lv_iload_n hx hb dX2_rounds_23 rfl (lv_at hl 1 rfl) ?_
      refine lv_iconst (v := nI 0) hx hb dX2_rounds_24 (by decide) ?_
      refine hp_callV (As := [.int (nI q), .int (nI 0)]) (rest := []) hx hb hml hown hts hPB hK hH hS (mt_ranks hK0 hO hM (wo := 0) (by omega) (nI q)) mset_o rfl rfl 2 (lw_V q1861 q1863 qs81 q107 q1864) (by decide +kernel) ⟨rfl, rfl⟩ (by decide) rfl hl.1 rfl (Nat.le_of_ble_eq_true rfl) (by decide) dX2_rounds_25 (fun v7 h9 H locs hp8 _ hH hS => ?_)
      obtain ⟨rfl, U, rfl, hM, hrk, hkR⟩ := hp8
      obtain ⟨A, hAe⟩ : ∃ A, A = abv S (nI q) 0 := ⟨_, rfl⟩
      have hab : ∀ x y, x < aN S → y < aN S → U 44 (10 * x + y) = zI (A x y) := fun x y h1 h2 => by rw [hAe]; exact hrk.1 x y h1 h2
      have hpw := pow2_le hn
      obtain ⟨E, hEe⟩ : ∃ E, E = evn S (nI q) := ⟨_, rfl⟩
      have hev : ∀ x y, x < aN S → y < aN S → U 45 (10 * x + y) = zI (E x y) := fun x y h1 h2 => by rw [hEe]; exact hrk.2 x y h1 h2
      have hsy : ∀ x y, E x y = true → E y x = true := fun x y hxy => by rw [hEe] at hxy ⊢; exact evn_sym hxy
      have hec : ∀ x y, E x y = true → aCm S x = true ∧ aCm S y = true := fun x y hxy => by rw [hEe] at hxy; exact evn_com hxy
      refine lv_aload_n hx hb dX2_rounds_28 rfl (lv_at hl 0 rfl) ?_
      refine hp_callV (As := []) (rest := []) hx hb hml hown hts hPB hK hH hS (mt_groups hK0 hO hM E hev hsy) mset_o rfl rfl 0 (lw_V q1906 q1908 qs88 q107 q1909) (by decide +kernel) ⟨rfl, rfl⟩ (by decide) rfl hl.1 rfl (Nat.le_of_ble_eq_true rfl) (by decide) dX2_rounds_29 (fun v10 h12 H locs hp11 _ hH hS => ?_)
      obtain ⟨f, U6, rfl, rfl, hM, htg, hgb, hkg⟩ := hp11
      have hab : ∀ x y, x < aN S → y < aN S → U6 44 (10 * x + y) = zI (A x y) := fun x y h1 h2 => (congrFun (hkg 44 (by decide)) _).trans (hab x y h1 h2)
      have hrl9 := rtP_len S f (aN S)
      have hpm := pow2_le (n := (rtP S f (aN S)).length) (by omega)
      have hp1 := Nat.two_pow_pos (rtP S f (aN S)).length
      refine lv_istore_n (lv' := [(3, .int (nI ((rtP S f (aN S)).length))), (0, .ref o), (1, .int (nI q)), (2, .int (nI ds))]) hx hb dX2_rounds_32 rfl hl (by decide) rfl (fun ls hl => ?_)
      refine lv_iconst (v := nI 0) hx hb dX2_rounds_33 (by decide) ?_
      refine lv_istore (lv' := [(4, .int (nI 0)), (3, .int (nI ((rtP S f (aN S)).length))), (0, .ref o), (1, .int (nI q)), (2, .int (nI ds))]) hx hb dX2_rounds_34 hl (by decide) rfl (fun ls hl => ?_)
      refine w_loop2 (fun (h9 : Nat) (U : Nat → Nat → Int32) => 2 ^ (rtP S f (aN S)).length - h9) (fun (h9 : Nat) (U : Nat → Nat → Int32) H locs ls => (h9 ≤ 2 ^ (rtP S f (aN S)).length) ∧ (∀ z, z < h9 → U 50 z = oI (if z = 0 then some 0 else none)) ∧ (∀ i, i < (rtP S f (aN S)).length → U 49 i = nI (gpB S f ((rtP S f (aN S)).getD i 0) (aN S))) ∧ (∀ x y, x < aN S → y < aN S → U 44 (10 * x + y) = zI (A x y)) ∧ (MOK S I U) ∧ HP D CL (zA s0) (mset h K wd o I U J) H ∧ va_S (zA s0) s.heap H locs ∧ lv_has ls 8 [(0, .ref o), (2, .int (nI ds)), (3, .int (nI ((rtP S f (aN S)).length))), (4, .int (nI h9))]) ?_ 0 U6 ⟨Nat.zero_le _, fun z hz => absurd hz (Nat.not_lt_zero _), hgb, hab, hM, hH, hS, lv_sub hl [2, 4, 1, 0] rfl⟩
      intro h9 U ih36 H locs ls hP
      obtain ⟨hhh, h50, hgb, hab, hM, hH, hS, hl⟩ := hP
      refine lv_iload hx hb dX2_rounds_36 (lv_at hl 3 rfl) ?_
      refine lv_iconst (v := nI 1) hx hb dX2_rounds_38 (by decide) ?_
      refine lv_iload_n hx hb dX2_rounds_39 rfl (lv_at hl 2 rfl) ?_
      refine lv_ishl hx hb dX2_rounds_40 ?_
      refine lv_top (y := nI (2 ^ ((rtP S f (aN S)).length))) (bi_shl1 (by first | omega | (refine Nat.lt_of_lt_of_le (Nat.mod_lt _ ?_) ?_ <;> omega))) ?_
      refine lvN_ge (tgt := 67) hx hb (by first | omega | (refine Nat.lt_of_lt_of_le (Nat.mod_lt _ ?_) ?_ <;> omega)) (by first | omega | (refine Nat.lt_of_lt_of_le (Nat.mod_lt _ ?_) ?_ <;> omega)) dX2_rounds_41 (by decide) (fun c13 => ?_) (fun c13 => ?_)
      · have eh9 : h9 = 2 ^ (rtP S f (aN S)).length := by omega
        rw [eh9] at h50
        refine lv_iconst (v := nI 0) hx hb dX2_rounds_67 (by decide) ?_
        refine lv_istore (lv' := [(4, .int (nI 0)), (0, .ref o), (2, .int (nI ds)), (3, .int (nI ((rtP S f (aN S)).length)))]) hx hb dX2_rounds_68 hl (by decide) rfl (fun ls hl => ?_)
        refine w_loop3 (fun (h9 : Nat) (T : Nat → Option Nat) (U : Nat → Nat → Int32) => 2 ^ (rtP S f (aN S)).length - h9) (fun (h9 : Nat) (T : Nat → Option Nat) (U : Nat → Nat → Int32) H locs ls => (h9 ≤ 2 ^ (rtP S f (aN S)).length) ∧ (tbI (stG S A f (rtP S f (aN S)).length ds) T h9 (fun _ => False)) ∧ (∀ z, z < 2 ^ (rtP S f (aN S)).length → U 50 z = oI (T z)) ∧ (∀ i, i < (rtP S f (aN S)).length → U 49 i = nI (gpB S f ((rtP S f (aN S)).getD i 0) (aN S))) ∧ (∀ x y, x < aN S → y < aN S → U 44 (10 * x + y) = zI (A x y)) ∧ (MOK S I U) ∧ HP D CL (zA s0) (mset h K wd o I U J) H ∧ va_S (zA s0) s.heap H locs ∧ lv_has ls 8 [(0, .ref o), (2, .int (nI ds)), (3, .int (nI ((rtP S f (aN S)).length))), (4, .int (nI h9))]) ?_ 0 (fun z => if z = 0 then some 0 else none) U ⟨Nat.zero_le _, tb_0 rfl (fun d hd => if_neg hd), h50, hgb, hab, hM, hH, hS, lv_sub hl [1, 2, 3, 0] rfl⟩
        intro h9 T U ih70 H locs ls hP
        obtain ⟨hhh, htb, h50, hgb, hab, hM, hH, hS, hl⟩ := hP
        refine lv_iload hx hb dX2_rounds_70 (lv_at hl 3 rfl) ?_
        refine lv_iconst (v := nI 1) hx hb dX2_rounds_72 (by decide) ?_
        refine lv_iload_n hx hb dX2_rounds_73 rfl (lv_at hl 2 rfl) ?_
        refine lv_ishl hx hb dX2_rounds_74 ?_
        refine lv_top (y := nI (2 ^ ((rtP S f (aN S)).length))) (bi_shl1 (by first | omega | (refine Nat.lt_of_lt_of_le (Nat.mod_lt _ ?_) ?_ <;> omega))) ?_
        refine lvN_ge (tgt := 223) hx hb (by first | omega | (refine Nat.lt_of_lt_of_le (Nat.mod_lt _ ?_) ?_ <;> omega)) (by first | omega | (refine Nat.lt_of_lt_of_le (Nat.mod_lt _ ?_) ?_ <;> omega)) dX2_rounds_75 (by decide) (fun c14 => ?_) (fun c14 => ?_)
        · have eh9 : h9 = 2 ^ (rtP S f (aN S)).length := by omega
          rw [eh9] at htb
          refine lv_aload_n hx hb dX2_rounds_223 rfl (lv_at hl 0 rfl) ?_
          refine m_get hx hb hts hown hK hH 38 (by decide) q1490 rfl (v := .ref (o + 50)) rfl dX2_rounds_224 ?_
          refine lv_iconst (v := nI 1) hx hb dX2_rounds_227 (by decide) ?_
          refine lv_iload_n hx hb dX2_rounds_228 rfl (lv_at hl 2 rfl) ?_
          refine lv_ishl hx hb dX2_rounds_229 ?_
          refine lv_top (y := nI (2 ^ ((rtP S f (aN S)).length))) (bi_shl1 (by first | omega | (refine Nat.lt_of_lt_of_le (Nat.mod_lt _ ?_) ?_ <;> omega))) ?_
          refine lv_iconst (v := nI 1) hx hb dX2_rounds_230 (by decide) ?_
          refine lv_isub hx hb dX2_rounds_231 ?_
          refine lv_top (y := nI ((2 ^ ((rtP S f (aN S)).length)) - 1)) (pk_sub (by first | omega | (refine Nat.lt_of_lt_of_le (Nat.mod_lt _ ?_) ?_ <;> omega))) ?_
          refine m_iald (n := 1024) (j := (2 ^ ((rtP S f (aN S)).length)) - 1) (v := oI (T (2 ^ (rtP S f (aN S)).length - 1))) hx hb hK hH (by decide) rfl (by first | omega | (refine Nat.lt_of_lt_of_le (Nat.mod_lt _ ?_) ?_ <;> omega)) (by decide) (h50 _ (by omega)) dX2_rounds_232 ?_
          exact hp_iret hx hb hr hlocks hH hS (by decide) (by decide) dX2_rounds_233 (⟨congrArg some (congrArg Value.int (by rw [spRounds, if_pos (by simp [cr0, cd1]), eds, ← hAe, ← hEe, dst_eq htg hec hsy, tb_end htb (fun a d q => q.1)])), _, _, rfl, hM⟩)
        · refine lv_aload_n hx hb dX2_rounds_78 rfl (lv_at hl 0 rfl) ?_
          refine m_get hx hb hts hown hK hH 38 (by decide) q1490 rfl (v := .ref (o + 50)) rfl dX2_rounds_79 ?_
          refine lv_iload hx hb dX2_rounds_82 (lv_at hl 3 rfl) ?_
          refine m_iald (n := 1024) (j := h9) (v := oI (T h9)) hx hb hK hH (by decide) rfl (by first | omega | (refine Nat.lt_of_lt_of_le (Nat.mod_lt _ ?_) ?_ <;> omega)) (by decide) (h50 h9 (by omega)) dX2_rounds_84 ?_
          refine lv_iconst (v := (-1)) hx hb dX2_rounds_85 (by decide) ?_
          refine lv_icmp_ne (tgt := 92) hx hb dX2_rounds_86 (by decide) (fun cT => ?_) (fun cT => ?_)
          · obtain ⟨k0, hT0⟩ := far_is cT
            have hk0 := tb_le htb hT0
            refine lv_iconst (v := nI 1) hx hb dX2_rounds_92 (by decide) ?_
            refine lv_iload_n hx hb dX2_rounds_93 rfl (lv_at hl 2 rfl) ?_
            refine lv_ishl hx hb dX2_rounds_94 ?_
            refine lv_top (y := nI (2 ^ ((rtP S f (aN S)).length))) (bi_shl1 (by first | omega | (refine Nat.lt_of_lt_of_le (Nat.mod_lt _ ?_) ?_ <;> omega))) ?_
            refine lv_iconst (v := nI 1) hx hb dX2_rounds_95 (by decide) ?_
            refine lv_isub hx hb dX2_rounds_96 ?_
            refine lv_top (y := nI ((2 ^ ((rtP S f (aN S)).length)) - 1)) (pk_sub (by first | omega | (refine Nat.lt_of_lt_of_le (Nat.mod_lt _ ?_) ?_ <;> omega))) ?_
            refine lv_iload hx hb dX2_rounds_97 (lv_at hl 3 rfl) ?_
            refine lv_iconst (v := (-1)) hx hb dX2_rounds_99 (by decide) ?_
            refine lv_ixor hx hb dX2_rounds_100 ?_
            refine lv_iand hx hb dX2_rounds_101 ?_
            refine lv_top (y := nI (rsB (rtP S f (aN S)).length h9)) (bi_andn _ _) ?_
            have hrs := rs_lt (rtP S f (aN S)).length h9
            refine lv_istore (lv' := [(5, .int (nI (rsB (rtP S f (aN S)).length h9))), (0, .ref o), (2, .int (nI ds)), (3, .int (nI ((rtP S f (aN S)).length))), (4, .int (nI h9))]) hx hb dX2_rounds_102 hl (by decide) rfl (fun ls hl => ?_)
            refine lv_iload hx hb dX2_rounds_104 (lv_at hl 0 rfl) ?_
            refine lv_istore (lv' := [(6, .int (nI (rsB (rtP S f (aN S)).length h9))), (5, .int (nI (rsB (rtP S f (aN S)).length h9))), (0, .ref o), (2, .int (nI ds)), (3, .int (nI ((rtP S f (aN S)).length))), (4, .int (nI h9))]) hx hb dX2_rounds_106 hl (by decide) rfl (fun ls hl => ?_)
            refine w_loop3 (fun (s1 : Nat) (T : Nat → Option Nat) (U : Nat → Nat → Int32) => s1) (fun (s1 : Nat) (T : Nat → Option Nat) (U : Nat → Nat → Int32) H locs ls => (s1 &&& rsB (rtP S f (aN S)).length h9 = s1) ∧ (T h9 = some k0) ∧ (tbI (stG S A f (rtP S f (aN S)).length ds) T h9 (ppD (rtP S f (aN S)).length h9 s1)) ∧ (∀ z, z < 2 ^ (rtP S f (aN S)).length → U 50 z = oI (T z)) ∧ (∀ i, i < (rtP S f (aN S)).length → U 49 i = nI (gpB S f ((rtP S f (aN S)).getD i 0) (aN S))) ∧ (∀ x y, x < aN S → y < aN S → U 44 (10 * x + y) = zI (A x y)) ∧ (MOK S I U) ∧ HP D CL (zA s0) (mset h K wd o I U J) H ∧ va_S (zA s0) s.heap H locs ∧ lv_has ls 8 [(0, .ref o), (2, .int (nI ds)), (3, .int (nI ((rtP S f (aN S)).length))), (4, .int (nI h9)), (5, .int (nI (rsB (rtP S f (aN S)).length h9))), (6, .int (nI s1))]) ?_ (rsB (rtP S f (aN S)).length h9) T U ⟨Nat.and_self _, hT0, pp_0 htb, h50, hgb, hab, hM, hH, hS, lv_sub hl [2, 3, 4, 5, 1, 0] rfl⟩
            intro s1 T U ih108 H locs ls hP
            obtain ⟨hss, hT0, htb, h50, hgb, hab, hM, hH, hS, hl⟩ := hP
            have hsle := sub_le hss
            refine lv_iload hx hb dX2_rounds_108 (lv_at hl 5 rfl) ?_
            refine lvZ_le (tgt := 217) hx hb (by first | omega | (refine Nat.lt_of_lt_of_le (Nat.mod_lt _ ?_) ?_ <;> omega)) dX2_rounds_110 (by decide) (fun cs => ?_) (fun cs => ?_)
            · refine lv_iinc (v := nI (h9 + 1)) (lv' := [(4, .int (nI (h9 + 1))), (0, .ref o), (2, .int (nI ds)), (3, .int (nI ((rtP S f (aN S)).length))), (5, .int (nI (rsB (rtP S f (aN S)).length h9))), (6, .int (nI s1))]) hx hb dX2_rounds_217 hl (k := 3) rfl (nI_add h9 1) (by decide) rfl (fun ls hl => ?_)
              refine lv_goto (tgt := 70) hx hb dX2_rounds_220 (by decide) ?_
              exact ih70 (h9 + 1) T U (by omega) H locs ls ⟨by omega, pp_end (by omega) htb, h50, hgb, hab, hM, hH, hS, lv_sub hl [1, 2, 3, 0] rfl⟩
            · refine lv_aload_n hx hb dX2_rounds_113 rfl (lv_at hl 0 rfl) ?_
              refine lv_iload hx hb dX2_rounds_114 (lv_at hl 5 rfl) ?_
              refine lv_iload_n hx hb dX2_rounds_116 rfl (lv_at hl 2 rfl) ?_
              refine hp_callV (As := [.int (nI s1), .int (nI ((rtP S f (aN S)).length))]) (rest := []) hx hb hml hown hts hPB hK hH hS (mt_bitsOf hK0 hO hM (f := f) (s9 := s1) (by omega) hgb) mset_o rfl rfl 2 (lw_V q1911 q1913 qs89 q107 q1914) (by decide +kernel) ⟨rfl, rfl⟩ (by decide) rfl hl.1 rfl (Nat.le_of_ble_eq_true rfl) (by decide) dX2_rounds_117 (fun v15 h17 H locs hp16 _ hH hS => ?_)
              obtain ⟨rfl, rfl⟩ := hp16
              have hgl117 := gm_lt S f s1
              refine lv_istore (lv' := [(7, .int (nI (gmB S f s1))), (0, .ref o), (2, .int (nI ds)), (3, .int (nI ((rtP S f (aN S)).length))), (4, .int (nI h9)), (5, .int (nI (rsB (rtP S f (aN S)).length h9))), (6, .int (nI s1))]) hx hb dX2_rounds_120 hl (by decide) rfl (fun ls hl => ?_)
              refine lv_iload hx hb dX2_rounds_122 (lv_at hl 0 rfl) ?_
              refine hp_callS (As := [.int (nI (gmB S f s1))]) (rest := []) hx hb hml hown hts hPB hH hS (mt_bitCount hK0 (x := gmB S f s1) (by omega)) 1 (lw_S q1885 q1128 q138 q1129) (by decide +kernel) ⟨rfl, rfl⟩ (by decide) rfl hl.1 rfl (Nat.le_of_ble_eq_true rfl) (by decide) dX2_rounds_124 (fun v18 h20 H locs hp19 _ hH hS => ?_)
              obtain ⟨rfl, rfl⟩ := hp19
              refine lv_iload_n hx hb dX2_rounds_127 rfl (lv_at hl 2 rfl) ?_
              have hpp := popN_le (gmB S f s1)
              refine lvN_gt (tgt := 205) hx hb (by first | omega | (refine Nat.lt_of_lt_of_le (Nat.mod_lt _ ?_) ?_ <;> omega)) (by first | omega | (refine Nat.lt_of_lt_of_le (Nat.mod_lt _ ?_) ?_ <;> omega)) dX2_rounds_128 (by decide) (fun cp => ?_) (fun cp => ?_)
              · refine lv_iload hx hb dX2_rounds_205 (lv_at hl 6 rfl) ?_
                refine lv_iconst (v := nI 1) hx hb dX2_rounds_207 (by decide) ?_
                refine lv_isub hx hb dX2_rounds_208 ?_
                refine lv_top (y := nI (s1 - 1)) (pk_sub (by first | omega | (refine Nat.lt_of_lt_of_le (Nat.mod_lt _ ?_) ?_ <;> omega))) ?_
                refine lv_iload hx hb dX2_rounds_209 (lv_at hl 5 rfl) ?_
                refine lv_iand hx hb dX2_rounds_211 ?_
                refine lv_top (y := nI ((s1 - 1) &&& (rsB (rtP S f (aN S)).length h9))) (bi_and _ _) ?_
                refine lv_istore (lv' := [(6, .int (nI ((s1 - 1) &&& (rsB (rtP S f (aN S)).length h9)))), (7, .int (nI (gmB S f s1))), (0, .ref o), (2, .int (nI ds)), (3, .int (nI ((rtP S f (aN S)).length))), (4, .int (nI h9)), (5, .int (nI (rsB (rtP S f (aN S)).length h9)))]) hx hb dX2_rounds_212 hl (by decide) rfl (fun ls hl => ?_)
                refine lv_goto (tgt := 108) hx hb dX2_rounds_214 (by decide) ?_
                exact ih108 ((s1 - 1) &&& rsB (rtP S f (aN S)).length h9) T U (by have := Nat.and_le_left (n := s1 - 1) (m := rsB (rtP S f (aN S)).length h9); omega) H locs ls ⟨Nat.and_assoc _ _ _ ▸ by rw [Nat.and_self], hT0, pp_no hss (fun q => by have := q.1; omega) htb, h50, hgb, hab, hM, hH, hS, lv_sub hl [2, 3, 4, 5, 6, 0] rfl⟩
              · refine lv_aload_n hx hb dX2_rounds_131 rfl (lv_at hl 1 rfl) ?_
                refine lv_iload hx hb dX2_rounds_132 (lv_at hl 0 rfl) ?_
                refine lv_aload_n hx hb dX2_rounds_134 rfl (lv_at hl 1 rfl) ?_
                refine lv_iload hx hb dX2_rounds_135 (lv_at hl 4 rfl) ?_
                refine lv_iload_n hx hb dX2_rounds_137 rfl (lv_at hl 3 rfl) ?_
                refine hp_callV (As := [.int (nI h9), .int (nI ((rtP S f (aN S)).length))]) (rest := [.int (nI (gmB S f s1)), .ref o]) hx hb hml hown hts hPB hK hH hS (mt_bitsOf hK0 hO hM (f := f) (s9 := h9) (by omega) hgb) mset_o rfl rfl 2 (lw_V q1911 q1913 qs89 q107 q1914) (by decide +kernel) ⟨rfl, rfl⟩ (by decide) rfl hl.1 rfl (Nat.le_of_ble_eq_true rfl) (by decide) dX2_rounds_138 (fun v21 h23 H locs hp22 _ hH hS => ?_)
                obtain ⟨rfl, rfl⟩ := hp22
                have hgl138 := gm_lt S f h9
                refine hp_callV (As := [.int (nI (gmB S f s1)), .int (nI (gmB S f h9))]) (rest := []) hx hb hml hown hts hPB hK hH hS (mt_mayGo hK0 hO hM (w9 := gmB S f s1) (d := gmB S f h9) (by omega) (by omega) A hab) mset_o rfl rfl 2 (lw_V q1915 q1917 qs90 q107 q1918) (by decide +kernel) ⟨rfl, rfl⟩ (by decide) rfl hl.1 rfl (Nat.le_of_ble_eq_true rfl) (by decide) dX2_rounds_141 (fun v24 h26 H locs hp25 _ hH hS => ?_)
                obtain ⟨rfl, rfl⟩ := hp25
                refine lvB_ne (tgt := 150) hx hb dX2_rounds_144 (by decide) (fun cg => ?_) (fun cg => ?_)
                · have hst : stG S A f (rtP S f (aN S)).length ds h9 (h9 ||| s1) := ⟨by omega, s1, by omega, hss, by omega, cg, rfl⟩
                  have hor1 := (stG_lt hst).1
                  have hor2 := (stG_lt hst).2
                  refine lv_aload_n hx hb dX2_rounds_150 rfl (lv_at hl 1 rfl) ?_
                  refine m_get hx hb hts hown hK hH 38 (by decide) q1490 rfl (v := .ref (o + 50)) rfl dX2_rounds_151 ?_
                  refine lv_iload hx hb dX2_rounds_154 (lv_at hl 4 rfl) ?_
                  refine lv_iload hx hb dX2_rounds_156 (lv_at hl 6 rfl) ?_
                  refine lv_ior hx hb dX2_rounds_158 ?_
                  refine lv_top (y := nI (h9 ||| s1)) (bi_or _ _) ?_
                  refine m_iald (n := 1024) (j := h9 ||| s1) (v := oI (T (h9 ||| s1))) hx hb hK hH (by decide) rfl (by first | omega | (refine Nat.lt_of_lt_of_le (Nat.mod_lt _ ?_) ?_ <;> omega)) (by decide) (h50 _ hor2) dX2_rounds_159 ?_
                  refine lv_iconst (v := (-1)) hx hb dX2_rounds_160 (by decide) ?_
                  refine lv_icmp_eq (tgt := 186) hx hb dX2_rounds_161 (by decide) (fun ct => ?_) (fun ct => ?_)
                  · have hTn := (oI_none (tb_oI htb (by omega))).mp ct
                    refine lv_aload_n hx hb dX2_rounds_186 rfl (lv_at hl 1 rfl) ?_
                    refine m_get hx hb hts hown hK hH 38 (by decide) q1490 rfl (v := .ref (o + 50)) rfl dX2_rounds_187 ?_
                    refine lv_iload hx hb dX2_rounds_190 (lv_at hl 4 rfl) ?_
                    refine lv_iload hx hb dX2_rounds_192 (lv_at hl 6 rfl) ?_
                    refine lv_ior hx hb dX2_rounds_194 ?_
                    refine lv_top (y := nI (h9 ||| s1)) (bi_or _ _) ?_
                    refine lv_aload_n hx hb dX2_rounds_195 rfl (lv_at hl 1 rfl) ?_
                    refine m_get hx hb hts hown hK hH 38 (by decide) q1490 rfl (v := .ref (o + 50)) rfl dX2_rounds_196 ?_
                    refine lv_iload hx hb dX2_rounds_199 (lv_at hl 4 rfl) ?_
                    refine m_iald (n := 1024) (j := h9) (v := nI k0) hx hb hK hH (by decide) rfl (by first | omega | (refine Nat.lt_of_lt_of_le (Nat.mod_lt _ ?_) ?_ <;> omega)) (by decide) ((h50 h9 (by omega)).trans (by rw [hT0]; rfl)) dX2_rounds_201 ?_
                    refine lv_iconst (v := nI 1) hx hb dX2_rounds_202 (by decide) ?_
                    refine lv_iadd hx hb dX2_rounds_203 ?_
                    refine lv_top (y := nI (k0 + 1)) (nI_add _ _) ?_
                    refine m_iast (n := 1024) (j := h9 ||| s1) hx hb hK hH hS (by decide) rfl (by first | omega | (refine Nat.lt_of_lt_of_le (Nat.mod_lt _ ?_) ?_ <;> omega)) (by decide) dX2_rounds_204 (fun H locs hH hS => ?_)
                    have hM := hM.vS (k := 50) rfl (h9 ||| s1) (nI (k0 + 1))
                    refine lv_iload hx hb dX2_rounds_205 (lv_at hl 6 rfl) ?_
                    refine lv_iconst (v := nI 1) hx hb dX2_rounds_207 (by decide) ?_
                    refine lv_isub hx hb dX2_rounds_208 ?_
                    refine lv_top (y := nI (s1 - 1)) (pk_sub (by first | omega | (refine Nat.lt_of_lt_of_le (Nat.mod_lt _ ?_) ?_ <;> omega))) ?_
                    refine lv_iload hx hb dX2_rounds_209 (lv_at hl 5 rfl) ?_
                    refine lv_iand hx hb dX2_rounds_211 ?_
                    refine lv_top (y := nI ((s1 - 1) &&& (rsB (rtP S f (aN S)).length h9))) (bi_and _ _) ?_
                    refine lv_istore (lv' := [(6, .int (nI ((s1 - 1) &&& (rsB (rtP S f (aN S)).length h9)))), (7, .int (nI (gmB S f s1))), (0, .ref o), (2, .int (nI ds)), (3, .int (nI ((rtP S f (aN S)).length))), (4, .int (nI h9)), (5, .int (nI (rsB (rtP S f (aN S)).length h9)))]) hx hb dX2_rounds_212 hl (by decide) rfl (fun ls hl => ?_)
                    refine lv_goto (tgt := 108) hx hb dX2_rounds_214 (by decide) ?_
                    exact ih108 ((s1 - 1) &&& rsB (rtP S f (aN S)).length h9) (va_up T (h9 ||| s1) (some (k0 + 1))) _ (by have := Nat.and_le_left (n := s1 - 1) (m := rsB (rtP S f (aN S)).length h9); omega) H locs ls ⟨Nat.and_assoc _ _ _ ▸ by rw [Nat.and_self], by rw [va_up_ne _ _ (by omega)]; exact hT0, pp_one hss (tb_put htb hT0 hst hor1 (fun j hj => (by rw [hTn] at hj; cases hj))), fun z hz => by rw [vset_in]; by_cases e : z = h9 ||| s1; (rw [if_pos e, e, va_up_self]; rfl); (rw [if_neg e, va_up_ne _ _ e]; exact h50 z hz), fun i hi => by rw [vset_off _ _ (by decide)]; exact hgb i hi, fun x y h1 h2 => (congrFun (vset_off _ _ (by decide)) _).trans (hab x y h1 h2), hM, hH, hS, lv_sub hl [2, 3, 4, 5, 6, 0] rfl⟩
                  · obtain ⟨j0, hj0⟩ := far_is ct
                    have hj0b := tb_le htb hj0
                    refine lv_aload_n hx hb dX2_rounds_164 rfl (lv_at hl 1 rfl) ?_
                    refine m_get hx hb hts hown hK hH 38 (by decide) q1490 rfl (v := .ref (o + 50)) rfl dX2_rounds_165 ?_
                    refine lv_iload hx hb dX2_rounds_168 (lv_at hl 4 rfl) ?_
                    refine m_iald (n := 1024) (j := h9) (v := nI k0) hx hb hK hH (by decide) rfl (by first | omega | (refine Nat.lt_of_lt_of_le (Nat.mod_lt _ ?_) ?_ <;> omega)) (by decide) ((h50 h9 (by omega)).trans (by rw [hT0]; rfl)) dX2_rounds_170 ?_
                    refine lv_iconst (v := nI 1) hx hb dX2_rounds_171 (by decide) ?_
                    refine lv_iadd hx hb dX2_rounds_172 ?_
                    refine lv_top (y := nI (k0 + 1)) (nI_add _ _) ?_
                    refine lv_aload_n hx hb dX2_rounds_173 rfl (lv_at hl 1 rfl) ?_
                    refine m_get hx hb hts hown hK hH 38 (by decide) q1490 rfl (v := .ref (o + 50)) rfl dX2_rounds_174 ?_
                    refine lv_iload hx hb dX2_rounds_177 (lv_at hl 4 rfl) ?_
                    refine lv_iload hx hb dX2_rounds_179 (lv_at hl 6 rfl) ?_
                    refine lv_ior hx hb dX2_rounds_181 ?_
                    refine lv_top (y := nI (h9 ||| s1)) (bi_or _ _) ?_
                    refine m_iald (n := 1024) (j := h9 ||| s1) (v := nI j0) hx hb hK hH (by decide) rfl (by first | omega | (refine Nat.lt_of_lt_of_le (Nat.mod_lt _ ?_) ?_ <;> omega)) (by decide) ((h50 _ hor2).trans (by rw [hj0]; rfl)) dX2_rounds_182 ?_
                    refine lvN_ge (tgt := 205) hx hb (by first | omega | (refine Nat.lt_of_lt_of_le (Nat.mod_lt _ ?_) ?_ <;> omega)) (by first | omega | (refine Nat.lt_of_lt_of_le (Nat.mod_lt _ ?_) ?_ <;> omega)) dX2_rounds_183 (by decide) (fun cl => ?_) (fun cl => ?_)
                    · refine lv_iload hx hb dX2_rounds_205 (lv_at hl 6 rfl) ?_
                      refine lv_iconst (v := nI 1) hx hb dX2_rounds_207 (by decide) ?_
                      refine lv_isub hx hb dX2_rounds_208 ?_
                      refine lv_top (y := nI (s1 - 1)) (pk_sub (by first | omega | (refine Nat.lt_of_lt_of_le (Nat.mod_lt _ ?_) ?_ <;> omega))) ?_
                      refine lv_iload hx hb dX2_rounds_209 (lv_at hl 5 rfl) ?_
                      refine lv_iand hx hb dX2_rounds_211 ?_
                      refine lv_top (y := nI ((s1 - 1) &&& (rsB (rtP S f (aN S)).length h9))) (bi_and _ _) ?_
                      refine lv_istore (lv' := [(6, .int (nI ((s1 - 1) &&& (rsB (rtP S f (aN S)).length h9)))), (7, .int (nI (gmB S f s1))), (0, .ref o), (2, .int (nI ds)), (3, .int (nI ((rtP S f (aN S)).length))), (4, .int (nI h9)), (5, .int (nI (rsB (rtP S f (aN S)).length h9)))]) hx hb dX2_rounds_212 hl (by decide) rfl (fun ls hl => ?_)
                      refine lv_goto (tgt := 108) hx hb dX2_rounds_214 (by decide) ?_
                      exact ih108 ((s1 - 1) &&& rsB (rtP S f (aN S)).length h9) T U (by have := Nat.and_le_left (n := s1 - 1) (m := rsB (rtP S f (aN S)).length h9); omega) H locs ls ⟨Nat.and_assoc _ _ _ ▸ by rw [Nat.and_self], hT0, pp_one hss (tb_keep htb hT0 hj0 (by omega)), h50, hgb, hab, hM, hH, hS, lv_sub hl [2, 3, 4, 5, 6, 0] rfl⟩
                    · refine lv_aload_n hx hb dX2_rounds_186 rfl (lv_at hl 1 rfl) ?_
                      refine m_get hx hb hts hown hK hH 38 (by decide) q1490 rfl (v := .ref (o + 50)) rfl dX2_rounds_187 ?_
                      refine lv_iload hx hb dX2_rounds_190 (lv_at hl 4 rfl) ?_
                      refine lv_iload hx hb dX2_rounds_192 (lv_at hl 6 rfl) ?_
                      refine lv_ior hx hb dX2_rounds_194 ?_
                      refine lv_top (y := nI (h9 ||| s1)) (bi_or _ _) ?_
                      refine lv_aload_n hx hb dX2_rounds_195 rfl (lv_at hl 1 rfl) ?_
                      refine m_get hx hb hts hown hK hH 38 (by decide) q1490 rfl (v := .ref (o + 50)) rfl dX2_rounds_196 ?_
                      refine lv_iload hx hb dX2_rounds_199 (lv_at hl 4 rfl) ?_
                      refine m_iald (n := 1024) (j := h9) (v := nI k0) hx hb hK hH (by decide) rfl (by first | omega | (refine Nat.lt_of_lt_of_le (Nat.mod_lt _ ?_) ?_ <;> omega)) (by decide) ((h50 h9 (by omega)).trans (by rw [hT0]; rfl)) dX2_rounds_201 ?_
                      refine lv_iconst (v := nI 1) hx hb dX2_rounds_202 (by decide) ?_
                      refine lv_iadd hx hb dX2_rounds_203 ?_
                      refine lv_top (y := nI (k0 + 1)) (nI_add _ _) ?_
                      refine m_iast (n := 1024) (j := h9 ||| s1) hx hb hK hH hS (by decide) rfl (by first | omega | (refine Nat.lt_of_lt_of_le (Nat.mod_lt _ ?_) ?_ <;> omega)) (by decide) dX2_rounds_204 (fun H locs hH hS => ?_)
                      have hM := hM.vS (k := 50) rfl (h9 ||| s1) (nI (k0 + 1))
                      refine lv_iload hx hb dX2_rounds_205 (lv_at hl 6 rfl) ?_
                      refine lv_iconst (v := nI 1) hx hb dX2_rounds_207 (by decide) ?_
                      refine lv_isub hx hb dX2_rounds_208 ?_
                      refine lv_top (y := nI (s1 - 1)) (pk_sub (by first | omega | (refine Nat.lt_of_lt_of_le (Nat.mod_lt _ ?_) ?_ <;> omega))) ?_
                      refine lv_iload hx hb dX2_rounds_209 (lv_at hl 5 rfl) ?_
                      refine lv_iand hx hb dX2_rounds_211 ?_
                      refine lv_top (y := nI ((s1 - 1) &&& (rsB (rtP S f (aN S)).length h9))) (bi_and _ _) ?_
                      refine lv_istore (lv' := [(6, .int (nI ((s1 - 1) &&& (rsB (rtP S f (aN S)).length h9)))), (7, .int (nI (gmB S f s1))), (0, .ref o), (2, .int (nI ds)), (3, .int (nI ((rtP S f (aN S)).length))), (4, .int (nI h9)), (5, .int (nI (rsB (rtP S f (aN S)).length h9)))]) hx hb dX2_rounds_212 hl (by decide) rfl (fun ls hl => ?_)
                      refine lv_goto (tgt := 108) hx hb dX2_rounds_214 (by decide) ?_
                      exact ih108 ((s1 - 1) &&& rsB (rtP S f (aN S)).length h9) (va_up T (h9 ||| s1) (some (k0 + 1))) _ (by have := Nat.and_le_left (n := s1 - 1) (m := rsB (rtP S f (aN S)).length h9); omega) H locs ls ⟨Nat.and_assoc _ _ _ ▸ by rw [Nat.and_self], by rw [va_up_ne _ _ (by omega)]; exact hT0, pp_one hss (tb_put htb hT0 hst hor1 (fun j hj => (by rw [hj0] at hj; cases hj; omega))), fun z hz => by rw [vset_in]; by_cases e : z = h9 ||| s1; (rw [if_pos e, e, va_up_self]; rfl); (rw [if_neg e, va_up_ne _ _ e]; exact h50 z hz), fun i hi => by rw [vset_off _ _ (by decide)]; exact hgb i hi, fun x y h1 h2 => (congrFun (vset_off _ _ (by decide)) _).trans (hab x y h1 h2), hM, hH, hS, lv_sub hl [2, 3, 4, 5, 6, 0] rfl⟩
                · refine lv_goto (tgt := 205) hx hb dX2_rounds_147 (by decide) ?_
                  refine lv_iload hx hb dX2_rounds_205 (lv_at hl 6 rfl) ?_
                  refine lv_iconst (v := nI 1) hx hb dX2_rounds_207 (by decide) ?_
                  refine lv_isub hx hb dX2_rounds_208 ?_
                  refine lv_top (y := nI (s1 - 1)) (pk_sub (by first | omega | (refine Nat.lt_of_lt_of_le (Nat.mod_lt _ ?_) ?_ <;> omega))) ?_
                  refine lv_iload hx hb dX2_rounds_209 (lv_at hl 5 rfl) ?_
                  refine lv_iand hx hb dX2_rounds_211 ?_
                  refine lv_top (y := nI ((s1 - 1) &&& (rsB (rtP S f (aN S)).length h9))) (bi_and _ _) ?_
                  refine lv_istore (lv' := [(6, .int (nI ((s1 - 1) &&& (rsB (rtP S f (aN S)).length h9)))), (7, .int (nI (gmB S f s1))), (0, .ref o), (2, .int (nI ds)), (3, .int (nI ((rtP S f (aN S)).length))), (4, .int (nI h9)), (5, .int (nI (rsB (rtP S f (aN S)).length h9)))]) hx hb dX2_rounds_212 hl (by decide) rfl (fun ls hl => ?_)
                  refine lv_goto (tgt := 108) hx hb dX2_rounds_214 (by decide) ?_
                  exact ih108 ((s1 - 1) &&& rsB (rtP S f (aN S)).length h9) T U (by have := Nat.and_le_left (n := s1 - 1) (m := rsB (rtP S f (aN S)).length h9); omega) H locs ls ⟨Nat.and_assoc _ _ _ ▸ by rw [Nat.and_self], hT0, pp_no hss (fun q => by rw [cg] at q; exact absurd q.2 (by decide)) htb, h50, hgb, hab, hM, hH, hS, lv_sub hl [2, 3, 4, 5, 6, 0] rfl⟩
          · have hTn0 := (oI_none (tb_oI htb (by omega))).mp cT
            refine lv_goto (tgt := 217) hx hb dX2_rounds_89 (by decide) ?_
            refine lv_iinc (v := nI (h9 + 1)) (lv' := [(4, .int (nI (h9 + 1))), (0, .ref o), (2, .int (nI ds)), (3, .int (nI ((rtP S f (aN S)).length)))]) hx hb dX2_rounds_217 hl (k := 3) rfl (nI_add h9 1) (by decide) rfl (fun ls hl => ?_)
            refine lv_goto (tgt := 70) hx hb dX2_rounds_220 (by decide) ?_
            exact ih70 (h9 + 1) T U (by omega) H locs ls ⟨by omega, tb_skip htb hTn0, h50, hgb, hab, hM, hH, hS, lv_sub hl [1, 2, 3, 0] rfl⟩
      · refine lv_aload_n hx hb dX2_rounds_44 rfl (lv_at hl 0 rfl) ?_
        refine m_get hx hb hts hown hK hH 38 (by decide) q1490 rfl (v := .ref (o + 50)) rfl dX2_rounds_45 ?_
        refine lv_iload hx hb dX2_rounds_48 (lv_at hl 3 rfl) ?_
        refine lv_iload hx hb dX2_rounds_50 (lv_at hl 3 rfl) ?_
        refine lvZ_ne (tgt := 59) hx hb (by first | omega | (refine Nat.lt_of_lt_of_le (Nat.mod_lt _ ?_) ?_ <;> omega)) dX2_rounds_52 (by decide) (fun cz => ?_) (fun cz => ?_)
        · refine lv_iconst (v := (-1)) hx hb dX2_rounds_59 (by decide) ?_
          refine m_iast (n := 1024) (j := h9) hx hb hK hH hS (by decide) rfl (by first | omega | (refine Nat.lt_of_lt_of_le (Nat.mod_lt _ ?_) ?_ <;> omega)) (by decide) dX2_rounds_60 (fun H locs hH hS => ?_)
          have hM := hM.vS (k := 50) rfl h9 (-1)
          refine lv_iinc (v := nI (h9 + 1)) (lv' := [(4, .int (nI (h9 + 1))), (0, .ref o), (2, .int (nI ds)), (3, .int (nI ((rtP S f (aN S)).length)))]) hx hb dX2_rounds_61 hl (k := 3) rfl (nI_add h9 1) (by decide) rfl (fun ls hl => ?_)
          refine lv_goto (tgt := 36) hx hb dX2_rounds_64 (by decide) ?_
          exact ih36 (h9 + 1) _ (by omega) H locs ls ⟨by omega, fun z hz => by rw [vset_in]; split; (rename_i e; rw [e, if_neg cz]; rfl); exact h50 z (by omega), fun i hi => by rw [vset_off _ _ (by decide)]; exact hgb i hi, fun x y h1 h2 => (congrFun (vset_off _ _ (by decide)) _).trans (hab x y h1 h2), hM, hH, hS, lv_sub hl [1, 2, 3, 0] rfl⟩
        · refine lv_iconst (v := nI 0) hx hb dX2_rounds_55 (by decide) ?_
          refine lv_goto (tgt := 60) hx hb dX2_rounds_56 (by decide) ?_
          refine m_iast (n := 1024) (j := h9) hx hb hK hH hS (by decide) rfl (by first | omega | (refine Nat.lt_of_lt_of_le (Nat.mod_lt _ ?_) ?_ <;> omega)) (by decide) dX2_rounds_60 (fun H locs hH hS => ?_)
          have hM := hM.vS (k := 50) rfl h9 (nI 0)
          refine lv_iinc (v := nI (h9 + 1)) (lv' := [(4, .int (nI (h9 + 1))), (0, .ref o), (2, .int (nI ds)), (3, .int (nI ((rtP S f (aN S)).length)))]) hx hb dX2_rounds_61 hl (k := 3) rfl (nI_add h9 1) (by decide) rfl (fun ls hl => ?_)
          refine lv_goto (tgt := 36) hx hb dX2_rounds_64 (by decide) ?_
          exact ih36 (h9 + 1) _ (by omega) H locs ls ⟨by omega, fun z hz => by rw [vset_in]; split; (rename_i e; rw [e, cz]; rfl); exact h50 z (by omega), fun i hi => by rw [vset_off _ _ (by decide)]; exact hgb i hi, fun x y h1 h2 => (congrFun (vset_off _ _ (by decide)) _).trans (hab x y h1 h2), hM, hH, hS, lv_sub hl [1, 2, 3, 0] rfl⟩
    · rw [in_1d] at cd1
      refine lv_iconst (v := (-1)) hx hb dX2_rounds_20 (by decide) ?_
      exact hp_iret hx hb hr hlocks hH hS (by decide) (by decide) dX2_rounds_21 (⟨congrArg some (congrArg Value.int (by simp [spRounds, eq, cr0, cd1])), _, _, rfl, hM⟩)
end MODEL
