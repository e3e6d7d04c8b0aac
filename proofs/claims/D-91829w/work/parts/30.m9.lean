/-! by gen/mspec.py -/
set_option maxRecDepth 100000
section MODEL
variable {l : Launch} {s0 : State} {D : va_G} {K : Nat → ClassId} {wd : Nat → Nat} {o : Nat} {h : Hp} {I : Nat → Int32} {V : Nat → Nat → Int32} {J : Nat → Nat → Int64}
set_option maxHeartbeats 4000000 in
theorem mt_isQuiet (hK0 : va_K D CL (TYS K) s0) {S : Ab} (hO : SOK S) (hM : MOK S I V) {hp : Nat} (hhp : hp < 1024) (A : Nat → Nat → Bool) (hab : ∀ x y, x < aN S → y < aN S → V 44 (10 * x + y) = zI (A x y)) (E : Nat → Nat → Bool) (hev : ∀ x y, x < aN S → y < aN S → V 45 (10 * x + y) = zI (E x y)) : Met l yX2_isQuiet (ws_ yX2_isQuiet cX2_isQuiet 4 ((Option.some Jvm.ClassFile.FieldType.boolean))) (rmk 3 0 0) (va_Pc [.ref o, .int (nI hp)] (PB s0 D CL (mset h K wd o I V J))) (QR s0 D CL (fun v h1 => v = some (.int (zI (qtB A E (aN S) hp))) ∧ ∃ U, h1 = mset h K wd o I U J ∧ MOK S I U ∧ kp [46] V U)) 0 0 (zA s0) := by
  refine hp_met (by decide) (Nat.le_of_ble_eq_true rfl) hK0 ?_
  intro p e s m below meth cd ls hx hb hr hlocks hml hown hnm hts hK hPB hl hS hH hA
  have hl : lv_has ls 4 [(0, .ref o), (1, .int (nI hp))] := hl
  have hown : s.vm.findClass RX2 = some m.cls := hown
  have hn := hO.n
  have hmk := hO.mk
  have hrl := hO.rl
  have hrm := hO.rm
  have hsz := hO.sz
  refine lv_iconst (v := nI 0) hx hb dX2_isQuiet_0 (by decide) ?_
  refine lv_istore_n (lv' := [(2, .int (nI 0)), (0, .ref o), (1, .int (nI hp))]) hx hb dX2_isQuiet_1 rfl hl (by decide) rfl (fun ls hl => ?_)
  refine w_loop1 (fun (x : Nat) => aN S - x) (fun (x : Nat) H locs ls => (x ≤ aN S) ∧ (anyB (fun x => qtX A E (aN S) hp x (aN S)) x = false) ∧ HP D CL (zA s0) (mset h K wd o I V J) H ∧ va_S (zA s0) s.heap H locs ∧ lv_has ls 4 [(0, .ref o), (1, .int (nI hp)), (2, .int (nI x))]) ?_ 0 ⟨Nat.zero_le _, rfl, hH, hS, lv_sub hl [1, 2, 0] rfl⟩
  intro x ih2 H locs ls hP
  obtain ⟨hxx, hno, hH, hS, hl⟩ := hP
  refine lv_iload_n hx hb dX2_isQuiet_2 rfl (lv_at hl 2 rfl) ?_
  refine lv_aload_n hx hb dX2_isQuiet_3 rfl (lv_at hl 0 rfl) ?_
  refine m_get hx hb hts hown hK hH 15 (by decide) q1467 rfl (v := .ref (o + 29)) rfl dX2_isQuiet_4 ?_
  refine lv_iconst (v := nI 0) hx hb dX2_isQuiet_7 (by decide) ?_
  refine m_iald (n := 2) (j := 0) (v := nI (aN S)) hx hb hK hH (by decide) rfl (by first | omega | (refine Nat.lt_of_lt_of_le (Nat.mod_lt _ ?_) ?_ <;> omega)) (by decide) (hM.n) dX2_isQuiet_8 ?_
  refine lvN_ge (tgt := 84) hx hb (by first | omega | (refine Nat.lt_of_lt_of_le (Nat.mod_lt _ ?_) ?_ <;> omega)) (by first | omega | (refine Nat.lt_of_lt_of_le (Nat.mod_lt _ ?_) ?_ <;> omega)) dX2_isQuiet_9 (by decide) (fun c1 => ?_) (fun c1 => ?_)
  · refine lv_aload_n hx hb dX2_isQuiet_84 rfl (lv_at hl 0 rfl) ?_
    refine lv_iload_n hx hb dX2_isQuiet_85 rfl (lv_at hl 1 rfl) ?_
    refine hp_callV (As := [.int (nI hp)]) (rest := []) hx hb hml hown hts hPB hK hH hS (mt_hasRing hK0 hO hM (hp := hp) (by omega) A hab) mset_o rfl rfl 1 (lw_V q1886 q1888 qs85 q107 q1889) (by decide +kernel) ⟨rfl, rfl⟩ (by decide) rfl hl.1 rfl (Nat.le_of_ble_eq_true rfl) (by decide) dX2_isQuiet_86 (fun v2 h4 H locs hp3 _ hH hS => ?_)
    obtain ⟨rfl, U3, rfl, hM, hkH⟩ := hp3
    refine lvB_ne (tgt := 96) hx hb dX2_isQuiet_89 (by decide) (fun cr => ?_) (fun cr => ?_)
    · refine lv_iconst (v := nI 0) hx hb dX2_isQuiet_96 (by decide) ?_
      exact hp_zret hx hb hr rfl hlocks hH hS (by decide) (by decide) dX2_isQuiet_97 (⟨congrArg some (congrArg Value.int (zI_0 (by unfold qtB; rw [show anyB (fun x => qtX A E (aN S) hp x (aN S)) (aN S) = false by rw [show aN S = x by omega] at hno ⊢; exact hno, cr]; rfl))), _, rfl, hM, hkH⟩)
    · refine lv_iconst (v := nI 1) hx hb dX2_isQuiet_92 (by decide) ?_
      refine lv_goto (tgt := 97) hx hb dX2_isQuiet_93 (by decide) ?_
      exact hp_zret hx hb hr rfl hlocks hH hS (by decide) (by decide) dX2_isQuiet_97 (⟨congrArg some (congrArg Value.int (zI_1 (by unfold qtB; rw [show anyB (fun x => qtX A E (aN S) hp x (aN S)) (aN S) = false by rw [show aN S = x by omega] at hno ⊢; exact hno, cr]; rfl))), _, rfl, hM, hkH⟩)
  · refine lv_iconst (v := nI 0) hx hb dX2_isQuiet_12 (by decide) ?_
    refine lv_istore_n (lv' := [(3, .int (nI 0)), (0, .ref o), (1, .int (nI hp)), (2, .int (nI x))]) hx hb dX2_isQuiet_13 rfl hl (by decide) rfl (fun ls hl => ?_)
    refine w_loop1 (fun (y : Nat) => aN S - y) (fun (y : Nat) H locs ls => (y ≤ aN S) ∧ (anyB (fun y => Nat.testBit hp x && Nat.testBit hp y && E x y && A x y) y = false) ∧ HP D CL (zA s0) (mset h K wd o I V J) H ∧ va_S (zA s0) s.heap H locs ∧ lv_has ls 4 [(0, .ref o), (1, .int (nI hp)), (2, .int (nI x)), (3, .int (nI y))]) ?_ 0 ⟨Nat.zero_le _, rfl, hH, hS, lv_sub hl [1, 2, 3, 0] rfl⟩
    intro y ih14 H locs ls hP
    obtain ⟨hyy, hny, hH, hS, hl⟩ := hP
    refine lv_iload_n hx hb dX2_isQuiet_14 rfl (lv_at hl 3 rfl) ?_
    refine lv_aload_n hx hb dX2_isQuiet_15 rfl (lv_at hl 0 rfl) ?_
    refine m_get hx hb hts hown hK hH 15 (by decide) q1467 rfl (v := .ref (o + 29)) rfl dX2_isQuiet_16 ?_
    refine lv_iconst (v := nI 0) hx hb dX2_isQuiet_19 (by decide) ?_
    refine m_iald (n := 2) (j := 0) (v := nI (aN S)) hx hb hK hH (by decide) rfl (by first | omega | (refine Nat.lt_of_lt_of_le (Nat.mod_lt _ ?_) ?_ <;> omega)) (by decide) (hM.n) dX2_isQuiet_20 ?_
    refine lvN_ge (tgt := 78) hx hb (by first | omega | (refine Nat.lt_of_lt_of_le (Nat.mod_lt _ ?_) ?_ <;> omega)) (by first | omega | (refine Nat.lt_of_lt_of_le (Nat.mod_lt _ ?_) ?_ <;> omega)) dX2_isQuiet_21 (by decide) (fun c5 => ?_) (fun c5 => ?_)
    · have eyn : y = aN S := by omega
      refine lv_iinc (v := nI (x + 1)) (lv' := [(2, .int (nI (x + 1))), (0, .ref o), (1, .int (nI hp)), (3, .int (nI y))]) hx hb dX2_isQuiet_78 hl (k := 2) rfl (nI_add x 1) (by decide) rfl (fun ls hl => ?_)
      refine lv_goto (tgt := 2) hx hb dX2_isQuiet_81 (by decide) ?_
      exact ih2 (x + 1) (by omega) H locs ls ⟨by omega, by rw [anyB_f (by show qtX A E (aN S) hp x (aN S) = false; rw [← eyn]; exact hny)]; exact hno, hH, hS, lv_sub hl [1, 2, 0] rfl⟩
    · refine lv_iload_n hx hb dX2_isQuiet_24 rfl (lv_at hl 1 rfl) ?_
      refine lv_iload_n hx hb dX2_isQuiet_25 rfl (lv_at hl 2 rfl) ?_
      refine lv_ishr hx hb dX2_isQuiet_26 ?_
      refine lv_top (y := nI (hp / 2 ^ x)) (bi_shr (by first | omega | (refine Nat.lt_of_lt_of_le (Nat.mod_lt _ ?_) ?_ <;> omega)) (by first | omega | (refine Nat.lt_of_lt_of_le (Nat.mod_lt _ ?_) ?_ <;> omega))) ?_
      refine lv_iconst (v := nI 1) hx hb dX2_isQuiet_27 (by decide) ?_
      refine lv_iand hx hb dX2_isQuiet_28 ?_
      refine lv_top (y := zI (Nat.testBit hp x)) ((bi_and _ _).trans (bi_z _ _)) ?_
      refine lv_iconst (v := nI 1) hx hb dX2_isQuiet_29 (by decide) ?_
      refine lvB_ne1 (tgt := 72) hx hb dX2_isQuiet_30 (by decide) (fun cx => ?_) (fun cx => ?_)
      · refine lv_iinc (v := nI (y + 1)) (lv' := [(3, .int (nI (y + 1))), (0, .ref o), (1, .int (nI hp)), (2, .int (nI x))]) hx hb dX2_isQuiet_72 hl (k := 3) rfl (nI_add y 1) (by decide) rfl (fun ls hl => ?_)
        refine lv_goto (tgt := 14) hx hb dX2_isQuiet_75 (by decide) ?_
        exact ih14 (y + 1) (by omega) H locs ls ⟨by omega, by rw [anyB_f (by simp [cx])]; exact hny, hH, hS, lv_sub hl [1, 2, 3, 0] rfl⟩
      · refine lv_iload_n hx hb dX2_isQuiet_33 rfl (lv_at hl 1 rfl) ?_
        refine lv_iload_n hx hb dX2_isQuiet_34 rfl (lv_at hl 3 rfl) ?_
        refine lv_ishr hx hb dX2_isQuiet_35 ?_
        refine lv_top (y := nI (hp / 2 ^ y)) (bi_shr (by first | omega | (refine Nat.lt_of_lt_of_le (Nat.mod_lt _ ?_) ?_ <;> omega)) (by first | omega | (refine Nat.lt_of_lt_of_le (Nat.mod_lt _ ?_) ?_ <;> omega))) ?_
        refine lv_iconst (v := nI 1) hx hb dX2_isQuiet_36 (by decide) ?_
        refine lv_iand hx hb dX2_isQuiet_37 ?_
        refine lv_top (y := zI (Nat.testBit hp y)) ((bi_and _ _).trans (bi_z _ _)) ?_
        refine lv_iconst (v := nI 1) hx hb dX2_isQuiet_38 (by decide) ?_
        refine lvB_ne1 (tgt := 72) hx hb dX2_isQuiet_39 (by decide) (fun cy => ?_) (fun cy => ?_)
        · refine lv_iinc (v := nI (y + 1)) (lv' := [(3, .int (nI (y + 1))), (0, .ref o), (1, .int (nI hp)), (2, .int (nI x))]) hx hb dX2_isQuiet_72 hl (k := 3) rfl (nI_add y 1) (by decide) rfl (fun ls hl => ?_)
          refine lv_goto (tgt := 14) hx hb dX2_isQuiet_75 (by decide) ?_
          exact ih14 (y + 1) (by omega) H locs ls ⟨by omega, by rw [anyB_f (by simp [cy])]; exact hny, hH, hS, lv_sub hl [1, 2, 3, 0] rfl⟩
        · refine lv_aload_n hx hb dX2_isQuiet_42 rfl (lv_at hl 0 rfl) ?_
          refine m_get hx hb hts hown hK hH 33 (by decide) q1485 rfl (v := .ref (o + 45)) rfl dX2_isQuiet_43 ?_
          refine lv_bipush (v := nI 10) hx hb dX2_isQuiet_46 (by decide) ?_
          refine lv_iload_n hx hb dX2_isQuiet_48 rfl (lv_at hl 2 rfl) ?_
          refine lv_imul hx hb dX2_isQuiet_49 ?_
          refine lv_top (y := nI (10 * x)) (pk_mul _ _) ?_
          refine lv_iload_n hx hb dX2_isQuiet_50 rfl (lv_at hl 3 rfl) ?_
          refine lv_iadd hx hb dX2_isQuiet_51 ?_
          refine lv_top (y := nI ((10 * x) + y)) (nI_add _ _) ?_
          refine m_zald (n := 100) (j := (10 * x) + y) (v := zI (E x y)) hx hb hK hH (by decide) rfl (by first | omega | (refine Nat.lt_of_lt_of_le (Nat.mod_lt _ ?_) ?_ <;> omega)) (by decide) (hev x y (by omega) (by omega)) dX2_isQuiet_52 ?_
          refine lvB_eq (tgt := 72) hx hb dX2_isQuiet_53 (by decide) (fun ce => ?_) (fun ce => ?_)
          · refine lv_iinc (v := nI (y + 1)) (lv' := [(3, .int (nI (y + 1))), (0, .ref o), (1, .int (nI hp)), (2, .int (nI x))]) hx hb dX2_isQuiet_72 hl (k := 3) rfl (nI_add y 1) (by decide) rfl (fun ls hl => ?_)
            refine lv_goto (tgt := 14) hx hb dX2_isQuiet_75 (by decide) ?_
            exact ih14 (y + 1) (by omega) H locs ls ⟨by omega, by rw [anyB_f (by simp [ce])]; exact hny, hH, hS, lv_sub hl [1, 2, 3, 0] rfl⟩
          · refine lv_aload_n hx hb dX2_isQuiet_56 rfl (lv_at hl 0 rfl) ?_
            refine m_get hx hb hts hown hK hH 32 (by decide) q1484 rfl (v := .ref (o + 44)) rfl dX2_isQuiet_57 ?_
            refine lv_bipush (v := nI 10) hx hb dX2_isQuiet_60 (by decide) ?_
            refine lv_iload_n hx hb dX2_isQuiet_62 rfl (lv_at hl 2 rfl) ?_
            refine lv_imul hx hb dX2_isQuiet_63 ?_
            refine lv_top (y := nI (10 * x)) (pk_mul _ _) ?_
            refine lv_iload_n hx hb dX2_isQuiet_64 rfl (lv_at hl 3 rfl) ?_
            refine lv_iadd hx hb dX2_isQuiet_65 ?_
            refine lv_top (y := nI ((10 * x) + y)) (nI_add _ _) ?_
            refine m_zald (n := 100) (j := (10 * x) + y) (v := zI (A x y)) hx hb hK hH (by decide) rfl (by first | omega | (refine Nat.lt_of_lt_of_le (Nat.mod_lt _ ?_) ?_ <;> omega)) (by decide) (hab x y (by omega) (by omega)) dX2_isQuiet_66 ?_
            refine lvB_eq (tgt := 72) hx hb dX2_isQuiet_67 (by decide) (fun ca => ?_) (fun ca => ?_)
            · refine lv_iinc (v := nI (y + 1)) (lv' := [(3, .int (nI (y + 1))), (0, .ref o), (1, .int (nI hp)), (2, .int (nI x))]) hx hb dX2_isQuiet_72 hl (k := 3) rfl (nI_add y 1) (by decide) rfl (fun ls hl => ?_)
              refine lv_goto (tgt := 14) hx hb dX2_isQuiet_75 (by decide) ?_
              exact ih14 (y + 1) (by omega) H locs ls ⟨by omega, by rw [anyB_f (by simp [ca])]; exact hny, hH, hS, lv_sub hl [1, 2, 3, 0] rfl⟩
            · refine lv_iconst (v := nI 0) hx hb dX2_isQuiet_70 (by decide) ?_
              exact hp_zret hx hb hr rfl hlocks hH hS (by decide) (by decide) dX2_isQuiet_71 (⟨congrArg some (congrArg Value.int (zI_0 (by unfold qtB; rw [(anyB_iff (fun x => qtX A E (aN S) hp x (aN S)) (aN S)).mpr ⟨x, by omega, (anyB_iff (fun y => Nat.testBit hp x && Nat.testBit hp y && E x y && A x y) (aN S)).mpr ⟨y, by omega, by simp [cx, cy, ce, ca]⟩⟩]; rfl))), V, rfl, hM, kp.rf⟩)
set_option maxHeartbeats 4000000 in
theorem mt_parts (hK0 : va_K D CL (TYS K) s0) {S : Ab} (hO : SOK S) {nn : Nat} {mem : List Nat} (hnn : nn ≤ 10) (hmem : mem.length ≤ 10 ∧ (∀ i, i < mem.length → mem.getD i 0 < nn) ∧ mem.Nodup) {Qt : Nat → Bool} {most : Nat} (hmost : most ≤ 10) : ∀ (d : Nat) {V : Nat → Nat → Int32} {k : Nat} {hs : List Nat} (hM : MOK S I V) (hptI : ptI nn mem hs Qt I V) (hkm : k ≤ mem.length) (hko : hOK nn hs) (hlen : hs.length ≤ 10) (hd : d = mem.length - k), Met l yX2_parts (ws_ yX2_parts cX2_parts 6 ((Option.some Jvm.ClassFile.FieldType.boolean))) (rmk d 0 0) (va_Pc [.ref o, .int (nI k), .int (nI hs.length), .int (nI most)] (PB s0 D CL (mset h K wd o I V J))) (QR s0 D CL (fun v h1 => v = some (.int (zI (prt Qt most (mem.drop k) hs).isSome)) ∧ ∃ U, h1 = mset h K wd o I U J ∧ MOK S I U ∧ kp [51, 52] V U ∧ ptE mem hs k (prt Qt most (mem.drop k) hs) V U)) 0 0 (zA s0) := by
  intro d
  induction d using Nat.strongRecOn
  rename_i d ih
  intro V k hs hM hptI hkm hko hlen hd
  refine hp_met (by decide) (Nat.le_of_ble_eq_true rfl) hK0 ?_
  intro p e s m below meth cd ls hx hb hr hlocks hml hown hnm hts hK hPB hl hS hH hA
  have hl : lv_has ls 6 [(0, .ref o), (1, .int (nI k)), (2, .int (nI hs.length)), (3, .int (nI most))] := hl
  have hown : s.vm.findClass RX2 = some m.cls := hown
  have hn := hO.n
  have hmk := hO.mk
  have hrl := hO.rl
  have hrm := hO.rm
  have hsz := hO.sz
  have hml10 := hmem.1
  have hp10 := pow2_le hnn
  refine lv_iload_n hx hb dX2_parts_0 rfl (lv_at hl 1 rfl) ?_
  refine lv_aload_n hx hb dX2_parts_1 rfl (lv_at hl 0 rfl) ?_
  refine m_get hx hb hts hown hK hH 43 (by decide) q1495 rfl (v := .int (nI mem.length)) (congrArg Value.int (hptI.1)) dX2_parts_2 ?_
  refine lvN_ne (tgt := 10) hx hb (by first | omega | (refine Nat.lt_of_lt_of_le (Nat.mod_lt _ ?_) ?_ <;> omega)) (by first | omega | (refine Nat.lt_of_lt_of_le (Nat.mod_lt _ ?_) ?_ <;> omega)) dX2_parts_5 (by decide) (fun ck => ?_) (fun ck => ?_)
  · refine lv_iconst (v := nI 0) hx hb dX2_parts_10 (by decide) ?_
    refine lv_istore (lv' := [(4, .int (nI 0)), (0, .ref o), (1, .int (nI k)), (2, .int (nI hs.length)), (3, .int (nI most))]) hx hb dX2_parts_11 hl (by decide) rfl (fun ls hl => ?_)
    refine w_loop2 (fun (h9 : Nat) (U : Nat → Nat → Int32) => hs.length + 1 - h9) (fun (h9 : Nat) (U : Nat → Nat → Int32) H locs ls => (∀ u, u < h9 → prtT Qt most (mem.getD k 0) (mem.drop (k + 1)) hs u = none) ∧ (ptI nn mem hs Qt I U) ∧ (∀ g, g ∉ mem.drop k → U 51 g = V 51 g) ∧ (MOK S I U) ∧ (kp [51, 52] V U) ∧ (h9 ≤ hs.length + 1) ∧ HP D CL (zA s0) (mset h K wd o I U J) H ∧ va_S (zA s0) s.heap H locs ∧ lv_has ls 6 [(0, .ref o), (1, .int (nI k)), (2, .int (nI hs.length)), (3, .int (nI most)), (4, .int (nI h9))]) ?_ 0 V ⟨fun u hu => absurd hu (Nat.not_lt_zero _), hptI, fun _ _ => rfl, hM, kp.rf, Nat.zero_le _, hH, hS, lv_sub hl [1, 2, 3, 4, 0] rfl⟩
    intro h9 U ih13 H locs ls hP
    obtain ⟨hno, hpt, h51, hM, hkp, hh9, hH, hS, hl⟩ := hP
    refine lv_iload hx hb dX2_parts_13 (lv_at hl 4 rfl) ?_
    refine lv_iload_n hx hb dX2_parts_15 rfl (lv_at hl 2 rfl) ?_
    refine lvN_gt (tgt := 126) hx hb (by first | omega | (refine Nat.lt_of_lt_of_le (Nat.mod_lt _ ?_) ?_ <;> omega)) (by first | omega | (refine Nat.lt_of_lt_of_le (Nat.mod_lt _ ?_) ?_ <;> omega)) dX2_parts_16 (by decide) (fun cu => ?_) (fun cu => ?_)
    · refine lv_iconst (v := nI 0) hx hb dX2_parts_126 (by decide) ?_
      exact hp_zret hx hb hr rfl hlocks hH hS (by decide) (by decide) dX2_parts_127 (⟨by rw [pt_no (by omega) (by omega) hno]; rfl, _, rfl, hM, hkp, by rw [pt_no (by omega) (by omega) hno]; exact ⟨h51, hpt.2.2.2⟩⟩)
    · refine lv_iload hx hb dX2_parts_19 (lv_at hl 4 rfl) ?_
      refine lv_iload_n hx hb dX2_parts_21 rfl (lv_at hl 3 rfl) ?_
      refine lvN_ge (tgt := 126) hx hb (by first | omega | (refine Nat.lt_of_lt_of_le (Nat.mod_lt _ ?_) ?_ <;> omega)) (by first | omega | (refine Nat.lt_of_lt_of_le (Nat.mod_lt _ ?_) ?_ <;> omega)) dX2_parts_22 (by decide) (fun cm => ?_) (fun cm => ?_)
      · refine lv_iconst (v := nI 0) hx hb dX2_parts_126 (by decide) ?_
        exact hp_zret hx hb hr rfl hlocks hH hS (by decide) (by decide) dX2_parts_127 (⟨by rw [pt_no (by omega) (by omega) hno]; rfl, _, rfl, hM, hkp, by rw [pt_no (by omega) (by omega) hno]; exact ⟨h51, hpt.2.2.2⟩⟩)
      · have hmk10 := hmem.2.1 k (by omega)
        have hho := hOK_push (h := h9) hko hmk10 (by omega)
        refine lv_iload hx hb dX2_parts_25 (lv_at hl 4 rfl) ?_
        refine lv_iload_n hx hb dX2_parts_27 rfl (lv_at hl 2 rfl) ?_
        refine lvN_ne (tgt := 35) hx hb (by first | omega | (refine Nat.lt_of_lt_of_le (Nat.mod_lt _ ?_) ?_ <;> omega)) (by first | omega | (refine Nat.lt_of_lt_of_le (Nat.mod_lt _ ?_) ?_ <;> omega)) dX2_parts_28 (by decide) (fun ch => ?_) (fun ch => ?_)
        · refine lv_aload_n hx hb dX2_parts_35 rfl (lv_at hl 0 rfl) ?_
          refine m_get hx hb hts hown hK hH 40 (by decide) q1492 rfl (v := .ref (o + 52)) rfl dX2_parts_36 ?_
          refine lv_iload hx hb dX2_parts_39 (lv_at hl 4 rfl) ?_
          refine m_iald (n := 10) (j := h9) (v := nI (hs.getD h9 0)) hx hb hK hH (by decide) rfl (by first | omega | (refine Nat.lt_of_lt_of_le (Nat.mod_lt _ ?_) ?_ <;> omega)) (by decide) (hpt.2.2.2 h9 (by omega)) dX2_parts_41 ?_
          refine lv_istore (lv' := [(5, .int (nI (hs.getD h9 0))), (0, .ref o), (1, .int (nI k)), (2, .int (nI hs.length)), (3, .int (nI most)), (4, .int (nI h9))]) hx hb dX2_parts_42 hl (by decide) rfl (fun ls hl => ?_)
          refine lv_aload_n hx hb dX2_parts_44 rfl (lv_at hl 1 rfl) ?_
          refine m_get hx hb hts hown hK hH 40 (by decide) q1492 rfl (v := .ref (o + 52)) rfl dX2_parts_45 ?_
          refine lv_iload hx hb dX2_parts_48 (lv_at hl 5 rfl) ?_
          refine lv_iload hx hb dX2_parts_50 (lv_at hl 0 rfl) ?_
          refine lv_iconst (v := nI 1) hx hb dX2_parts_52 (by decide) ?_
          refine lv_aload_n hx hb dX2_parts_53 rfl (lv_at hl 1 rfl) ?_
          refine m_get hx hb hts hown hK hH 41 (by decide) q1493 rfl (v := .ref (o + 53)) rfl dX2_parts_54 ?_
          refine lv_iload_n hx hb dX2_parts_57 rfl (lv_at hl 2 rfl) ?_
          refine m_iald (n := 10) (j := k) (v := nI (mem.getD k 0)) hx hb hK hH (by decide) rfl (by first | omega | (refine Nat.lt_of_lt_of_le (Nat.mod_lt _ ?_) ?_ <;> omega)) (by decide) (hpt.2.1 k (by omega)) dX2_parts_58 ?_
          refine lv_ishl hx hb dX2_parts_59 ?_
          refine lv_top (y := nI (2 ^ (mem.getD k 0))) (bi_shl1 (by first | omega | (refine Nat.lt_of_lt_of_le (Nat.mod_lt _ ?_) ?_ <;> omega))) ?_
          refine lv_ior hx hb dX2_parts_60 ?_
          refine lv_top (y := nI ((hs.getD h9 0) ||| (2 ^ (mem.getD k 0)))) (bi_or _ _) ?_
          refine m_iast (n := 10) (j := h9) hx hb hK hH hS (by decide) rfl (by first | omega | (refine Nat.lt_of_lt_of_le (Nat.mod_lt _ ?_) ?_ <;> omega)) (by decide) dX2_parts_61 (fun H locs hH hS => ?_)
          have hM := hM.vS (k := 52) rfl h9 (nI ((hs.getD h9 0) ||| (2 ^ (mem.getD k 0))))
          refine lv_aload_n hx hb dX2_parts_62 rfl (lv_at hl 1 rfl) ?_
          refine m_get hx hb hts hown hK hH 39 (by decide) q1491 rfl (v := .ref (o + 51)) rfl dX2_parts_63 ?_
          refine lv_aload_n hx hb dX2_parts_66 rfl (lv_at hl 1 rfl) ?_
          refine m_get hx hb hts hown hK hH 41 (by decide) q1493 rfl (v := .ref (o + 53)) rfl dX2_parts_67 ?_
          refine lv_iload_n hx hb dX2_parts_70 rfl (lv_at hl 2 rfl) ?_
          refine m_iald (n := 10) (j := k) (v := nI (mem.getD k 0)) hx hb hK hH (by decide) rfl (by first | omega | (refine Nat.lt_of_lt_of_le (Nat.mod_lt _ ?_) ?_ <;> omega)) (by decide) ((congrFun (vset_off _ _ (by decide)) _).trans (hpt.2.1 k (by omega))) dX2_parts_71 ?_
          refine lv_iload hx hb dX2_parts_72 (lv_at hl 5 rfl) ?_
          refine m_iast (n := 10) (j := (mem.getD k 0)) hx hb hK hH hS (by decide) rfl (by first | omega | (refine Nat.lt_of_lt_of_le (Nat.mod_lt _ ?_) ?_ <;> omega)) (by decide) dX2_parts_74 (fun H locs hH hS => ?_)
          have hM := hM.vS (k := 51) rfl (mem.getD k 0) (nI h9)
          refine lv_aload_n hx hb dX2_parts_75 rfl (lv_at hl 1 rfl) ?_
          refine m_get hx hb hts hown hK hH 42 (by decide) q1494 rfl (v := .ref (o + 54)) rfl dX2_parts_76 ?_
          refine lv_aload_n hx hb dX2_parts_79 rfl (lv_at hl 1 rfl) ?_
          refine m_get hx hb hts hown hK hH 40 (by decide) q1492 rfl (v := .ref (o + 52)) rfl dX2_parts_80 ?_
          refine lv_iload hx hb dX2_parts_83 (lv_at hl 5 rfl) ?_
          refine m_iald (n := 10) (j := h9) (v := nI (hs.getD h9 0 ||| 2 ^ (mem.getD k 0))) hx hb hK hH (by decide) rfl (by first | omega | (refine Nat.lt_of_lt_of_le (Nat.mod_lt _ ?_) ?_ <;> omega)) (by decide) ((congrFun (vset_off _ _ (by decide)) _).trans (vset_self _ _ _ _)) dX2_parts_85 ?_
          refine m_zald (n := 1024) (j := (hs.getD h9 0 ||| 2 ^ (mem.getD k 0))) (v := zI (Qt (hs.getD h9 0 ||| 2 ^ (mem.getD k 0)))) hx hb hK hH (by decide) rfl (Nat.lt_of_lt_of_le hho.1 hp10) (by decide) ((congrFun (vset_off _ _ (by decide)) _).trans ((congrFun (vset_off _ _ (by decide)) _).trans (hpt.2.2.1 _ hho.1))) dX2_parts_86 ?_
          refine lvB_eq (tgt := 111) hx hb dX2_parts_87 (by decide) (fun cq => ?_) (fun cq => ?_)
          · refine lv_aload_n hx hb dX2_parts_111 rfl (lv_at hl 1 rfl) ?_
            refine m_get hx hb hts hown hK hH 40 (by decide) q1492 rfl (v := .ref (o + 52)) rfl dX2_parts_112 ?_
            refine lv_iload hx hb dX2_parts_115 (lv_at hl 5 rfl) ?_
            refine lv_iload hx hb dX2_parts_117 (lv_at hl 0 rfl) ?_
            refine m_iast (n := 10) (j := h9) hx hb hK hH hS (by decide) rfl (by first | omega | (refine Nat.lt_of_lt_of_le (Nat.mod_lt _ ?_) ?_ <;> omega)) (by decide) dX2_parts_119 (fun H locs hH hS => ?_)
            have hM := hM.vS (k := 52) rfl h9 (nI (hs.getD h9 0))
            refine lv_iinc (v := nI (h9 + 1)) (lv' := [(4, .int (nI (h9 + 1))), (5, .int (nI (hs.getD h9 0))), (0, .ref o), (1, .int (nI k)), (2, .int (nI hs.length)), (3, .int (nI most))]) hx hb dX2_parts_120 hl (k := 5) rfl (nI_add h9 1) (by decide) rfl (fun ls hl => ?_)
            refine lv_goto (tgt := 13) hx hb dX2_parts_123 (by decide) ?_
            exact ih13 (h9 + 1) _ (by omega) H locs ls ⟨up_none hno (by unfold prtT; rw [cq]; rfl), pt_back (pt_push hpt (by omega)) (by omega), fun g hg => by rw [vset_off _ _ (by decide), vset_ne _ _ (pt_off (by omega) hg).1, vset_off _ _ (by decide)]; exact h51 g hg, hM, ((hkp.vs (by decide) _ _).vs (by decide) _ _).vs (by decide) _ _, by omega, hH, hS, lv_sub hl [2, 3, 4, 5, 0] rfl⟩
          · have hpt2 : ptI nn mem (pushH hs h9 (hs.getD h9 0 ||| 2 ^ (mem.getD k 0))) Qt I (vset (vset U 52 h9 (nI (hs.getD h9 0 ||| 2 ^ (mem.getD k 0)))) 51 (mem.getD k 0) (nI h9)) := pt_push hpt (by omega)
            refine lv_aload_n hx hb dX2_parts_90 rfl (lv_at hl 1 rfl) ?_
            refine lv_iload_n hx hb dX2_parts_91 rfl (lv_at hl 2 rfl) ?_
            refine lv_iconst (v := nI 1) hx hb dX2_parts_92 (by decide) ?_
            refine lv_iadd hx hb dX2_parts_93 ?_
            refine lv_top (y := nI (k + 1)) (nI_add _ _) ?_
            refine lv_iload_n hx hb dX2_parts_94 rfl (lv_at hl 3 rfl) ?_
            refine lv_iload hx hb dX2_parts_95 (lv_at hl 5 rfl) ?_
            refine lv_iconst (v := nI 1) hx hb dX2_parts_97 (by decide) ?_
            refine lv_iadd hx hb dX2_parts_98 ?_
            refine lv_top (y := nI (h9 + 1)) (nI_add _ _) ?_
            refine va_mmax hx hb (hml.trans hl.1.symm) hown (hts _ q1839) (hts _ q409) (hts _ q114) (hts _ q410) (by first | decide | (simp [rmk, Value.category]; done) | (simp [rmk, Value.category]; omega)) (by first | decide | (simp [rmk, Value.category]; done) | (simp [rmk, Value.category]; omega)) (by first | decide | (simp [rmk, Value.category]; done) | (simp [rmk, Value.category]; omega)) (by first | decide | (simp [rmk, Value.category]; done) | (simp [rmk, Value.category]; omega)) dX2_parts_99 ?_
            refine lv_top (y := nI ((pushH hs h9 (hs.getD h9 0 ||| 2 ^ (mem.getD k 0))).length)) ((i_maxN (by omega) (by omega)).trans (congrArg nI (pushH_len (by omega)).symm)) ?_
            refine lv_iload_n hx hb dX2_parts_102 rfl (lv_at hl 4 rfl) ?_
            refine hp_callV (As := [.int (nI (k + 1)), .int (nI ((pushH hs h9 (hs.getD h9 0 ||| 2 ^ (mem.getD k 0))).length)), .int (nI most)]) (rest := []) hx hb hml hown hts hPB hK hH hS (ih (mem.length - (k + 1)) (by omega) (k := k + 1) (hs := (pushH hs h9 (hs.getD h9 0 ||| 2 ^ (mem.getD k 0)))) hM hpt2 (by omega) hho.2 (by rw [pushH_len (by omega)]; omega) rfl) mset_o rfl rfl 3 (lw_V q1927 q1929 qs92 q107 q1930) (by decide +kernel) ⟨rfl, rfl⟩ (by simp only [rmk]; omega) rfl hl.1 rfl (Nat.le_of_ble_eq_true rfl) (by first | decide | (simp [rmk, Value.category]; done) | (simp [rmk, Value.category]; omega)) dX2_parts_103 (fun v1 h3 H locs hp2 _ hH hS => ?_)
            obtain ⟨rfl, U5, rfl, hM, hkP, hpe⟩ := hp2
            refine lvB_eq (tgt := 111) hx hb dX2_parts_106 (by decide) (fun cr => ?_) (fun cr => ?_)
            · have hnn := Option.isSome_eq_false_iff.mp cr
              rw [Option.isNone_iff_eq_none] at hnn
              rw [hnn] at hpe
              refine lv_aload_n hx hb dX2_parts_111 rfl (lv_at hl 1 rfl) ?_
              refine m_get hx hb hts hown hK hH 40 (by decide) q1492 rfl (v := .ref (o + 52)) rfl dX2_parts_112 ?_
              refine lv_iload hx hb dX2_parts_115 (lv_at hl 5 rfl) ?_
              refine lv_iload hx hb dX2_parts_117 (lv_at hl 0 rfl) ?_
              refine m_iast (n := 10) (j := h9) hx hb hK hH hS (by decide) rfl (by first | omega | (refine Nat.lt_of_lt_of_le (Nat.mod_lt _ ?_) ?_ <;> omega)) (by decide) dX2_parts_119 (fun H locs hH hS => ?_)
              have hM := hM.vS (k := 52) rfl h9 (nI (hs.getD h9 0))
              refine lv_iinc (v := nI (h9 + 1)) (lv' := [(4, .int (nI (h9 + 1))), (5, .int (nI (hs.getD h9 0))), (0, .ref o), (1, .int (nI k)), (2, .int (nI hs.length)), (3, .int (nI most))]) hx hb dX2_parts_120 hl (k := 5) rfl (nI_add h9 1) (by decide) rfl (fun ls hl => ?_)
              refine lv_goto (tgt := 13) hx hb dX2_parts_123 (by decide) ?_
              exact ih13 (h9 + 1) _ (by omega) H locs ls ⟨up_none hno (by unfold prtT; rw [cq, if_pos rfl, hnn]; rfl), pt_back (pt_of hpt2 hkP hpe.2) (by omega), fun g hg => by rw [vset_off _ _ (by decide), hpe.1 g (pt_off (by omega) hg).2, vset_ne _ _ (pt_off (by omega) hg).1, vset_off _ _ (by decide)]; exact h51 g hg, hM, (((hkp.vs (by decide) _ _).vs (by decide) _ _).tr hkP).vs (by decide) _ _, by omega, hH, hS, lv_sub hl [2, 3, 4, 5, 0] rfl⟩
            · obtain ⟨⟨r, a⟩, err⟩ := Option.isSome_iff_exists.mp cr
              refine lv_iconst (v := nI 1) hx hb dX2_parts_109 (by decide) ?_
              exact hp_zret hx hb hr rfl hlocks hH hS (by decide) (by decide) dX2_parts_110 (⟨by rw [pt_yes (by omega) (by omega) hno cq err]; rfl, _, rfl, hM, ((hkp.vs (by decide) _ _).vs (by decide) _ _).tr hkP, by rw [pt_yes (by omega) (by omega) hno cq err]; rw [err] at hpe; exact pt_succ hmem.2.2 (by omega) hpe h51⟩)
        · refine lv_iconst (v := nI 0) hx hb dX2_parts_31 (by decide) ?_
          refine lv_goto (tgt := 42) hx hb dX2_parts_32 (by decide) ?_
          refine lv_top (y := nI (hs.getD h9 0)) (by rw [ch]; simp) ?_
          refine lv_istore (lv' := [(5, .int (nI (hs.getD h9 0))), (0, .ref o), (1, .int (nI k)), (2, .int (nI hs.length)), (3, .int (nI most)), (4, .int (nI h9))]) hx hb dX2_parts_42 hl (by decide) rfl (fun ls hl => ?_)
          refine lv_aload_n hx hb dX2_parts_44 rfl (lv_at hl 1 rfl) ?_
          refine m_get hx hb hts hown hK hH 40 (by decide) q1492 rfl (v := .ref (o + 52)) rfl dX2_parts_45 ?_
          refine lv_iload hx hb dX2_parts_48 (lv_at hl 5 rfl) ?_
          refine lv_iload hx hb dX2_parts_50 (lv_at hl 0 rfl) ?_
          refine lv_iconst (v := nI 1) hx hb dX2_parts_52 (by decide) ?_
          refine lv_aload_n hx hb dX2_parts_53 rfl (lv_at hl 1 rfl) ?_
          refine m_get hx hb hts hown hK hH 41 (by decide) q1493 rfl (v := .ref (o + 53)) rfl dX2_parts_54 ?_
          refine lv_iload_n hx hb dX2_parts_57 rfl (lv_at hl 2 rfl) ?_
          refine m_iald (n := 10) (j := k) (v := nI (mem.getD k 0)) hx hb hK hH (by decide) rfl (by first | omega | (refine Nat.lt_of_lt_of_le (Nat.mod_lt _ ?_) ?_ <;> omega)) (by decide) (hpt.2.1 k (by omega)) dX2_parts_58 ?_
          refine lv_ishl hx hb dX2_parts_59 ?_
          refine lv_top (y := nI (2 ^ (mem.getD k 0))) (bi_shl1 (by first | omega | (refine Nat.lt_of_lt_of_le (Nat.mod_lt _ ?_) ?_ <;> omega))) ?_
          refine lv_ior hx hb dX2_parts_60 ?_
          refine lv_top (y := nI ((hs.getD h9 0) ||| (2 ^ (mem.getD k 0)))) (bi_or _ _) ?_
          refine m_iast (n := 10) (j := h9) hx hb hK hH hS (by decide) rfl (by first | omega | (refine Nat.lt_of_lt_of_le (Nat.mod_lt _ ?_) ?_ <;> omega)) (by decide) dX2_parts_61 (fun H locs hH hS => ?_)
          have hM := hM.vS (k := 52) rfl h9 (nI ((hs.getD h9 0) ||| (2 ^ (mem.getD k 0))))
          refine lv_aload_n hx hb dX2_parts_62 rfl (lv_at hl 1 rfl) ?_
          refine m_get hx hb hts hown hK hH 39 (by decide) q1491 rfl (v := .ref (o + 51)) rfl dX2_parts_63 ?_
          refine lv_aload_n hx hb dX2_parts_66 rfl (lv_at hl 1 rfl) ?_
          refine m_get hx hb hts hown hK hH 41 (by decide) q1493 rfl (v := .ref (o + 53)) rfl dX2_parts_67 ?_
          refine lv_iload_n hx hb dX2_parts_70 rfl (lv_at hl 2 rfl) ?_
          refine m_iald (n := 10) (j := k) (v := nI (mem.getD k 0)) hx hb hK hH (by decide) rfl (by first | omega | (refine Nat.lt_of_lt_of_le (Nat.mod_lt _ ?_) ?_ <;> omega)) (by decide) ((congrFun (vset_off _ _ (by decide)) _).trans (hpt.2.1 k (by omega))) dX2_parts_71 ?_
          refine lv_iload hx hb dX2_parts_72 (lv_at hl 5 rfl) ?_
          refine m_iast (n := 10) (j := (mem.getD k 0)) hx hb hK hH hS (by decide) rfl (by first | omega | (refine Nat.lt_of_lt_of_le (Nat.mod_lt _ ?_) ?_ <;> omega)) (by decide) dX2_parts_74 (fun H locs hH hS => ?_)
          have hM := hM.vS (k := 51) rfl (mem.getD k 0) (nI h9)
          refine lv_aload_n hx hb dX2_parts_75 rfl (lv_at hl 1 rfl) ?_
          refine m_get hx hb hts hown hK hH 42 (by decide) q1494 rfl (v := .ref (o + 54)) rfl dX2_parts_76 ?_
          refine lv_aload_n hx hb dX2_parts_79 rfl (lv_at hl 1 rfl) ?_
          refine m_get hx hb hts hown hK hH 40 (by decide) q1492 rfl (v := .ref (o + 52)) rfl dX2_parts_80 ?_
          refine lv_iload hx hb dX2_parts_83 (lv_at hl 5 rfl) ?_
          refine m_iald (n := 10) (j := h9) (v := nI (hs.getD h9 0 ||| 2 ^ (mem.getD k 0))) hx hb hK hH (by decide) rfl (by first | omega | (refine Nat.lt_of_lt_of_le (Nat.mod_lt _ ?_) ?_ <;> omega)) (by decide) ((congrFun (vset_off _ _ (by decide)) _).trans (vset_self _ _ _ _)) dX2_parts_85 ?_
          refine m_zald (n := 1024) (j := (hs.getD h9 0 ||| 2 ^ (mem.getD k 0))) (v := zI (Qt (hs.getD h9 0 ||| 2 ^ (mem.getD k 0)))) hx hb hK hH (by decide) rfl (Nat.lt_of_lt_of_le hho.1 hp10) (by decide) ((congrFun (vset_off _ _ (by decide)) _).trans ((congrFun (vset_off _ _ (by decide)) _).trans (hpt.2.2.1 _ hho.1))) dX2_parts_86 ?_
          refine lvB_eq (tgt := 111) hx hb dX2_parts_87 (by decide) (fun cq => ?_) (fun cq => ?_)
          · refine lv_aload_n hx hb dX2_parts_111 rfl (lv_at hl 1 rfl) ?_
            refine m_get hx hb hts hown hK hH 40 (by decide) q1492 rfl (v := .ref (o + 52)) rfl dX2_parts_112 ?_
            refine lv_iload hx hb dX2_parts_115 (lv_at hl 5 rfl) ?_
            refine lv_iload hx hb dX2_parts_117 (lv_at hl 0 rfl) ?_
            refine m_iast (n := 10) (j := h9) hx hb hK hH hS (by decide) rfl (by first | omega | (refine Nat.lt_of_lt_of_le (Nat.mod_lt _ ?_) ?_ <;> omega)) (by decide) dX2_parts_119 (fun H locs hH hS => ?_)
            have hM := hM.vS (k := 52) rfl h9 (nI (hs.getD h9 0))
            refine lv_iinc (v := nI (h9 + 1)) (lv' := [(4, .int (nI (h9 + 1))), (5, .int (nI (hs.getD h9 0))), (0, .ref o), (1, .int (nI k)), (2, .int (nI hs.length)), (3, .int (nI most))]) hx hb dX2_parts_120 hl (k := 5) rfl (nI_add h9 1) (by decide) rfl (fun ls hl => ?_)
            refine lv_goto (tgt := 13) hx hb dX2_parts_123 (by decide) ?_
            exact ih13 (h9 + 1) _ (by omega) H locs ls ⟨up_none hno (by unfold prtT; rw [cq]; rfl), pt_back (pt_push hpt (by omega)) (by omega), fun g hg => by rw [vset_off _ _ (by decide), vset_ne _ _ (pt_off (by omega) hg).1, vset_off _ _ (by decide)]; exact h51 g hg, hM, ((hkp.vs (by decide) _ _).vs (by decide) _ _).vs (by decide) _ _, by omega, hH, hS, lv_sub hl [2, 3, 4, 5, 0] rfl⟩
          · have hpt2 : ptI nn mem (pushH hs h9 (hs.getD h9 0 ||| 2 ^ (mem.getD k 0))) Qt I (vset (vset U 52 h9 (nI (hs.getD h9 0 ||| 2 ^ (mem.getD k 0)))) 51 (mem.getD k 0) (nI h9)) := pt_push hpt (by omega)
            refine lv_aload_n hx hb dX2_parts_90 rfl (lv_at hl 1 rfl) ?_
            refine lv_iload_n hx hb dX2_parts_91 rfl (lv_at hl 2 rfl) ?_
            refine lv_iconst (v := nI 1) hx hb dX2_parts_92 (by decide) ?_
            refine lv_iadd hx hb dX2_parts_93 ?_
            refine lv_top (y := nI (k + 1)) (nI_add _ _) ?_
            refine lv_iload_n hx hb dX2_parts_94 rfl (lv_at hl 3 rfl) ?_
            refine lv_iload hx hb dX2_parts_95 (lv_at hl 5 rfl) ?_
            refine lv_iconst (v := nI 1) hx hb dX2_parts_97 (by decide) ?_
            refine lv_iadd hx hb dX2_parts_98 ?_
            refine lv_top (y := nI (h9 + 1)) (nI_add _ _) ?_
            refine va_mmax hx hb (hml.trans hl.1.symm) hown (hts _ q1839) (hts _ q409) (hts _ q114) (hts _ q410) (by first | decide | (simp [rmk, Value.category]; done) | (simp [rmk, Value.category]; omega)) (by first | decide | (simp [rmk, Value.category]; done) | (simp [rmk, Value.category]; omega)) (by first | decide | (simp [rmk, Value.category]; done) | (simp [rmk, Value.category]; omega)) (by first | decide | (simp [rmk, Value.category]; done) | (simp [rmk, Value.category]; omega)) dX2_parts_99 ?_
            refine lv_top (y := nI ((pushH hs h9 (hs.getD h9 0 ||| 2 ^ (mem.getD k 0))).length)) ((i_maxN (by omega) (by omega)).trans (congrArg nI (pushH_len (by omega)).symm)) ?_
            refine lv_iload_n hx hb dX2_parts_102 rfl (lv_at hl 4 rfl) ?_
            refine hp_callV (As := [.int (nI (k + 1)), .int (nI ((pushH hs h9 (hs.getD h9 0 ||| 2 ^ (mem.getD k 0))).length)), .int (nI most)]) (rest := []) hx hb hml hown hts hPB hK hH hS (ih (mem.length - (k + 1)) (by omega) (k := k + 1) (hs := (pushH hs h9 (hs.getD h9 0 ||| 2 ^ (mem.getD k 0)))) hM hpt2 (by omega) hho.2 (by rw [pushH_len (by omega)]; omega) rfl) mset_o rfl rfl 3 (lw_V q1927 q1929 qs92 q107 q1930) (by decide +kernel) ⟨rfl, rfl⟩ (by simp only [rmk]; omega) rfl hl.1 rfl (Nat.le_of_ble_eq_true rfl) (by first | decide | (simp [rmk, Value.category]; done) | (simp [rmk, Value.category]; omega)) dX2_parts_103 (fun v4 h6 H locs hp5 _ hH hS => ?_)
            obtain ⟨rfl, U5, rfl, hM, hkP, hpe⟩ := hp5
            refine lvB_eq (tgt := 111) hx hb dX2_parts_106 (by decide) (fun cr => ?_) (fun cr => ?_)
            · have hnn := Option.isSome_eq_false_iff.mp cr
              rw [Option.isNone_iff_eq_none] at hnn
              rw [hnn] at hpe
              refine lv_aload_n hx hb dX2_parts_111 rfl (lv_at hl 1 rfl) ?_
              refine m_get hx hb hts hown hK hH 40 (by decide) q1492 rfl (v := .ref (o + 52)) rfl dX2_parts_112 ?_
              refine lv_iload hx hb dX2_parts_115 (lv_at hl 5 rfl) ?_
              refine lv_iload hx hb dX2_parts_117 (lv_at hl 0 rfl) ?_
              refine m_iast (n := 10) (j := h9) hx hb hK hH hS (by decide) rfl (by first | omega | (refine Nat.lt_of_lt_of_le (Nat.mod_lt _ ?_) ?_ <;> omega)) (by decide) dX2_parts_119 (fun H locs hH hS => ?_)
              have hM := hM.vS (k := 52) rfl h9 (nI (hs.getD h9 0))
              refine lv_iinc (v := nI (h9 + 1)) (lv' := [(4, .int (nI (h9 + 1))), (5, .int (nI (hs.getD h9 0))), (0, .ref o), (1, .int (nI k)), (2, .int (nI hs.length)), (3, .int (nI most))]) hx hb dX2_parts_120 hl (k := 5) rfl (nI_add h9 1) (by decide) rfl (fun ls hl => ?_)
              refine lv_goto (tgt := 13) hx hb dX2_parts_123 (by decide) ?_
              exact ih13 (h9 + 1) _ (by omega) H locs ls ⟨up_none hno (by unfold prtT; rw [cq, if_pos rfl, hnn]; rfl), pt_back (pt_of hpt2 hkP hpe.2) (by omega), fun g hg => by rw [vset_off _ _ (by decide), hpe.1 g (pt_off (by omega) hg).2, vset_ne _ _ (pt_off (by omega) hg).1, vset_off _ _ (by decide)]; exact h51 g hg, hM, (((hkp.vs (by decide) _ _).vs (by decide) _ _).tr hkP).vs (by decide) _ _, by omega, hH, hS, lv_sub hl [2, 3, 4, 5, 0] rfl⟩
            · obtain ⟨⟨r, a⟩, err⟩ := Option.isSome_iff_exists.mp cr
              refine lv_iconst (v := nI 1) hx hb dX2_parts_109 (by decide) ?_
              exact hp_zret hx hb hr rfl hlocks hH hS (by decide) (by decide) dX2_parts_110 (⟨by rw [pt_yes (by omega) (by omega) hno cq err]; rfl, _, rfl, hM, ((hkp.vs (by decide) _ _).vs (by decide) _ _).tr hkP, by rw [pt_yes (by omega) (by omega) hno cq err]; rw [err] at hpe; exact pt_succ hmem.2.2 (by omega) hpe h51⟩)
  · refine lv_iconst (v := nI 1) hx hb dX2_parts_8 (by decide) ?_
    exact hp_zret hx hb hr rfl hlocks hH hS (by decide) (by decide) dX2_parts_9 (⟨by rw [pt_done ck]; rfl, V, rfl, hM, kp.rf, by rw [pt_done ck]; exact ⟨fun _ _ => rfl, hptI.2.2.2, fun i hi => absurd hi (by omega)⟩⟩)
end MODEL
