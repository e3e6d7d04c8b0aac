/-! by gen/mspec.py -/
set_option maxRecDepth 100000
section MODEL
variable {l : Launch} {s0 : State} {D : va_G} {K : Nat → ClassId} {wd : Nat → Nat} {o : Nat} {h : Hp} {I : Nat → Int32} {V : Nat → Nat → Int32} {J : Nat → Nat → Int64}
set_option maxHeartbeats 4000000 in
theorem mc_minded (hK0 : va_K D CL (TYS K) s0) {av : Nat → Nat} {ed mi : Nat} (hG : GX s0 wd av ed mi) {S : Ab} (hO : SOK S) {la tg tgs j g : Nat} {L : List Nat} {T : List (Nat × Nat × Nat × Nat)} (hAl : AL (K 4) ed h la tg L j) (hSl : SLO S tgs h L T) (hsk : ∀ t ∈ T, slK S t) (hTl : T.length ≤ 1080) (hg : g < 10) : Met l yX0_minded (ws_ yX0_minded cX0_minded 5 ((Option.some Jvm.ClassFile.FieldType.int))) (rmk 3 0 0) (va_Pc [.ref la, .int (nI g)] (PB s0 D CL (h))) (QR s0 D CL (fun v h1 => v = some (.int (nI (mnd S T g))) ∧ h1 = h)) 0 0 (zA s0) := by
  refine hp_met (by decide) (Nat.le_of_ble_eq_true rfl) hK0 ?_
  intro p e s m below meth cd ls hx hb hr hlocks hml hown hnm hts hK hPB hl hS hH hA
  have hl : lv_has ls 5 [(0, .ref la), (1, .int (nI g))] := hl
  have hown : s.vm.findClass RX0 = some m.cls := hown
  have hn := hO.n
  refine lv_iconst (v := nI 0) hx hb dX0_minded_0 (by decide) ?_
  refine lv_istore_n (lv' := [(2, .int (nI 0)), (0, .ref la), (1, .int (nI g))]) hx hb dX0_minded_1 rfl hl (by decide) rfl (fun ls hl => ?_)
  refine lv_iconst (v := nI 0) hx hb dX0_minded_2 (by decide) ?_
  refine lv_istore_n (lv' := [(3, .int (nI 0)), (2, .int (nI 0)), (0, .ref la), (1, .int (nI g))]) hx hb dX0_minded_3 rfl hl (by decide) rfl (fun ls hl => ?_)
  refine w_loop1 (fun (k : Nat) => T.length - k) (fun (k : Nat) H locs ls => (k ≤ T.length) ∧ HP D CL (zA s0) h H ∧ va_S (zA s0) s.heap H locs ∧ lv_has ls 5 [(0, .ref la), (1, .int (nI g)), (2, .int (nI (mnd S (T.take k) g))), (3, .int (nI k))]) ?_ 0 ⟨Nat.zero_le _, hH, hS, lv_sub hl [2, 3, 1, 0] rfl⟩
  intro k ih4 H locs ls hP
  obtain ⟨hk, hH, hS, hl⟩ := hP
  have hml9 := mnd_t hO hsk g k hk
  refine lv_iload_n hx hb dX0_minded_4 rfl (lv_at hl 3 rfl) ?_
  refine lv_aload_n hx hb dX0_minded_5 rfl (lv_at hl 0 rfl) ?_
  refine hp_siz hx hb hml hown hts hPB hK0 hK hH hS hG hAl hSl.1 q807 (by first | decide | (simp only [rmk]; omega)) hl.1 rfl (Nat.le_of_ble_eq_true rfl) (by decide) dX0_minded_6 (fun H locs hH hS => ?_)
  refine lvN_ge (tgt := 80) hx hb (by first | omega | (refine Nat.lt_of_lt_of_le (Nat.mod_lt _ ?_) ?_ <;> omega)) (by first | omega | (refine Nat.lt_of_lt_of_le (Nat.mod_lt _ ?_) ?_ <;> omega)) dX0_minded_9 (by decide) (fun c1 => ?_) (fun c1 => ?_)
  · refine lv_iload_n hx hb dX0_minded_80 rfl (lv_at hl 2 rfl) ?_
    exact hp_iret hx hb hr hlocks hH hS (by decide) (by decide) dX0_minded_81 (⟨congrArg some (congrArg Value.int (by rw [show k = T.length by omega, List.take_length])), rfl⟩)
  · refine lv_aload_n hx hb dX0_minded_12 rfl (lv_at hl 0 rfl) ?_
    refine lv_iload_n hx hb dX0_minded_13 rfl (lv_at hl 3 rfl) ?_
    refine hp_lget hx hb hml hown hts hPB hK0 hK hH hS hG hAl (k9 := k) (by rw [hSl.1]; omega) q808 (by first | decide | (simp only [rmk]; omega)) hl.1 rfl (Nat.le_of_ble_eq_true rfl) (by decide) dX0_minded_14 (fun H locs hH hS => ?_)
    have hk2 := hsk _ (t4_mem (T := T) (k := k) (by omega))
    have hhk2 := hO.wt hk2.1
    obtain ⟨ghk2a, ghk2b, ghk2c, ghk2d, ghk2e⟩ := hk2
    refine va_castE hx hb hown (hts _ q1056) (hp_rec hK hH (hSl.2 k (by rw [hSl.1]; omega)) rfl) dX0_minded_17 ?_
    refine lv_astore (lv' := [(4, .ref (L.getD k 0)), (0, .ref la), (1, .int (nI g)), (2, .int (nI (mnd S (T.take k) g))), (3, .int (nI k))]) hx hb dX0_minded_20 hl (by decide) rfl (fun ls hl => ?_)
    have hwa := w_and _ (hsk _ (t4_mem (show k < T.length by omega))).2.2.2.2
    refine lv_iload_n hx hb dX0_minded_22 rfl (lv_at hl 3 rfl) ?_
    refine lv_aload hx hb dX0_minded_23 (lv_at hl 0 rfl) ?_
    refine hp_getN (C := RX19) (T := TX19) (N := 5) (v := .int (nI ((T.getD k t4).2.1))) hx hb hts in_X19 hown hK hH (hSl.2 k (by rw [hSl.1]; omega)) rfl 1 (by decide) (hG.nf hPB q1065) (fun _ z => z) rfl dX0_minded_25 ?_
    refine lv_iload_n hx hb dX0_minded_28 rfl (lv_at hl 2 rfl) ?_
    refine lvN_ne (tgt := 43) hx hb (by first | omega | (refine Nat.lt_of_lt_of_le (Nat.mod_lt _ ?_) ?_ <;> omega)) (by first | omega | (refine Nat.lt_of_lt_of_le (Nat.mod_lt _ ?_) ?_ <;> omega)) dX0_minded_29 (by decide) (fun c1 => ?_) (fun c1 => ?_)
    · refine lv_aload hx hb dX0_minded_43 (lv_at hl 0 rfl) ?_
      refine hp_getN (C := RX19) (T := TX19) (N := 5) (v := .int (nI ((T.getD k t4).2.2.1))) hx hb hts in_X19 hown hK hH (hSl.2 k (by rw [hSl.1]; omega)) rfl 2 (by decide) (hG.nf hPB q1067) (fun _ z => z) rfl dX0_minded_45 ?_
      refine lv_iload_n hx hb dX0_minded_48 rfl (lv_at hl 2 rfl) ?_
      refine lvN_ne (tgt := 71) hx hb (by first | omega | (refine Nat.lt_of_lt_of_le (Nat.mod_lt _ ?_) ?_ <;> omega)) (by first | omega | (refine Nat.lt_of_lt_of_le (Nat.mod_lt _ ?_) ?_ <;> omega)) dX0_minded_49 (by decide) (fun c3 => ?_) (fun c3 => ?_)
      · refine lv_iconst (v := nI 0) hx hb dX0_minded_71 (by decide) ?_
        refine lv_iadd hx hb dX0_minded_72 ?_
        refine lv_top (y := nI (mnd S (T.take (k + 1)) g)) ((nI_add _ _).trans (congrArg nI (by rw [mnd_take (show k < T.length by omega), mnd1_f (hsk _ (t4_mem (show k < T.length by omega))) (Or.inl c1) (Or.inl c3)]))) ?_
        refine lv_istore_n (lv' := [(2, .int (nI (mnd S (T.take (k + 1)) g))), (4, .ref (L.getD k 0)), (0, .ref la), (1, .int (nI g)), (3, .int (nI k))]) hx hb dX0_minded_73 rfl hl (by decide) rfl (fun ls hl => ?_)
        refine lv_iinc (v := nI (k + 1)) (lv' := [(3, .int (nI (k + 1))), (2, .int (nI (mnd S (T.take (k + 1)) g))), (4, .ref (L.getD k 0)), (0, .ref la), (1, .int (nI g))]) hx hb dX0_minded_74 hl (k := 4) rfl (nI_add k 1) (by decide) rfl (fun ls hl => ?_)
        refine lv_goto (tgt := 4) hx hb dX0_minded_77 (by decide) ?_
        exact ih4 (k + 1) (by omega) H locs ls ⟨by omega, hH, hS, lv_sub hl [3, 4, 1, 0] rfl⟩
      · refine lv_aload hx hb dX0_minded_52 (lv_at hl 0 rfl) ?_
        refine hp_getN (C := RX19) (T := TX19) (N := 5) (v := .int (nI ((T.getD k t4).2.2.2))) hx hb hts in_X19 hown hK hH (hSl.2 k (by rw [hSl.1]; omega)) rfl 4 (by decide) (hG.nf hPB q1071) (fun _ z => z) rfl dX0_minded_54 ?_
        refine lv_iconst (v := nI 2) hx hb dX0_minded_57 (by decide) ?_
        refine lv_iand hx hb dX0_minded_58 ?_
        refine lv_top (y := nI (((T.getD k t4).2.2.2) &&& 2)) (bi_and _ _) ?_
        refine lv_iconst (v := nI 2) hx hb dX0_minded_59 (by decide) ?_
        refine lvN_ne (tgt := 71) hx hb (by first | omega | (refine Nat.lt_of_lt_of_le (Nat.mod_lt _ ?_) ?_ <;> omega)) (by first | omega | (refine Nat.lt_of_lt_of_le (Nat.mod_lt _ ?_) ?_ <;> omega)) dX0_minded_60 (by decide) (fun c4 => ?_) (fun c4 => ?_)
        · refine lv_iconst (v := nI 0) hx hb dX0_minded_71 (by decide) ?_
          refine lv_iadd hx hb dX0_minded_72 ?_
          refine lv_top (y := nI (mnd S (T.take (k + 1)) g)) ((nI_add _ _).trans (congrArg nI (by rw [mnd_take (show k < T.length by omega), mnd1_f (hsk _ (t4_mem (show k < T.length by omega))) (Or.inl c1) (Or.inr c4)]))) ?_
          refine lv_istore_n (lv' := [(2, .int (nI (mnd S (T.take (k + 1)) g))), (4, .ref (L.getD k 0)), (0, .ref la), (1, .int (nI g)), (3, .int (nI k))]) hx hb dX0_minded_73 rfl hl (by decide) rfl (fun ls hl => ?_)
          refine lv_iinc (v := nI (k + 1)) (lv' := [(3, .int (nI (k + 1))), (2, .int (nI (mnd S (T.take (k + 1)) g))), (4, .ref (L.getD k 0)), (0, .ref la), (1, .int (nI g))]) hx hb dX0_minded_74 hl (k := 4) rfl (nI_add k 1) (by decide) rfl (fun ls hl => ?_)
          refine lv_goto (tgt := 4) hx hb dX0_minded_77 (by decide) ?_
          exact ih4 (k + 1) (by omega) H locs ls ⟨by omega, hH, hS, lv_sub hl [3, 4, 1, 0] rfl⟩
        · refine lv_aload hx hb dX0_minded_63 (lv_at hl 0 rfl) ?_
          refine hp_getN (C := RX19) (T := TX19) (N := 5) (v := .int (nI (aWt S (T.getD k t4).1))) hx hb hts in_X19 hown hK hH (hSl.2 k (by rw [hSl.1]; omega)) rfl 3 (by decide) (hG.nf hPB q1069) (fun _ z => z) rfl dX0_minded_65 ?_
          refine lv_goto (tgt := 72) hx hb dX0_minded_68 (by decide) ?_
          refine lv_iadd hx hb dX0_minded_72 ?_
          refine lv_top (y := nI (mnd S (T.take (k + 1)) g)) ((nI_add _ _).trans (congrArg nI (by rw [mnd_take (show k < T.length by omega), mnd1_t (hsk _ (t4_mem (show k < T.length by omega))) (Or.inr ⟨c3, c4⟩)]))) ?_
          refine lv_istore_n (lv' := [(2, .int (nI (mnd S (T.take (k + 1)) g))), (4, .ref (L.getD k 0)), (0, .ref la), (1, .int (nI g)), (3, .int (nI k))]) hx hb dX0_minded_73 rfl hl (by decide) rfl (fun ls hl => ?_)
          refine lv_iinc (v := nI (k + 1)) (lv' := [(3, .int (nI (k + 1))), (2, .int (nI (mnd S (T.take (k + 1)) g))), (4, .ref (L.getD k 0)), (0, .ref la), (1, .int (nI g))]) hx hb dX0_minded_74 hl (k := 4) rfl (nI_add k 1) (by decide) rfl (fun ls hl => ?_)
          refine lv_goto (tgt := 4) hx hb dX0_minded_77 (by decide) ?_
          exact ih4 (k + 1) (by omega) H locs ls ⟨by omega, hH, hS, lv_sub hl [3, 4, 1, 0] rfl⟩
    · refine lv_aload hx hb dX0_minded_32 (lv_at hl 0 rfl) ?_
      refine hp_getN (C := RX19) (T := TX19) (N := 5) (v := .int (nI ((T.getD k t4).2.2.2))) hx hb hts in_X19 hown hK hH (hSl.2 k (by rw [hSl.1]; omega)) rfl 4 (by decide) (hG.nf hPB q1071) (fun _ z => z) rfl dX0_minded_34 ?_
      refine lv_iconst (v := nI 1) hx hb dX0_minded_37 (by decide) ?_
      refine lv_iand hx hb dX0_minded_38 ?_
      refine lv_top (y := nI (((T.getD k t4).2.2.2) &&& 1)) (bi_and _ _) ?_
      refine lv_iconst (v := nI 1) hx hb dX0_minded_39 (by decide) ?_
      refine lvN_eq (tgt := 63) hx hb (by first | omega | (refine Nat.lt_of_lt_of_le (Nat.mod_lt _ ?_) ?_ <;> omega)) (by first | omega | (refine Nat.lt_of_lt_of_le (Nat.mod_lt _ ?_) ?_ <;> omega)) dX0_minded_40 (by decide) (fun c2 => ?_) (fun c2 => ?_)
      · refine lv_aload hx hb dX0_minded_63 (lv_at hl 0 rfl) ?_
        refine hp_getN (C := RX19) (T := TX19) (N := 5) (v := .int (nI (aWt S (T.getD k t4).1))) hx hb hts in_X19 hown hK hH (hSl.2 k (by rw [hSl.1]; omega)) rfl 3 (by decide) (hG.nf hPB q1069) (fun _ z => z) rfl dX0_minded_65 ?_
        refine lv_goto (tgt := 72) hx hb dX0_minded_68 (by decide) ?_
        refine lv_iadd hx hb dX0_minded_72 ?_
        refine lv_top (y := nI (mnd S (T.take (k + 1)) g)) ((nI_add _ _).trans (congrArg nI (by rw [mnd_take (show k < T.length by omega), mnd1_t (hsk _ (t4_mem (show k < T.length by omega))) (Or.inl ⟨c1, c2⟩)]))) ?_
        refine lv_istore_n (lv' := [(2, .int (nI (mnd S (T.take (k + 1)) g))), (4, .ref (L.getD k 0)), (0, .ref la), (1, .int (nI g)), (3, .int (nI k))]) hx hb dX0_minded_73 rfl hl (by decide) rfl (fun ls hl => ?_)
        refine lv_iinc (v := nI (k + 1)) (lv' := [(3, .int (nI (k + 1))), (2, .int (nI (mnd S (T.take (k + 1)) g))), (4, .ref (L.getD k 0)), (0, .ref la), (1, .int (nI g))]) hx hb dX0_minded_74 hl (k := 4) rfl (nI_add k 1) (by decide) rfl (fun ls hl => ?_)
        refine lv_goto (tgt := 4) hx hb dX0_minded_77 (by decide) ?_
        exact ih4 (k + 1) (by omega) H locs ls ⟨by omega, hH, hS, lv_sub hl [3, 4, 1, 0] rfl⟩
      · refine lv_aload hx hb dX0_minded_43 (lv_at hl 0 rfl) ?_
        refine hp_getN (C := RX19) (T := TX19) (N := 5) (v := .int (nI ((T.getD k t4).2.2.1))) hx hb hts in_X19 hown hK hH (hSl.2 k (by rw [hSl.1]; omega)) rfl 2 (by decide) (hG.nf hPB q1067) (fun _ z => z) rfl dX0_minded_45 ?_
        refine lv_iload_n hx hb dX0_minded_48 rfl (lv_at hl 2 rfl) ?_
        refine lvN_ne (tgt := 71) hx hb (by first | omega | (refine Nat.lt_of_lt_of_le (Nat.mod_lt _ ?_) ?_ <;> omega)) (by first | omega | (refine Nat.lt_of_lt_of_le (Nat.mod_lt _ ?_) ?_ <;> omega)) dX0_minded_49 (by decide) (fun c3 => ?_) (fun c3 => ?_)
        · refine lv_iconst (v := nI 0) hx hb dX0_minded_71 (by decide) ?_
          refine lv_iadd hx hb dX0_minded_72 ?_
          refine lv_top (y := nI (mnd S (T.take (k + 1)) g)) ((nI_add _ _).trans (congrArg nI (by rw [mnd_take (show k < T.length by omega), mnd1_f (hsk _ (t4_mem (show k < T.length by omega))) (Or.inr c2) (Or.inl c3)]))) ?_
          refine lv_istore_n (lv' := [(2, .int (nI (mnd S (T.take (k + 1)) g))), (4, .ref (L.getD k 0)), (0, .ref la), (1, .int (nI g)), (3, .int (nI k))]) hx hb dX0_minded_73 rfl hl (by decide) rfl (fun ls hl => ?_)
          refine lv_iinc (v := nI (k + 1)) (lv' := [(3, .int (nI (k + 1))), (2, .int (nI (mnd S (T.take (k + 1)) g))), (4, .ref (L.getD k 0)), (0, .ref la), (1, .int (nI g))]) hx hb dX0_minded_74 hl (k := 4) rfl (nI_add k 1) (by decide) rfl (fun ls hl => ?_)
          refine lv_goto (tgt := 4) hx hb dX0_minded_77 (by decide) ?_
          exact ih4 (k + 1) (by omega) H locs ls ⟨by omega, hH, hS, lv_sub hl [3, 4, 1, 0] rfl⟩
        · refine lv_aload hx hb dX0_minded_52 (lv_at hl 0 rfl) ?_
          refine hp_getN (C := RX19) (T := TX19) (N := 5) (v := .int (nI ((T.getD k t4).2.2.2))) hx hb hts in_X19 hown hK hH (hSl.2 k (by rw [hSl.1]; omega)) rfl 4 (by decide) (hG.nf hPB q1071) (fun _ z => z) rfl dX0_minded_54 ?_
          refine lv_iconst (v := nI 2) hx hb dX0_minded_57 (by decide) ?_
          refine lv_iand hx hb dX0_minded_58 ?_
          refine lv_top (y := nI (((T.getD k t4).2.2.2) &&& 2)) (bi_and _ _) ?_
          refine lv_iconst (v := nI 2) hx hb dX0_minded_59 (by decide) ?_
          refine lvN_ne (tgt := 71) hx hb (by first | omega | (refine Nat.lt_of_lt_of_le (Nat.mod_lt _ ?_) ?_ <;> omega)) (by first | omega | (refine Nat.lt_of_lt_of_le (Nat.mod_lt _ ?_) ?_ <;> omega)) dX0_minded_60 (by decide) (fun c4 => ?_) (fun c4 => ?_)
          · refine lv_iconst (v := nI 0) hx hb dX0_minded_71 (by decide) ?_
            refine lv_iadd hx hb dX0_minded_72 ?_
            refine lv_top (y := nI (mnd S (T.take (k + 1)) g)) ((nI_add _ _).trans (congrArg nI (by rw [mnd_take (show k < T.length by omega), mnd1_f (hsk _ (t4_mem (show k < T.length by omega))) (Or.inr c2) (Or.inr c4)]))) ?_
            refine lv_istore_n (lv' := [(2, .int (nI (mnd S (T.take (k + 1)) g))), (4, .ref (L.getD k 0)), (0, .ref la), (1, .int (nI g)), (3, .int (nI k))]) hx hb dX0_minded_73 rfl hl (by decide) rfl (fun ls hl => ?_)
            refine lv_iinc (v := nI (k + 1)) (lv' := [(3, .int (nI (k + 1))), (2, .int (nI (mnd S (T.take (k + 1)) g))), (4, .ref (L.getD k 0)), (0, .ref la), (1, .int (nI g))]) hx hb dX0_minded_74 hl (k := 4) rfl (nI_add k 1) (by decide) rfl (fun ls hl => ?_)
            refine lv_goto (tgt := 4) hx hb dX0_minded_77 (by decide) ?_
            exact ih4 (k + 1) (by omega) H locs ls ⟨by omega, hH, hS, lv_sub hl [3, 4, 1, 0] rfl⟩
          · refine lv_aload hx hb dX0_minded_63 (lv_at hl 0 rfl) ?_
            refine hp_getN (C := RX19) (T := TX19) (N := 5) (v := .int (nI (aWt S (T.getD k t4).1))) hx hb hts in_X19 hown hK hH (hSl.2 k (by rw [hSl.1]; omega)) rfl 3 (by decide) (hG.nf hPB q1069) (fun _ z => z) rfl dX0_minded_65 ?_
            refine lv_goto (tgt := 72) hx hb dX0_minded_68 (by decide) ?_
            refine lv_iadd hx hb dX0_minded_72 ?_
            refine lv_top (y := nI (mnd S (T.take (k + 1)) g)) ((nI_add _ _).trans (congrArg nI (by rw [mnd_take (show k < T.length by omega), mnd1_t (hsk _ (t4_mem (show k < T.length by omega))) (Or.inr ⟨c3, c4⟩)]))) ?_
            refine lv_istore_n (lv' := [(2, .int (nI (mnd S (T.take (k + 1)) g))), (4, .ref (L.getD k 0)), (0, .ref la), (1, .int (nI g)), (3, .int (nI k))]) hx hb dX0_minded_73 rfl hl (by decide) rfl (fun ls hl => ?_)
            refine lv_iinc (v := nI (k + 1)) (lv' := [(3, .int (nI (k + 1))), (2, .int (nI (mnd S (T.take (k + 1)) g))), (4, .ref (L.getD k 0)), (0, .ref la), (1, .int (nI g))]) hx hb dX0_minded_74 hl (k := 4) rfl (nI_add k 1) (by decide) rfl (fun ls hl => ?_)
            refine lv_goto (tgt := 4) hx hb dX0_minded_77 (by decide) ?_
            exact ih4 (k + 1) (by omega) H locs ls ⟨by omega, hH, hS, lv_sub hl [3, 4, 1, 0] rfl⟩
set_option maxHeartbeats 4000000 in
theorem mc_isCourse (hK0 : va_K D CL (TYS K) s0) {av : Nat → Nat} {ed mi : Nat} (hG : GX s0 wd av ed mi) {S : Ab} {w : Nat → Nat} {Ls : Nat → List Nat} {Jn : Nat → Nat} {Z : Nat → Nat → Int32} (hO : SOK S) (hO2 : SO2 S) (hW : CW K ed S h w Ls Jn Z) (room cr : Int32) : Met l yX0_isCourse (ws_ yX0_isCourse cX0_isCourse 3 ((Option.some Jvm.ClassFile.FieldType.boolean))) (rmk 4 0 0) (va_Pc [.ref (w 0), .int room, .int cr] (PB s0 D CL (h))) (QR s0 D CL (fun v h1 => v = some (.int (zI (inN room (aRm S) && inN cr 10))) ∧ h1 = h)) 0 0 (zA s0) := by
  refine hp_met (by decide) (Nat.le_of_ble_eq_true rfl) hK0 ?_
  intro p e s m below meth cd ls hx hb hr hlocks hml hown hnm hts hK hPB hl hS hH hA
  have hl : lv_has ls 3 [(0, .ref (w 0)), (1, .int room), (2, .int cr)] := hl
  have hown : s.vm.findClass RX0 = some m.cls := hown
  have hn := hO.n
  have hmk := hO.mk
  have hrl := hO.rl
  have hrm := hO.rm
  have hsz := hO.sz
  refine lv_aload_n hx hb dX0_isCourse_0 rfl (lv_at hl 0 rfl) ?_
  refine lv_iload_n hx hb dX0_isCourse_1 rfl (lv_at hl 1 rfl) ?_
  refine hp_callV (As := [.int room]) (rest := []) hx hb hml hown hts hPB hK hH hS (mc_roomAt hK0 hG hO hO2 hW room) hW.x rfl rfl 1 (lw_V q924 q926 qs24 q102 q927) (by decide +kernel) ⟨rfl, rfl⟩ (by decide) rfl hl.1 rfl (Nat.le_of_ble_eq_true rfl) (by decide) dX0_isCourse_2 (fun v3 h5 H locs hp4 _ hH hS => ?_)
  rcases hp4.1 with ⟨k1, hk1, hgk1, rfl⟩ | ⟨cz2, rfl⟩
  · have hq := hp4.2; rw [hq] at hH
    subst hgk1
    have hik1 : inN (nI k1) (aRm S) = true := by rw [inN_nI (by omega)]; exact decide_eq_true hk1
    have ek1 := nI_clamp (show k1 < 2 ^ 31 by omega)
    have hp6 := hO.rp (show k1 < aRm S by omega)
    refine lv_ifnull hx hb dX0_isCourse_5 ?_
    refine lv_iload_n hx hb dX0_isCourse_8 rfl (lv_at hl 2 rfl) ?_
    refine lv_iconst (v := nI 0) hx hb dX0_isCourse_9 (by decide) ?_
    refine lv_bipush (v := nI 9) hx hb dX0_isCourse_10 (by decide) ?_
    refine hp_callS (As := [.int cr, .int (nI 0), .int (nI 9)]) (rest := []) hx hb hml hown hts hPB hH hS (mc_in hK0 cr (nI 0) (nI 9)) 3 (lw_S q268 q269 q102 q270) (by decide +kernel) ⟨rfl, rfl⟩ (by decide) rfl hl.1 rfl (Nat.le_of_ble_eq_true rfl) (by decide) dX0_isCourse_12 (fun v7 h9 H locs hp8 _ hH hS => ?_)
    obtain ⟨rfl, hq⟩ := hp8
    rw [hq] at hH
    refine lv_top (y := zI (inN cr 10)) (congrArg zI (in_ik (by omega))) ?_
    refine lvB_eq (tgt := 22) hx hb dX0_isCourse_15 (by decide) (fun c1 => ?_) (fun c1 => ?_)
    · refine lv_iconst (v := nI 0) hx hb dX0_isCourse_22 (by decide) ?_
      exact hp_zret hx hb hr rfl hlocks hH hS (by decide) (by decide) dX0_isCourse_23 (⟨congrArg some (congrArg Value.int (zI_0 (by simp [hik1, ek1, c1]))), rfl⟩)
    · refine lv_iconst (v := nI 1) hx hb dX0_isCourse_18 (by decide) ?_
      refine lv_goto (tgt := 23) hx hb dX0_isCourse_19 (by decide) ?_
      exact hp_zret hx hb hr rfl hlocks hH hS (by decide) (by decide) dX0_isCourse_23 (⟨congrArg some (congrArg Value.int (zI_1 (by simp [hik1, ek1, c1]))), rfl⟩)
  · have hq := hp4.2; rw [hq] at hH
    refine lv_ifnullN (tgt := 22) hx hb dX0_isCourse_5 (by decide) ?_
    refine lv_iconst (v := nI 0) hx hb dX0_isCourse_22 (by decide) ?_
    exact hp_zret hx hb hr rfl hlocks hH hS (by decide) (by decide) dX0_isCourse_23 (⟨congrArg some (congrArg Value.int (zI_0 (by simp [cz2]))), rfl⟩)
set_option maxHeartbeats 4000000 in
theorem mc_slights (hK0 : va_K D CL (TYS K) s0) {av : Nat → Nat} {ed mi : Nat} (hG : GX s0 wd av ed mi) {S : Ab} {w : Nat → Nat} {Ls : Nat → List Nat} {Jn : Nat → Nat} {Z : Nat → Nat → Int32} (hO : SOK S) (hO2 : SO2 S) (hW : CW K ed S h w Ls Jn Z) (room cr what : Int32) : Met l yX0_slights (ws_ yX0_slights cX0_slights 8 ((Option.some Jvm.ClassFile.FieldType.int))) (rmk 8 1094 9093) (va_Pc [.ref (w 0), .int room, .int cr, .int what] (PB s0 D CL (h))) (QR s0 D CL (fun v h1 => v = some (.int (spSlights S room cr what)) ∧ h1 = h)) 1094 9093 (zA s0) := by
  refine hp_met (by decide) (Nat.le_of_ble_eq_true rfl) hK0 ?_
  intro p e s m below meth cd ls hx hb hr hlocks hml hown hnm hts hK hPB hl hS hH hA
  have hl : lv_has ls 8 [(0, .ref (w 0)), (1, .int room), (2, .int cr), (3, .int what)] := hl
  have hown : s.vm.findClass RX0 = some m.cls := hown
  have hn := hO.n
  have hmk := hO.mk
  have hrl := hO.rl
  have hrm := hO.rm
  have hsz := hO.sz
  refine lv_aload_n hx hb dX0_slights_0 rfl (lv_at hl 0 rfl) ?_
  refine lv_iload_n hx hb dX0_slights_1 rfl (lv_at hl 1 rfl) ?_
  refine lv_iload_n hx hb dX0_slights_2 rfl (lv_at hl 2 rfl) ?_
  refine hp_callV (As := [.int room, .int cr]) (rest := []) hx hb hml hown hts hPB hK hH hS (mc_isCourse hK0 hG hO hO2 hW room cr) hW.x rfl rfl 2 (lw_V q1013 q1015 qs29 q102 q1016) (by decide +kernel) ⟨rfl, rfl⟩ (by decide) rfl hl.1 rfl (Nat.le_of_ble_eq_true rfl) (by decide) dX0_slights_3 (fun v1 h3 H locs hp2 _ hH hS => ?_)
  obtain ⟨rfl, hq⟩ := hp2
  rw [hq] at hH
  refine lvB_eq (tgt := 18) hx hb dX0_slights_6 (by decide) (fun c4 => ?_) (fun c4 => ?_)
  · refine lv_iconst (v := (-1)) hx hb dX0_slights_18 (by decide) ?_
    exact hp_iret hx hb hr hlocks hH hS (by decide) (by decide) dX0_slights_19 (⟨congrArg some (congrArg Value.int (by simp [spSlights, nIne, (show inN (nI 0) 3 = true by decide), (show inN (nI 1) 3 = true by decide), c4])), rfl⟩)
  · obtain ⟨qr, hqr, rfl⟩ := inN_t (Bool.and_eq_true_iff.mp c4).1
    obtain ⟨c9, hc9, rfl⟩ := inN_t (Bool.and_eq_true_iff.mp c4).2
    have eqr := nI_clamp (show qr < 2 ^ 31 by omega)
    have ec9 := nI_clamp (show c9 < 2 ^ 31 by omega)
    have hiq := (Bool.and_eq_true_iff.mp c4).1
    have hic := (Bool.and_eq_true_iff.mp c4).2
    refine lv_iload_n hx hb dX0_slights_9 rfl (lv_at hl 3 rfl) ?_
    refine lv_iconst (v := nI 0) hx hb dX0_slights_10 (by decide) ?_
    refine lv_iconst (v := nI 2) hx hb dX0_slights_11 (by decide) ?_
    refine hp_callS (As := [.int what, .int (nI 0), .int (nI 2)]) (rest := []) hx hb hml hown hts hPB hH hS (mc_in hK0 what (nI 0) (nI 2)) 3 (lw_S q268 q269 q102 q270) (by decide +kernel) ⟨rfl, rfl⟩ (by decide) rfl hl.1 rfl (Nat.le_of_ble_eq_true rfl) (by decide) dX0_slights_12 (fun v5 h7 H locs hp6 _ hH hS => ?_)
    obtain ⟨rfl, hq⟩ := hp6
    rw [hq] at hH
    refine lv_top (y := zI (inN what 3)) (congrArg zI (in_ik (by omega))) ?_
    refine lvB_ne (tgt := 20) hx hb dX0_slights_15 (by decide) (fun c8 => ?_) (fun c8 => ?_)
    · refine lv_aload_n hx hb dX0_slights_20 rfl (lv_at hl 0 rfl) ?_
      refine lv_iload_n hx hb dX0_slights_21 rfl (lv_at hl 1 rfl) ?_
      refine lv_iload_n hx hb dX0_slights_22 rfl (lv_at hl 2 rfl) ?_
      refine lv_iconst (v := nI 0) hx hb dX0_slights_23 (by decide) ?_
      refine hp_callV (As := [.int (nI qr), .int (nI c9), .int (nI 0)]) (rest := []) hx hb hml hown hts hPB hK hH hS (mc_slightsIn hK0 hG hO hO2 hW (q := qr) (cr := c9) (on := 0) (by omega) (by omega) (by omega)) hW.x rfl rfl 3 (lw_V q1017 q1019 qs30 q102 q1020) (by decide +kernel) ⟨rfl, rfl⟩ (by decide) rfl hl.1 rfl (Nat.le_of_ble_eq_true rfl) (by decide) dX0_slights_24 (fun v10 h12 H locs hp11 _ hH hS => ?_)
      obtain ⟨al9, jl9, tl9, sl9, Ll9, rfl, hAl9, hLl9, hxl9, hgl9, hul9, hvl9⟩ := hp11
      have hW := hW.X hxl9
      have hsk : ∀ t ∈ slL S qr c9 0, slK S t := slL_ok hO hO2
      have htl9 := slL_90 hO hO2 qr c9 0
      refine lv_astore (lv' := [(4, .ref al9), (0, .ref (w 0)), (1, .int (nI qr)), (2, .int (nI c9)), (3, .int what)]) hx hb dX0_slights_27 hl (by decide) rfl (fun ls hl => ?_)
      refine lv_iconst (v := nI 0) hx hb dX0_slights_29 (by decide) ?_
      refine lv_istore (lv' := [(5, .int (nI 0)), (4, .ref al9), (0, .ref (w 0)), (1, .int (nI qr)), (2, .int (nI c9)), (3, .int what)]) hx hb dX0_slights_30 hl (by decide) rfl (fun ls hl => ?_)
      refine lv_iconst (v := nI 0) hx hb dX0_slights_32 (by decide) ?_
      refine lv_istore (lv' := [(6, .int (nI 0)), (5, .int (nI 0)), (4, .ref al9), (0, .ref (w 0)), (1, .int (nI qr)), (2, .int (nI c9)), (3, .int what)]) hx hb dX0_slights_33 hl (by decide) rfl (fun ls hl => ?_)
      refine lv_iconst (v := nI 0) hx hb dX0_slights_35 (by decide) ?_
      refine lv_istore (lv' := [(7, .int (nI 0)), (6, .int (nI 0)), (5, .int (nI 0)), (4, .ref al9), (0, .ref (w 0)), (1, .int (nI qr)), (2, .int (nI c9)), (3, .int what)]) hx hb dX0_slights_36 hl (by decide) rfl (fun ls hl => ?_)
      refine w_loop1 (fun (k : Nat) => (slL S qr c9 0).length - k) (fun (k : Nat) H locs ls => (k ≤ (slL S qr c9 0).length) ∧ HP D CL (zA s0) h12 H ∧ va_S (zA s0) s.heap H locs ∧ lv_has ls 8 [(0, .ref (w 0)), (1, .int (nI qr)), (2, .int (nI c9)), (3, .int what), (4, .ref al9), (5, .int (nI (slSum S (slL S qr c9 0) k))), (6, .int (nI (slMax S (slL S qr c9 0) k))), (7, .int (nI k))]) ?_ 0 ⟨Nat.zero_le _, hH, hS, lv_sub hl [4, 5, 6, 7, 3, 2, 1, 0] rfl⟩
      intro k ih38 H locs ls hP
      obtain ⟨hk, hH, hS, hl⟩ := hP
      have hsm := slSum_le hO (L := slL S qr c9 0) rfl k hk
      refine lv_iload hx hb dX0_slights_38 (lv_at hl 7 rfl) ?_
      refine lv_aload hx hb dX0_slights_40 (lv_at hl 4 rfl) ?_
      refine hp_siz hx hb hml hown hts hPB hK0 hK hH hS hG hAl9 hLl9.1 q807 (by first | decide | (simp only [rmk]; omega)) hl.1 rfl (Nat.le_of_ble_eq_true rfl) (by decide) dX0_slights_42 (fun H locs hH hS => ?_)
      refine lvN_ge (tgt := 92) hx hb (by first | omega | (refine Nat.lt_of_lt_of_le (Nat.mod_lt _ ?_) ?_ <;> omega)) (by first | omega | (refine Nat.lt_of_lt_of_le (Nat.mod_lt _ ?_) ?_ <;> omega)) dX0_slights_45 (by decide) (fun c13 => ?_) (fun c13 => ?_)
      · have ek9 : k = (slL S qr c9 0).length := by omega
        refine lv_iload_n hx hb dX0_slights_92 rfl (lv_at hl 3 rfl) ?_
        refine lv_if_ne (tgt := 101) hx hb dX0_slights_93 (by decide) (fun c14 => ?_) (fun c14 => ?_)
        · have c14 : ¬ what = nI 0 := c14
          refine lv_iload_n hx hb dX0_slights_101 rfl (lv_at hl 3 rfl) ?_
          refine lv_iconst (v := nI 1) hx hb dX0_slights_102 (by decide) ?_
          refine lv_icmp_ne (tgt := 114) hx hb dX0_slights_103 (by decide) (fun c15 => ?_) (fun c15 => ?_)
          · refine lv_iload hx hb dX0_slights_114 (lv_at hl 6 rfl) ?_
            have hH := hH.X hxl9
            exact hp_iret hx hb hr hlocks hH hS (by decide) (by decide) dX0_slights_116 (⟨congrArg some (congrArg Value.int (by simp [spSlights, nIne, (show inN (nI 0) 3 = true by decide), (show inN (nI 1) 3 = true by decide), ek9, hiq, hic, eqr, ec9, c8, c13, Nat.not_lt.mpr c13, c14, c15])), rfl⟩)
          · refine lv_aload hx hb dX0_slights_106 (lv_at hl 4 rfl) ?_
            refine hp_siz hx hb hml hown hts hPB hK0 hK hH hS hG hAl9 hLl9.1 q807 (by first | decide | (simp only [rmk]; omega)) hl.1 rfl (Nat.le_of_ble_eq_true rfl) (by decide) dX0_slights_108 (fun H locs hH hS => ?_)
            refine lv_goto (tgt := 116) hx hb dX0_slights_111 (by decide) ?_
            have hH := hH.X hxl9
            exact hp_iret hx hb hr hlocks hH hS (by decide) (by decide) dX0_slights_116 (⟨congrArg some (congrArg Value.int (by simp [spSlights, nIne, (show inN (nI 0) 3 = true by decide), (show inN (nI 1) 3 = true by decide), ek9, hiq, hic, eqr, ec9, c8, c13, Nat.not_lt.mpr c13, c14, c15])), rfl⟩)
        · have c14 : what = nI 0 := c14
          refine lv_iload hx hb dX0_slights_96 (lv_at hl 5 rfl) ?_
          refine lv_goto (tgt := 116) hx hb dX0_slights_98 (by decide) ?_
          have hH := hH.X hxl9
          exact hp_iret hx hb hr hlocks hH hS (by decide) (by decide) dX0_slights_116 (⟨congrArg some (congrArg Value.int (by simp [spSlights, nIne, (show inN (nI 0) 3 = true by decide), (show inN (nI 1) 3 = true by decide), ek9, hiq, hic, eqr, ec9, c8, c13, Nat.not_lt.mpr c13, c14])), rfl⟩)
      · refine lv_iload hx hb dX0_slights_48 (lv_at hl 5 rfl) ?_
        refine lv_aload hx hb dX0_slights_50 (lv_at hl 4 rfl) ?_
        refine lv_iload hx hb dX0_slights_52 (lv_at hl 7 rfl) ?_
        refine hp_lget hx hb hml hown hts hPB hK0 hK hH hS hG hAl9 (k9 := k) (by rw [hLl9.1]; omega) q808 (by first | decide | (simp only [rmk]; omega)) hl.1 rfl (Nat.le_of_ble_eq_true rfl) (by decide) dX0_slights_54 (fun H locs hH hS => ?_)
        have hk16 := hsk _ (t4_mem (T := slL S qr c9 0) (k := k) (by omega))
        have hhk16 := hO.wt hk16.1
        obtain ⟨ghk16a, ghk16b, ghk16c, ghk16d, ghk16e⟩ := hk16
        refine va_castE hx hb hown (hts _ q1056) (hp_rec hK hH (hLl9.2 k (by rw [hLl9.1]; omega)) rfl) dX0_slights_57 ?_
        refine hp_getN (C := RX19) (T := TX19) (N := 5) (v := .int (nI (aWt S ((slL S qr c9 0).getD k t4).1))) hx hb hts in_X19 hown hK hH (hLl9.2 k (by rw [hLl9.1]; omega)) rfl 3 (by decide) (hG.nf hPB q1069) (fun _ z => z) rfl dX0_slights_60 ?_
        refine lv_iadd hx hb dX0_slights_63 ?_
        refine lv_top (y := nI ((slSum S (slL S qr c9 0) k) + (aWt S ((slL S qr c9 0).getD k t4).1))) (nI_add _ _) ?_
        refine lv_istore (lv' := [(5, .int (nI ((slSum S (slL S qr c9 0) k) + (aWt S ((slL S qr c9 0).getD k t4).1)))), (0, .ref (w 0)), (1, .int (nI qr)), (2, .int (nI c9)), (3, .int what), (4, .ref al9), (6, .int (nI (slMax S (slL S qr c9 0) k))), (7, .int (nI k))]) hx hb dX0_slights_64 hl (by decide) rfl (fun ls hl => ?_)
        refine lv_iload hx hb dX0_slights_66 (lv_at hl 6 rfl) ?_
        refine lv_aload hx hb dX0_slights_68 (lv_at hl 5 rfl) ?_
        refine lv_iload hx hb dX0_slights_70 (lv_at hl 7 rfl) ?_
        refine hp_lget hx hb hml hown hts hPB hK0 hK hH hS hG hAl9 (k9 := k) (by rw [hLl9.1]; omega) q808 (by first | decide | (simp only [rmk]; omega)) hl.1 rfl (Nat.le_of_ble_eq_true rfl) (by decide) dX0_slights_72 (fun H locs hH hS => ?_)
        have hk17 := hsk _ (t4_mem (T := slL S qr c9 0) (k := k) (by omega))
        have hhk17 := hO.wt hk17.1
        obtain ⟨ghk17a, ghk17b, ghk17c, ghk17d, ghk17e⟩ := hk17
        refine va_castE hx hb hown (hts _ q1056) (hp_rec hK hH (hLl9.2 k (by rw [hLl9.1]; omega)) rfl) dX0_slights_75 ?_
        refine hp_getN (C := RX19) (T := TX19) (N := 5) (v := .int (nI (aWt S ((slL S qr c9 0).getD k t4).1))) hx hb hts in_X19 hown hK hH (hLl9.2 k (by rw [hLl9.1]; omega)) rfl 3 (by decide) (hG.nf hPB q1069) (fun _ z => z) rfl dX0_slights_78 ?_
        refine va_mmax hx hb (hml.trans hl.1.symm) hown (hts _ q1083) (hts _ q409) (hts _ q114) (hts _ q410) (Nat.le_of_ble_eq_true rfl) (Nat.le_of_ble_eq_true rfl) (Nat.le_of_ble_eq_true rfl) (Nat.le_of_ble_eq_true rfl) dX0_slights_81 ?_
        refine lv_top (y := nI (max (slMax S (slL S qr c9 0) k) (aWt S ((slL S qr c9 0).getD k t4).1))) (i_maxN (by first | omega | (refine Nat.lt_of_lt_of_le (Nat.mod_lt _ ?_) ?_ <;> omega)) (by first | omega | (refine Nat.lt_of_lt_of_le (Nat.mod_lt _ ?_) ?_ <;> omega))) ?_
        refine lv_istore (lv' := [(6, .int (nI (max (slMax S (slL S qr c9 0) k) (aWt S ((slL S qr c9 0).getD k t4).1)))), (5, .int (nI ((slSum S (slL S qr c9 0) k) + (aWt S ((slL S qr c9 0).getD k t4).1)))), (0, .ref (w 0)), (1, .int (nI qr)), (2, .int (nI c9)), (3, .int what), (4, .ref al9), (7, .int (nI k))]) hx hb dX0_slights_84 hl (by decide) rfl (fun ls hl => ?_)
        refine lv_iinc (v := nI (k + 1)) (lv' := [(7, .int (nI (k + 1))), (6, .int (nI (max (slMax S (slL S qr c9 0) k) (aWt S ((slL S qr c9 0).getD k t4).1)))), (5, .int (nI ((slSum S (slL S qr c9 0) k) + (aWt S ((slL S qr c9 0).getD k t4).1)))), (0, .ref (w 0)), (1, .int (nI qr)), (2, .int (nI c9)), (3, .int what), (4, .ref al9)]) hx hb dX0_slights_86 hl (k := 7) rfl (nI_add k 1) (by decide) rfl (fun ls hl => ?_)
        refine lv_goto (tgt := 38) hx hb dX0_slights_89 (by decide) ?_
        exact ih38 (k + 1) (by omega) H locs ls ⟨by omega, hH, hS, lv_sub hl [3, 4, 5, 6, 7, 2, 1, 0] rfl⟩
    · refine lv_iconst (v := (-1)) hx hb dX0_slights_18 (by decide) ?_
      exact hp_iret hx hb hr hlocks hH hS (by decide) (by decide) dX0_slights_19 (⟨congrArg some (congrArg Value.int (by simp [spSlights, nIne, (show inN (nI 0) 3 = true by decide), (show inN (nI 1) 3 = true by decide), hiq, hic, eqr, ec9, c8])), rfl⟩)
set_option maxHeartbeats 4000000 in
theorem mc_slightQ (hK0 : va_K D CL (TYS K) s0) {av : Nat → Nat} {ed mi : Nat} (hG : GX s0 wd av ed mi) {S : Ab} {w : Nat → Nat} {Ls : Nat → List Nat} {Jn : Nat → Nat} {Z : Nat → Nat → Int32} (hO : SOK S) (hO2 : SO2 S) (hW : CW K ed S h w Ls Jn Z) (room cr k what : Int32) : Met l yX0_slight (ws_ yX0_slight cX0_slight 7 ((Option.some Jvm.ClassFile.FieldType.int))) (rmk 8 1094 9093) (va_Pc [.ref (w 0), .int room, .int cr, .int k, .int what] (PB s0 D CL (h))) (QR s0 D CL (fun v h1 => v = some (.int (spSlight S room cr k what)) ∧ h1 = h)) 1094 9093 (zA s0) := by
  refine hp_met (by decide) (Nat.le_of_ble_eq_true rfl) hK0 ?_
  intro p e s m below meth cd ls hx hb hr hlocks hml hown hnm hts hK hPB hl hS hH hA
  have hl : lv_has ls 7 [(0, .ref (w 0)), (1, .int room), (2, .int cr), (3, .int k), (4, .int what)] := hl
  have hown : s.vm.findClass RX0 = some m.cls := hown
  have hn := hO.n
  have hmk := hO.mk
  have hrl := hO.rl
  have hrm := hO.rm
  have hsz := hO.sz
  refine lv_aload_n hx hb dX0_slight_0 rfl (lv_at hl 0 rfl) ?_
  refine lv_iload_n hx hb dX0_slight_1 rfl (lv_at hl 1 rfl) ?_
  refine lv_iload_n hx hb dX0_slight_2 rfl (lv_at hl 2 rfl) ?_
  refine hp_callV (As := [.int room, .int cr]) (rest := []) hx hb hml hown hts hPB hK hH hS (mc_isCourse hK0 hG hO hO2 hW room cr) hW.x rfl rfl 2 (lw_V q1013 q1015 qs29 q102 q1016) (by decide +kernel) ⟨rfl, rfl⟩ (by decide) rfl hl.1 rfl (Nat.le_of_ble_eq_true rfl) (by decide) dX0_slight_3 (fun v1 h3 H locs hp2 _ hH hS => ?_)
  obtain ⟨rfl, hq⟩ := hp2
  rw [hq] at hH
  refine lvB_ne (tgt := 11) hx hb dX0_slight_6 (by decide) (fun c4 => ?_) (fun c4 => ?_)
  · obtain ⟨qr, hqr, rfl⟩ := inN_t (Bool.and_eq_true_iff.mp c4).1
    obtain ⟨c9, hc9, rfl⟩ := inN_t (Bool.and_eq_true_iff.mp c4).2
    have eqr := nI_clamp (show qr < 2 ^ 31 by omega)
    have ec9 := nI_clamp (show c9 < 2 ^ 31 by omega)
    have hiq := (Bool.and_eq_true_iff.mp c4).1
    have hic := (Bool.and_eq_true_iff.mp c4).2
    refine lv_aload_n hx hb dX0_slight_11 rfl (lv_at hl 0 rfl) ?_
    refine lv_iload_n hx hb dX0_slight_12 rfl (lv_at hl 1 rfl) ?_
    refine lv_iload_n hx hb dX0_slight_13 rfl (lv_at hl 2 rfl) ?_
    refine lv_iconst (v := nI 0) hx hb dX0_slight_14 (by decide) ?_
    refine hp_callV (As := [.int (nI qr), .int (nI c9), .int (nI 0)]) (rest := []) hx hb hml hown hts hPB hK hH hS (mc_slightsIn hK0 hG hO hO2 hW (q := qr) (cr := c9) (on := 0) (by omega) (by omega) (by omega)) hW.x rfl rfl 3 (lw_V q1017 q1019 qs30 q102 q1020) (by decide +kernel) ⟨rfl, rfl⟩ (by decide) rfl hl.1 rfl (Nat.le_of_ble_eq_true rfl) (by decide) dX0_slight_15 (fun v6 h8 H locs hp7 _ hH hS => ?_)
    obtain ⟨al5, jl5, tl5, sl5, Ll5, rfl, hAl5, hLl5, hxl5, hgl5, hul5, hvl5⟩ := hp7
    have hW := hW.X hxl5
    have hsk : ∀ t ∈ slL S qr c9 0, slK S t := slL_ok hO hO2
    have htl5 := slL_90 hO hO2 qr c9 0
    refine lv_astore (lv' := [(5, .ref al5), (0, .ref (w 0)), (1, .int (nI qr)), (2, .int (nI c9)), (3, .int k), (4, .int what)]) hx hb dX0_slight_18 hl (by decide) rfl (fun ls hl => ?_)
    refine lv_iload_n hx hb dX0_slight_20 rfl (lv_at hl 4 rfl) ?_
    refine lv_iconst (v := nI 0) hx hb dX0_slight_21 (by decide) ?_
    refine lv_aload hx hb dX0_slight_22 (lv_at hl 0 rfl) ?_
    refine hp_siz hx hb hml hown hts hPB hK0 hK hH hS hG hAl5 hLl5.1 q807 (by first | decide | (simp only [rmk]; omega)) hl.1 rfl (Nat.le_of_ble_eq_true rfl) (by decide) dX0_slight_24 (fun H locs hH hS => ?_)
    refine lv_iconst (v := nI 1) hx hb dX0_slight_27 (by decide) ?_
    refine lv_isub hx hb dX0_slight_28 ?_
    refine hp_callS (As := [.int k, .int (nI 0), .int ((nI ((slL S qr c9 0).length)) - (nI 1))]) (rest := []) hx hb hml hown hts hPB hH hS (mc_in hK0 k (nI 0) ((nI ((slL S qr c9 0).length)) - (nI 1))) 3 (lw_S q268 q269 q102 q270) (by decide +kernel) ⟨rfl, rfl⟩ (by decide) rfl hl.1 rfl (Nat.le_of_ble_eq_true rfl) (by decide) dX0_slight_29 (fun v9 h11 H locs hp10 _ hH hS => ?_)
    obtain ⟨rfl, hq⟩ := hp10
    rw [hq] at hH
    refine lv_top (y := zI (inN k ((slL S qr c9 0).length))) (congrArg zI (in_i0 (by omega))) ?_
    refine lvB_ne (tgt := 37) hx hb dX0_slight_32 (by decide) (fun c12 => ?_) (fun c12 => ?_)
    · obtain ⟨k9, hkk9, rfl⟩ := inN_t c12
      have ek9 := nI_clamp (show k9 < 2 ^ 31 by omega)
      refine lv_aload hx hb dX0_slight_37 (lv_at hl 0 rfl) ?_
      refine lv_iload_n hx hb dX0_slight_39 rfl (lv_at hl 4 rfl) ?_
      refine hp_lget hx hb hml hown hts hPB hK0 hK hH hS hG hAl5 (k9 := k9) (by rw [hLl5.1]; omega) q808 (by first | decide | (simp only [rmk]; omega)) hl.1 rfl (Nat.le_of_ble_eq_true rfl) (by decide) dX0_slight_40 (fun H locs hH hS => ?_)
      have hk13 := hsk _ (t4_mem (T := slL S qr c9 0) (k := k9) (by omega))
      have hhk13 := hO.wt hk13.1
      obtain ⟨ghk13a, ghk13b, ghk13c, ghk13d, ghk13e⟩ := hk13
      refine va_castE hx hb hown (hts _ q1056) (hp_rec hK hH (hLl5.2 k9 (by rw [hLl5.1]; omega)) rfl) dX0_slight_43 ?_
      refine lv_astore (lv' := [(6, .ref (Ll5.getD k9 0)), (5, .ref al5), (0, .ref (w 0)), (1, .int (nI qr)), (2, .int (nI c9)), (3, .int (nI k9)), (4, .int what)]) hx hb dX0_slight_46 hl (by decide) rfl (fun ls hl => ?_)
      refine lv_iload hx hb dX0_slight_48 (lv_at hl 6 rfl) ?_
      by_cases w14 : what = nI 0
      · refine lv_tableIn (tgt := 80) hx hb dX0_slight_50 (by rw [w14]; decide) (by rw [w14]; decide) (by rw [w14]; rfl) (by decide) ?_
        refine lv_aload hx hb dX0_slight_80 (lv_at hl 0 rfl) ?_
        refine hp_getN (C := RX19) (T := TX19) (N := 5) (v := .int (nI (((slL S qr c9 0).getD k9 t4).1))) hx hb hts in_X19 hown hK hH (hLl5.2 k9 (by rw [hLl5.1]; omega)) rfl 0 (by decide) (hG.nf hPB q1063) (fun _ z => z) rfl dX0_slight_82 ?_
        have hH := hH.X hxl5
        exact hp_iret hx hb hr hlocks hH hS (by decide) (by decide) dX0_slight_85 (⟨congrArg some (congrArg Value.int (by simp [spSlight, slSel, nIne, nIn8, -List.getD_eq_getElem?_getD, (show inN (nI 0) 4 = true by decide), (show inN (nI 1) 4 = true by decide), (show inN (nI 2) 4 = true by decide), (show inN (nI 3) 4 = true by decide), hiq, hic, eqr, ec9, c12, ek9, w14])), rfl⟩)
      by_cases w15 : what = nI 1
      · refine lv_tableIn (tgt := 86) hx hb dX0_slight_50 (by rw [w15]; decide) (by rw [w15]; decide) (by rw [w15]; rfl) (by decide) ?_
        refine lv_aload hx hb dX0_slight_86 (lv_at hl 0 rfl) ?_
        refine hp_getN (C := RX19) (T := TX19) (N := 5) (v := .int (nI (((slL S qr c9 0).getD k9 t4).2.1))) hx hb hts in_X19 hown hK hH (hLl5.2 k9 (by rw [hLl5.1]; omega)) rfl 1 (by decide) (hG.nf hPB q1065) (fun _ z => z) rfl dX0_slight_88 ?_
        have hH := hH.X hxl5
        exact hp_iret hx hb hr hlocks hH hS (by decide) (by decide) dX0_slight_91 (⟨congrArg some (congrArg Value.int (by simp [spSlight, slSel, nIne, nIn8, -List.getD_eq_getElem?_getD, (show inN (nI 0) 4 = true by decide), (show inN (nI 1) 4 = true by decide), (show inN (nI 2) 4 = true by decide), (show inN (nI 3) 4 = true by decide), hiq, hic, eqr, ec9, c12, ek9, w15])), rfl⟩)
      by_cases w16 : what = nI 2
      · refine lv_tableIn (tgt := 92) hx hb dX0_slight_50 (by rw [w16]; decide) (by rw [w16]; decide) (by rw [w16]; rfl) (by decide) ?_
        refine lv_aload hx hb dX0_slight_92 (lv_at hl 0 rfl) ?_
        refine hp_getN (C := RX19) (T := TX19) (N := 5) (v := .int (nI (((slL S qr c9 0).getD k9 t4).2.2.1))) hx hb hts in_X19 hown hK hH (hLl5.2 k9 (by rw [hLl5.1]; omega)) rfl 2 (by decide) (hG.nf hPB q1067) (fun _ z => z) rfl dX0_slight_94 ?_
        have hH := hH.X hxl5
        exact hp_iret hx hb hr hlocks hH hS (by decide) (by decide) dX0_slight_97 (⟨congrArg some (congrArg Value.int (by simp [spSlight, slSel, nIne, nIn8, -List.getD_eq_getElem?_getD, (show inN (nI 0) 4 = true by decide), (show inN (nI 1) 4 = true by decide), (show inN (nI 2) 4 = true by decide), (show inN (nI 3) 4 = true by decide), hiq, hic, eqr, ec9, c12, ek9, w16])), rfl⟩)
      by_cases w17 : what = nI 3
      · refine lv_tableIn (tgt := 98) hx hb dX0_slight_50 (by rw [w17]; decide) (by rw [w17]; decide) (by rw [w17]; rfl) (by decide) ?_
        refine lv_aload_n hx hb dX0_slight_98 rfl (lv_at hl 2 rfl) ?_
        refine hp_get (C := RX0) (T := TX0) (N := 14) (v := .ref (w 5)) hx hb hts in_X0 hown hK hH hW.x rfl 4 (by decide) (hts _ q216) (fun _ z => z) rfl dX0_slight_99 ?_
        refine lv_aload hx hb dX0_slight_102 (lv_at hl 0 rfl) ?_
        refine hp_getN (C := RX19) (T := TX19) (N := 5) (v := .int (nI (((slL S qr c9 0).getD k9 t4).1))) hx hb hts in_X19 hown hK hH (hLl5.2 k9 (by rw [hLl5.1]; omega)) rfl 0 (by decide) (hG.nf hPB q1063) (fun _ z => z) rfl dX0_slight_104 ?_
        refine hp_lget hx hb hml hown hts hPB hK0 hK hH hS hG (hW.li 2 (by decide)) (k9 := ((slL S qr c9 0).getD k9 t4).1) (by rw [hW.nr]; omega) q808 (by first | decide | (simp only [rmk]; omega)) hl.1 rfl (Nat.le_of_ble_eq_true rfl) (by decide) dX0_slight_107 (fun H locs hH hS => ?_)
        have hn18 := cN_le S (((slL S qr c9 0).getD k9 t4).1)
        have hkhn18 := hO.kd (show ((slL S qr c9 0).getD k9 t4).1 < aRl S by omega)
        have hwhn18 := hO.wt (show ((slL S qr c9 0).getD k9 t4).1 < aRl S by omega)
        refine hp_castR hx hb hown (hts _ q812) hG hPB hK hH (hW.r (show ((slL S qr c9 0).getD k9 t4).1 < aRl S by omega)) (hO.kd (show ((slL S qr c9 0).getD k9 t4).1 < aRl S by omega)) dX0_slight_110 ?_
        refine hp_kind hx hb hml hown hts hPB hK0 hK hH hS hG (hW.r (show ((slL S qr c9 0).getD k9 t4).1 < aRl S by omega)) (hO.kd (show ((slL S qr c9 0).getD k9 t4).1 < aRl S by omega)) q887 (by first | decide | (simp only [rmk]; omega)) hl.1 rfl (Nat.le_of_ble_eq_true rfl) (by decide) dX0_slight_113 (fun H locs hH hS => ?_)
        refine lvZ_ne (tgt := 137) hx hb (by first | omega | (refine Nat.lt_of_lt_of_le (Nat.mod_lt _ ?_) ?_ <;> omega)) dX0_slight_116 (by decide) (fun ckd => ?_) (fun ckd => ?_)
        · refine lv_iconst (v := (-1)) hx hb dX0_slight_137 (by decide) ?_
          have hH := hH.X hxl5
          exact hp_iret hx hb hr hlocks hH hS (by decide) (by decide) dX0_slight_138 (⟨congrArg some (congrArg Value.int (by simp [spSlight, slSel, nIne, nIn8, -List.getD_eq_getElem?_getD, (show inN (nI 0) 4 = true by decide), (show inN (nI 1) 4 = true by decide), (show inN (nI 2) 4 = true by decide), (show inN (nI 3) 4 = true by decide), hiq, hic, eqr, ec9, c12, ek9, w17, ckd])), rfl⟩)
        · refine lv_aload_n hx hb dX0_slight_119 rfl (lv_at hl 2 rfl) ?_
          refine lv_iload_n hx hb dX0_slight_120 rfl (lv_at hl 3 rfl) ?_
          refine lv_aload hx hb dX0_slight_121 (lv_at hl 0 rfl) ?_
          refine hp_getN (C := RX19) (T := TX19) (N := 5) (v := .int (nI (((slL S qr c9 0).getD k9 t4).2.2.1))) hx hb hts in_X19 hown hK hH (hLl5.2 k9 (by rw [hLl5.1]; omega)) rfl 2 (by decide) (hG.nf hPB q1067) (fun _ z => z) rfl dX0_slight_123 ?_
          refine lv_aload hx hb dX0_slight_126 (lv_at hl 0 rfl) ?_
          refine hp_getN (C := RX19) (T := TX19) (N := 5) (v := .int (nI (((slL S qr c9 0).getD k9 t4).2.1))) hx hb hts in_X19 hown hK hH (hLl5.2 k9 (by rw [hLl5.1]; omega)) rfl 1 (by decide) (hG.nf hPB q1065) (fun _ z => z) rfl dX0_slight_128 ?_
          refine hp_callV (As := [.int (nI qr), .int (nI (((slL S qr c9 0).getD k9 t4).2.2.1)), .int (nI (((slL S qr c9 0).getD k9 t4).2.1))]) (rest := []) hx hb hml hown hts hPB hK hH hS (mc_sourceOf hK0 hG hO hO2 hW (x := ((slL S qr c9 0).getD k9 t4).2.2.1) (y := ((slL S qr c9 0).getD k9 t4).2.1) (nI qr) (by omega) (by omega)) hW.x rfl rfl 3 (lw_V q989 q991 qs26 q102 q992) (by decide +kernel) ⟨rfl, rfl⟩ (by decide) rfl hl.1 rfl (Nat.le_of_ble_eq_true rfl) (by decide) dX0_slight_131 (fun v19 h21 H locs hp20 _ hH hS => ?_)
          obtain ⟨rfl, hq⟩ := hp20
          rw [hq] at hH
          refine lv_goto (tgt := 138) hx hb dX0_slight_134 (by decide) ?_
          have hH := hH.X hxl5
          exact hp_iret hx hb hr hlocks hH hS (by decide) (by decide) dX0_slight_138 (⟨congrArg some (congrArg Value.int (by simp [spSlight, slSel, nIne, nIn8, -List.getD_eq_getElem?_getD, (show inN (nI 0) 4 = true by decide), (show inN (nI 1) 4 = true by decide), (show inN (nI 2) 4 = true by decide), (show inN (nI 3) 4 = true by decide), hiq, hic, eqr, ec9, c12, ek9, w17, ckd])), rfl⟩)
      refine lv_tableOut (tgt := 139) hx hb dX0_slight_50 (by have g0 := lv_neT (a := 0) w14 rfl; have g1 := lv_neT (a := 1) w15 rfl; have g2 := lv_neT (a := 2) w16 rfl; have g3 := lv_neT (a := 3) w17 rfl; omega) (by decide) ?_
      have hH := hH.X hxl5
      have hw4 := in4_f w14 w15 w16 w17
      refine lv_iconst (v := (-1)) hx hb dX0_slight_139 (by decide) ?_
      exact hp_iret hx hb hr hlocks hH hS (by decide) (by decide) dX0_slight_140 (⟨congrArg some (congrArg Value.int (by simp [spSlight, slSel, nIne, nIn8, -List.getD_eq_getElem?_getD, (show inN (nI 0) 4 = true by decide), (show inN (nI 1) 4 = true by decide), (show inN (nI 2) 4 = true by decide), (show inN (nI 3) 4 = true by decide), hiq, hic, eqr, ec9, c12, ek9, w14, w15, w16, w17, hw4])), rfl⟩)
    · have hH := hH.X hxl5
      refine lv_iconst (v := (-1)) hx hb dX0_slight_35 (by decide) ?_
      exact hp_iret hx hb hr hlocks hH hS (by decide) (by decide) dX0_slight_36 (⟨congrArg some (congrArg Value.int (by simp [spSlight, slSel, nIne, nIn8, -List.getD_eq_getElem?_getD, (show inN (nI 0) 4 = true by decide), (show inN (nI 1) 4 = true by decide), (show inN (nI 2) 4 = true by decide), (show inN (nI 3) 4 = true by decide), hiq, hic, eqr, ec9, c12])), rfl⟩)
  · refine lv_iconst (v := (-1)) hx hb dX0_slight_9 (by decide) ?_
    exact hp_iret hx hb hr hlocks hH hS (by decide) (by decide) dX0_slight_10 (⟨congrArg some (congrArg Value.int (by simp [spSlight, slSel, nIne, nIn8, -List.getD_eq_getElem?_getD, (show inN (nI 0) 4 = true by decide), (show inN (nI 1) 4 = true by decide), (show inN (nI 2) 4 = true by decide), (show inN (nI 3) 4 = true by decide), c4])), rfl⟩)
end MODEL
