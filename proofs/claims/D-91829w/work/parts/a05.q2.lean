/-! by gen/mspec.py -/
set_option maxRecDepth 100000
section MODEL
variable {l : Launch} {s0 : State} {D : va_G} {K : Nat → ClassId} {wd : Nat → Nat} {o : Nat} {h : Hp} {I : Nat → Int32} {V : Nat → Nat → Int32} {J : Nat → Nat → Int64}
set_option maxHeartbeats 4000000 in
theorem mc_who (hK0 : va_K D CL (TYS K) s0) {av : Nat → Nat} {ed mi : Nat} (hG : GX s0 wd av ed mi) {S : Ab} {w : Nat → Nat} {Ls : Nat → List Nat} {Jn : Nat → Nat} {Z : Nat → Nat → Int32} (hO : SOK S) (hO2 : SO2 S) (hW : CW K ed S h w Ls Jn Z) (room place : Int32) : Met l yX0_who (ws_ yX0_who cX0_who 4 ((Option.some (Jvm.ClassFile.FieldType.object "FirstIn$Guest")))) (rmk 3 0 0) (va_Pc [.ref (w 0), .int room, .int place] (PB s0 D CL (h))) (QR s0 D CL (fun v h1 => ((∃ k, k < aN S ∧ aIr S k = room ∧ aIp S k = place ∧ v = some (.ref ((Ls 0).getD k 0))) ∨ (freeP S room place (aN S) ∧ v = some .null)) ∧ h1 = h)) 0 0 (zA s0) := by
  refine hp_met (by decide) (Nat.le_of_ble_eq_true rfl) hK0 ?_
  intro p e s m below meth cd ls hx hb hr hlocks hml hown hnm hts hK hPB hl hS hH hA
  have hl : lv_has ls 4 [(0, .ref (w 0)), (1, .int room), (2, .int place)] := hl
  have hown : s.vm.findClass RX0 = some m.cls := hown
  have hn := hO.n
  have hmk := hO.mk
  have hrl := hO.rl
  have hrm := hO.rm
  have hsz := hO.sz
  refine lv_iconst (v := nI 0) hx hb dX0_who_0 (by decide) ?_
  refine lv_istore_n (lv' := [(3, .int (nI 0)), (0, .ref (w 0)), (1, .int room), (2, .int place)]) hx hb dX0_who_1 rfl hl (by decide) rfl (fun ls hl => ?_)
  refine w_loop1 (fun (k : Nat) => aN S - k) (fun (k : Nat) H locs ls => (k ≤ aN S) ∧ (freeP S room place k) ∧ HP D CL (zA s0) h H ∧ va_S (zA s0) s.heap H locs ∧ lv_has ls 4 [(0, .ref (w 0)), (1, .int room), (2, .int place), (3, .int (nI k))]) ?_ 0 ⟨Nat.zero_le _, fun x hx => absurd hx (Nat.not_lt_zero _), hH, hS, lv_sub hl [1, 2, 3, 0] rfl⟩
  intro k ih2 H locs ls hP
  obtain ⟨hk, hfr, hH, hS, hl⟩ := hP
  refine lv_iload_n hx hb dX0_who_2 rfl (lv_at hl 3 rfl) ?_
  refine lv_aload_n hx hb dX0_who_3 rfl (lv_at hl 0 rfl) ?_
  refine hp_get (C := RX0) (T := TX0) (N := 14) (v := .ref (w 3)) hx hb hts in_X0 hown hK hH hW.x rfl 2 (by decide) (hts _ q214) (fun _ z => z) rfl dX0_who_4 ?_
  refine hp_siz hx hb hml hown hts hPB hK0 hK hH hS hG (hW.li 0 (by decide)) hW.ng q807 (by first | decide | (simp only [rmk]; omega)) hl.1 rfl (Nat.le_of_ble_eq_true rfl) (by decide) dX0_who_7 (fun H locs hH hS => ?_)
  refine lvN_ge (tgt := 67) hx hb (by first | omega | (refine Nat.lt_of_lt_of_le (Nat.mod_lt _ ?_) ?_ <;> omega)) (by first | omega | (refine Nat.lt_of_lt_of_le (Nat.mod_lt _ ?_) ?_ <;> omega)) dX0_who_10 (by decide) (fun c1 => ?_) (fun c1 => ?_)
  · refine lv_null hx hb dX0_who_67 ?_
    exact hp_aret hx hb hr (Or.inl ⟨_, rfl⟩) (Or.inl rfl) hlocks hH hS (by decide) (by decide) dX0_who_68 (⟨Or.inr ⟨by rw [← show k = aN S by omega]; exact hfr, rfl⟩, rfl⟩)
  · refine lv_aload_n hx hb dX0_who_13 rfl (lv_at hl 0 rfl) ?_
    refine hp_get (C := RX0) (T := TX0) (N := 14) (v := .ref (w 3)) hx hb hts in_X0 hown hK hH hW.x rfl 2 (by decide) (hts _ q214) (fun _ z => z) rfl dX0_who_14 ?_
    refine lv_iload_n hx hb dX0_who_17 rfl (lv_at hl 3 rfl) ?_
    refine hp_lget hx hb hml hown hts hPB hK0 hK hH hS hG (hW.li 0 (by decide)) (k9 := k) (by rw [hW.ng]; omega) q808 (by first | decide | (simp only [rmk]; omega)) hl.1 rfl (Nat.le_of_ble_eq_true rfl) (by decide) dX0_who_18 (fun H locs hH hS => ?_)
    refine va_castE hx hb hown (hts _ q809) (hp_rec hK hH (hW.g (show k < aN S by omega)) rfl) dX0_who_21 ?_
    refine hp_getN (C := RX5) (T := TX5) (N := 6) (v := .int (aIr S k)) hx hb hts in_X5 hown hK hH (hW.g (show k < aN S by omega)) rfl 4 (by decide) (hG.nf hPB q548) (fun _ z => z) rfl dX0_who_24 ?_
    refine lv_iload_n hx hb dX0_who_27 rfl (lv_at hl 1 rfl) ?_
    refine lv_icmp_ne (tgt := 61) hx hb dX0_who_28 (by decide) (fun c1 => ?_) (fun c1 => ?_)
    · refine lv_iinc (v := nI (k + 1)) (lv' := [(3, .int (nI (k + 1))), (0, .ref (w 0)), (1, .int room), (2, .int place)]) hx hb dX0_who_61 hl (k := 3) rfl (nI_add k 1) (by decide) rfl (fun ls hl => ?_)
      refine lv_goto (tgt := 2) hx hb dX0_who_64 (by decide) ?_
      exact ih2 (k + 1) (by omega) H locs ls ⟨by omega, free_up hfr (fun q => c1 q.1), hH, hS, lv_sub hl [1, 2, 3, 0] rfl⟩
    · refine lv_aload_n hx hb dX0_who_31 rfl (lv_at hl 0 rfl) ?_
      refine hp_get (C := RX0) (T := TX0) (N := 14) (v := .ref (w 3)) hx hb hts in_X0 hown hK hH hW.x rfl 2 (by decide) (hts _ q214) (fun _ z => z) rfl dX0_who_32 ?_
      refine lv_iload_n hx hb dX0_who_35 rfl (lv_at hl 3 rfl) ?_
      refine hp_lget hx hb hml hown hts hPB hK0 hK hH hS hG (hW.li 0 (by decide)) (k9 := k) (by rw [hW.ng]; omega) q808 (by first | decide | (simp only [rmk]; omega)) hl.1 rfl (Nat.le_of_ble_eq_true rfl) (by decide) dX0_who_36 (fun H locs hH hS => ?_)
      refine va_castE hx hb hown (hts _ q809) (hp_rec hK hH (hW.g (show k < aN S by omega)) rfl) dX0_who_39 ?_
      refine hp_getN (C := RX5) (T := TX5) (N := 6) (v := .int (aIp S k)) hx hb hts in_X5 hown hK hH (hW.g (show k < aN S by omega)) rfl 5 (by decide) (hG.nf hPB q551) (fun _ z => z) rfl dX0_who_42 ?_
      refine lv_iload_n hx hb dX0_who_45 rfl (lv_at hl 2 rfl) ?_
      refine lv_icmp_ne (tgt := 61) hx hb dX0_who_46 (by decide) (fun c2 => ?_) (fun c2 => ?_)
      · refine lv_iinc (v := nI (k + 1)) (lv' := [(3, .int (nI (k + 1))), (0, .ref (w 0)), (1, .int room), (2, .int place)]) hx hb dX0_who_61 hl (k := 3) rfl (nI_add k 1) (by decide) rfl (fun ls hl => ?_)
        refine lv_goto (tgt := 2) hx hb dX0_who_64 (by decide) ?_
        exact ih2 (k + 1) (by omega) H locs ls ⟨by omega, free_up hfr (fun q => c2 q.2), hH, hS, lv_sub hl [1, 2, 3, 0] rfl⟩
      · refine lv_aload_n hx hb dX0_who_49 rfl (lv_at hl 0 rfl) ?_
        refine hp_get (C := RX0) (T := TX0) (N := 14) (v := .ref (w 3)) hx hb hts in_X0 hown hK hH hW.x rfl 2 (by decide) (hts _ q214) (fun _ z => z) rfl dX0_who_50 ?_
        refine lv_iload_n hx hb dX0_who_53 rfl (lv_at hl 3 rfl) ?_
        refine hp_lget hx hb hml hown hts hPB hK0 hK hH hS hG (hW.li 0 (by decide)) (k9 := k) (by rw [hW.ng]; omega) q808 (by first | decide | (simp only [rmk]; omega)) hl.1 rfl (Nat.le_of_ble_eq_true rfl) (by decide) dX0_who_54 (fun H locs hH hS => ?_)
        refine va_castE hx hb hown (hts _ q809) (hp_rec hK hH (hW.g (show k < aN S by omega)) rfl) dX0_who_57 ?_
        exact hp_aret hx hb hr (Or.inl ⟨_, rfl⟩) (Or.inr ⟨_, rfl⟩) hlocks hH hS (by decide) (by decide) dX0_who_60 (⟨Or.inl ⟨k, by omega, c1, c2, rfl⟩, rfl⟩)
set_option maxHeartbeats 4000000 in
theorem mc_areComing (hK0 : va_K D CL (TYS K) s0) {av : Nat → Nat} {ed mi : Nat} (hG : GX s0 wd av ed mi) {S : Ab} {w : Nat → Nat} {Ls : Nat → List Nat} {Jn : Nat → Nat} {Z : Nat → Nat → Int32} (hO : SOK S) (hO2 : SO2 S) (hW : CW K ed S h w Ls Jn Z) {co cx cy : Nat} (hco : h co = some (.inr (7, [.int (nI cx), .int (nI cy)]), 24)) (hcx : cx < aN S) (hcy : cy < aN S) : Met l yX0_areComing (ws_ yX0_areComing cX0_areComing 2 ((Option.some Jvm.ClassFile.FieldType.boolean))) (rmk 3 0 0) (va_Pc [.ref (w 0), .ref co] (PB s0 D CL (h))) (QR s0 D CL (fun v h1 => v = some (.int (zI (aCm S cx && aCm S cy))) ∧ h1 = h)) 0 0 (zA s0) := by
  refine hp_met (by decide) (Nat.le_of_ble_eq_true rfl) hK0 ?_
  intro p e s m below meth cd ls hx hb hr hlocks hml hown hnm hts hK hPB hl hS hH hA
  have hl : lv_has ls 2 [(0, .ref (w 0)), (1, .ref co)] := hl
  have hown : s.vm.findClass RX0 = some m.cls := hown
  have hn := hO.n
  have hmk := hO.mk
  have hrl := hO.rl
  have hrm := hO.rm
  have hsz := hO.sz
  refine lv_aload_n hx hb dX0_areComing_0 rfl (lv_at hl 0 rfl) ?_
  refine hp_get (C := RX0) (T := TX0) (N := 14) (v := .ref (w 3)) hx hb hts in_X0 hown hK hH hW.x rfl 2 (by decide) (hts _ q214) (fun _ z => z) rfl dX0_areComing_1 ?_
  refine lv_aload_n hx hb dX0_areComing_4 rfl (lv_at hl 1 rfl) ?_
  refine hp_getN (C := RX9) (T := TX9) (N := 2) (v := .int (nI cx)) hx hb hts in_X9 hown hK hH hco rfl 0 (by decide) (hG.nf hPB q722) (fun _ z => z) rfl dX0_areComing_5 ?_
  refine hp_lget hx hb hml hown hts hPB hK0 hK hH hS hG (hW.li 0 (by decide)) (k9 := cx) (by rw [hW.ng]; omega) q808 (by first | decide | (simp only [rmk]; omega)) hl.1 rfl (Nat.le_of_ble_eq_true rfl) (by decide) dX0_areComing_8 (fun H locs hH hS => ?_)
  refine va_castE hx hb hown (hts _ q809) (hp_rec hK hH (hW.g (show cx < aN S by omega)) rfl) dX0_areComing_11 ?_
  refine hp_getN (C := RX5) (T := TX5) (N := 6) (v := .int (zI (aCm S cx))) hx hb hts in_X5 hown hK hH (hW.g (show cx < aN S by omega)) rfl 2 (by decide) (hG.nf hPB q542) (fun _ z => z) rfl dX0_areComing_14 ?_
  refine lvB_eq (tgt := 44) hx hb dX0_areComing_17 (by decide) (fun c1 => ?_) (fun c1 => ?_)
  · refine lv_iconst (v := nI 0) hx hb dX0_areComing_44 (by decide) ?_
    exact hp_zret hx hb hr rfl hlocks hH hS (by decide) (by decide) dX0_areComing_45 (⟨congrArg some (congrArg Value.int (zI_0 (by rw [c1]; simp))), rfl⟩)
  · refine lv_aload_n hx hb dX0_areComing_20 rfl (lv_at hl 0 rfl) ?_
    refine hp_get (C := RX0) (T := TX0) (N := 14) (v := .ref (w 3)) hx hb hts in_X0 hown hK hH hW.x rfl 2 (by decide) (hts _ q214) (fun _ z => z) rfl dX0_areComing_21 ?_
    refine lv_aload_n hx hb dX0_areComing_24 rfl (lv_at hl 1 rfl) ?_
    refine hp_getN (C := RX9) (T := TX9) (N := 2) (v := .int (nI cy)) hx hb hts in_X9 hown hK hH hco rfl 1 (by decide) (hG.nf hPB q725) (fun _ z => z) rfl dX0_areComing_25 ?_
    refine hp_lget hx hb hml hown hts hPB hK0 hK hH hS hG (hW.li 0 (by decide)) (k9 := cy) (by rw [hW.ng]; omega) q808 (by first | decide | (simp only [rmk]; omega)) hl.1 rfl (Nat.le_of_ble_eq_true rfl) (by decide) dX0_areComing_28 (fun H locs hH hS => ?_)
    refine va_castE hx hb hown (hts _ q809) (hp_rec hK hH (hW.g (show cy < aN S by omega)) rfl) dX0_areComing_31 ?_
    refine hp_getN (C := RX5) (T := TX5) (N := 6) (v := .int (zI (aCm S cy))) hx hb hts in_X5 hown hK hH (hW.g (show cy < aN S by omega)) rfl 2 (by decide) (hG.nf hPB q542) (fun _ z => z) rfl dX0_areComing_34 ?_
    refine lvB_eq (tgt := 44) hx hb dX0_areComing_37 (by decide) (fun c2 => ?_) (fun c2 => ?_)
    · refine lv_iconst (v := nI 0) hx hb dX0_areComing_44 (by decide) ?_
      exact hp_zret hx hb hr rfl hlocks hH hS (by decide) (by decide) dX0_areComing_45 (⟨congrArg some (congrArg Value.int (zI_0 (by rw [c2]; simp))), rfl⟩)
    · refine lv_iconst (v := nI 1) hx hb dX0_areComing_40 (by decide) ?_
      refine lv_goto (tgt := 45) hx hb dX0_areComing_41 (by decide) ?_
      exact hp_zret hx hb hr rfl hlocks hH hS (by decide) (by decide) dX0_areComing_45 (⟨congrArg some (congrArg Value.int (zI_1 (by rw [c1, c2]; rfl))), rfl⟩)
set_option maxHeartbeats 4000000 in
theorem mc_isAbove (hK0 : va_K D CL (TYS K) s0) {av : Nat → Nat} {ed mi : Nat} (hG : GX s0 wd av ed mi) {S : Ab} {w : Nat → Nat} {Ls : Nat → List Nat} {Jn : Nat → Nat} {Z : Nat → Nat → Int32} (hO : SOK S) (hO2 : SO2 S) (hW : CW K ed S h w Ls Jn Z) {x : Nat} {y : Nat} {B : Nat → Nat} (hB : ∀ i, i < 10 → Z 0 i = nI (B i) ∧ B i < 1024) (hx0 : x < 10) (hy0 : y < 10) : Met l yX0_isAbove (ws_ yX0_isAbove cX0_isAbove 3 ((Option.some Jvm.ClassFile.FieldType.boolean))) (rmk 0 0 0) (va_Pc [.ref (w 0), .int (nI x), .int (nI y)] (PB s0 D CL (h))) (QR s0 D CL (fun v h1 => v = some (.int (zI ((B x).testBit y))) ∧ h1 = h)) 0 0 (zA s0) := by
  refine hp_met (by decide) (Nat.le_of_ble_eq_true rfl) hK0 ?_
  intro p e s m below meth cd ls hx hb hr hlocks hml hown hnm hts hK hPB hl hS hH hA
  have hl : lv_has ls 3 [(0, .ref (w 0)), (1, .int (nI x)), (2, .int (nI y))] := hl
  have hown : s.vm.findClass RX0 = some m.cls := hown
  have hn := hO.n
  have hmk := hO.mk
  have hrl := hO.rl
  have hrm := hO.rm
  have hsz := hO.sz
  refine lv_aload_n hx hb dX0_isAbove_0 rfl (lv_at hl 0 rfl) ?_
  refine hp_get (C := RX0) (T := TX0) (N := 14) (v := .ref (w 7)) hx hb hts in_X0 hown hK hH hW.x rfl 7 (by decide) (hts _ q219) (fun _ z => z) rfl dX0_isAbove_1 ?_
  refine lv_iload_n hx hb dX0_isAbove_4 rfl (lv_at hl 1 rfl) ?_
  refine hp_ild (n := 10) (j := x) (v := nI (B x)) hx hb hK hH 0 (hW.ar 0 (by decide)) rfl (by first | omega | (refine Nat.lt_of_lt_of_le (Nat.mod_lt _ ?_) ?_ <;> omega)) (by first | omega | (refine Nat.lt_of_lt_of_le (Nat.mod_lt _ ?_) ?_ <;> omega)) ((hB x hx0).1) dX0_isAbove_5 ?_
  refine lv_iload_n hx hb dX0_isAbove_6 rfl (lv_at hl 2 rfl) ?_
  refine lv_ishr hx hb dX0_isAbove_7 ?_
  refine lv_top (y := nI ((B x) / 2 ^ y)) (bi_shr (Nat.lt_of_lt_of_le (hB x hx0).2 (by decide)) (by first | omega | (refine Nat.lt_of_lt_of_le (Nat.mod_lt _ ?_) ?_ <;> omega))) ?_
  refine lv_iconst (v := nI 1) hx hb dX0_isAbove_8 (by decide) ?_
  refine lv_iand hx hb dX0_isAbove_9 ?_
  refine lv_top (y := zI (Nat.testBit (B x) y)) ((bi_and _ _).trans (bi_z _ _)) ?_
  refine lv_iconst (v := nI 1) hx hb dX0_isAbove_10 (by decide) ?_
  refine lvB_ne1 (tgt := 18) hx hb dX0_isAbove_11 (by decide) (fun c1 => ?_) (fun c1 => ?_)
  · refine lv_iconst (v := nI 0) hx hb dX0_isAbove_18 (by decide) ?_
    exact hp_zret hx hb hr rfl hlocks hH hS (by decide) (by decide) dX0_isAbove_19 (⟨congrArg some (congrArg Value.int (zI_0 c1)), rfl⟩)
  · refine lv_iconst (v := nI 1) hx hb dX0_isAbove_14 (by decide) ?_
    refine lv_goto (tgt := 19) hx hb dX0_isAbove_15 (by decide) ?_
    exact hp_zret hx hb hr rfl hlocks hH hS (by decide) (by decide) dX0_isAbove_19 (⟨congrArg some (congrArg Value.int (zI_1 c1)), rfl⟩)
set_option maxHeartbeats 4000000 in
theorem mc_hasCouple (hK0 : va_K D CL (TYS K) s0) {av : Nat → Nat} {ed mi : Nat} (hG : GX s0 wd av ed mi) {S : Ab} {w : Nat → Nat} {Ls : Nat → List Nat} {Jn : Nat → Nat} {Z : Nat → Nat → Int32} (hO : SOK S) (hO2 : SO2 S) (hW : CW K ed S h w Ls Jn Z) {r : Nat} {x : Nat} {y : Nat} (hr0 : r < aRl S) (hx0 : x < aN S) (hy0 : y < aN S) : Met l yX0_hasCouple (ws_ yX0_hasCouple cX0_hasCouple 5 ((Option.some Jvm.ClassFile.FieldType.boolean))) (rmk 4 0 0) (va_Pc [.ref (w 0), .ref ((Ls 2).getD r 0), .int (nI x), .int (nI y)] (PB s0 D CL (h))) (QR s0 D CL (fun v h1 => v = some (.int (zI (cplL S r x y && (aCm S x && aCm S y)))) ∧ h1 = h)) 0 0 (zA s0) := by
  refine hp_met (by decide) (Nat.le_of_ble_eq_true rfl) hK0 ?_
  intro p e s m below meth cd ls hx hb hr hlocks hml hown hnm hts hK hPB hl hS hH hA
  have hl : lv_has ls 5 [(0, .ref (w 0)), (1, .ref ((Ls 2).getD r 0)), (2, .int (nI x)), (3, .int (nI y))] := hl
  have hown : s.vm.findClass RX0 = some m.cls := hown
  have hn := hO.n
  have hmk := hO.mk
  have hrl := hO.rl
  have hrm := hO.rm
  have hsz := hO.sz
  have hnr := cN_le S r
  refine lv_iconst (v := nI 0) hx hb dX0_hasCouple_0 (by decide) ?_
  refine lv_istore (lv' := [(4, .int (nI 0)), (0, .ref (w 0)), (1, .ref ((Ls 2).getD r 0)), (2, .int (nI x)), (3, .int (nI y))]) hx hb dX0_hasCouple_1 hl (by decide) rfl (fun ls hl => ?_)
  refine w_loop1 (fun (k : Nat) => cN S r - k) (fun (k : Nat) H locs ls => (k ≤ cN S r) ∧ (∀ u, u < k → ¬ (cX S r u = x ∧ cY S r u = y)) ∧ HP D CL (zA s0) h H ∧ va_S (zA s0) s.heap H locs ∧ lv_has ls 5 [(0, .ref (w 0)), (1, .ref ((Ls 2).getD r 0)), (2, .int (nI x)), (3, .int (nI y)), (4, .int (nI k))]) ?_ 0 ⟨Nat.zero_le _, fun x hx => absurd hx (Nat.not_lt_zero _), hH, hS, lv_sub hl [1, 2, 3, 4, 0] rfl⟩
  intro k ih3 H locs ls hP
  obtain ⟨hk, hno, hH, hS, hl⟩ := hP
  refine lv_iload hx hb dX0_hasCouple_3 (lv_at hl 4 rfl) ?_
  refine lv_aload_n hx hb dX0_hasCouple_5 rfl (lv_at hl 1 rfl) ?_
  refine hp_gR6N hx hb hts hown hK hH (hW.r (show r < aRl S by omega)) (hO.kd (show r < aRl S by omega)) (hG.nf hPB q746) dX0_hasCouple_6 ?_
  refine hp_siz hx hb hml hown hts hPB hK0 hK hH hS hG (hW.cl (show r < aRl S by omega)) (hW.nc (show r < aRl S by omega)) q807 (by first | decide | (simp only [rmk]; omega)) hl.1 rfl (Nat.le_of_ble_eq_true rfl) (by decide) dX0_hasCouple_9 (fun H locs hH hS => ?_)
  refine lvN_ge (tgt := 76) hx hb (by first | omega | (refine Nat.lt_of_lt_of_le (Nat.mod_lt _ ?_) ?_ <;> omega)) (by first | omega | (refine Nat.lt_of_lt_of_le (Nat.mod_lt _ ?_) ?_ <;> omega)) dX0_hasCouple_12 (by decide) (fun c1 => ?_) (fun c1 => ?_)
  · refine lv_iconst (v := nI 0) hx hb dX0_hasCouple_76 (by decide) ?_
    exact hp_zret hx hb hr rfl hlocks hH hS (by decide) (by decide) dX0_hasCouple_77 (⟨congrArg some (congrArg Value.int (zI_0 (by rw [cpl_no hO hO2 hr0 (by rw [← show k = cN S r by omega]; exact hno)]; rfl))), rfl⟩)
  · refine lv_aload_n hx hb dX0_hasCouple_15 rfl (lv_at hl 1 rfl) ?_
    refine hp_gR6N hx hb hts hown hK hH (hW.r (show r < aRl S by omega)) (hO.kd (show r < aRl S by omega)) (hG.nf hPB q746) dX0_hasCouple_16 ?_
    refine lv_iload hx hb dX0_hasCouple_19 (lv_at hl 4 rfl) ?_
    refine hp_lget hx hb hml hown hts hPB hK0 hK hH hS hG (hW.cl (show r < aRl S by omega)) (k9 := k) (by rw [hW.nc (show r < aRl S by omega)]; omega) q808 (by first | decide | (simp only [rmk]; omega)) hl.1 rfl (Nat.le_of_ble_eq_true rfl) (by decide) dX0_hasCouple_21 (fun H locs hH hS => ?_)
    have hc2 := cXY hO hO2 (show r < aRl S by omega) (show k < cN S r by omega)
    refine va_castE hx hb hown (hts _ q1004) (hp_rec hK hH (hW.c (show r < aRl S by omega) (show k < cN S r by omega)) rfl) dX0_hasCouple_24 ?_
    refine hp_getN (C := RX9) (T := TX9) (N := 2) (v := .int (nI (cX S r k))) hx hb hts in_X9 hown hK hH (hW.c (show r < aRl S by omega) (show k < cN S r by omega)) rfl 0 (by decide) (hG.nf hPB q722) (fun _ z => z) rfl dX0_hasCouple_27 ?_
    refine lv_iload_n hx hb dX0_hasCouple_30 rfl (lv_at hl 2 rfl) ?_
    refine lvN_ne (tgt := 70) hx hb (by first | omega | (refine Nat.lt_of_lt_of_le (Nat.mod_lt _ ?_) ?_ <;> omega)) (by first | omega | (refine Nat.lt_of_lt_of_le (Nat.mod_lt _ ?_) ?_ <;> omega)) dX0_hasCouple_31 (by decide) (fun c1 => ?_) (fun c1 => ?_)
    · refine lv_iinc (v := nI (k + 1)) (lv' := [(4, .int (nI (k + 1))), (0, .ref (w 0)), (1, .ref ((Ls 2).getD r 0)), (2, .int (nI x)), (3, .int (nI y))]) hx hb dX0_hasCouple_70 hl (k := 4) rfl (nI_add k 1) (by decide) rfl (fun ls hl => ?_)
      refine lv_goto (tgt := 3) hx hb dX0_hasCouple_73 (by decide) ?_
      exact ih3 (k + 1) (by omega) H locs ls ⟨by omega, no_up hno (fun q => c1 q.1), hH, hS, lv_sub hl [1, 2, 3, 4, 0] rfl⟩
    · refine lv_aload_n hx hb dX0_hasCouple_34 rfl (lv_at hl 1 rfl) ?_
      refine hp_gR6N hx hb hts hown hK hH (hW.r (show r < aRl S by omega)) (hO.kd (show r < aRl S by omega)) (hG.nf hPB q746) dX0_hasCouple_35 ?_
      refine lv_iload hx hb dX0_hasCouple_38 (lv_at hl 4 rfl) ?_
      refine hp_lget hx hb hml hown hts hPB hK0 hK hH hS hG (hW.cl (show r < aRl S by omega)) (k9 := k) (by rw [hW.nc (show r < aRl S by omega)]; omega) q808 (by first | decide | (simp only [rmk]; omega)) hl.1 rfl (Nat.le_of_ble_eq_true rfl) (by decide) dX0_hasCouple_40 (fun H locs hH hS => ?_)
      have hc3 := cXY hO hO2 (show r < aRl S by omega) (show k < cN S r by omega)
      refine va_castE hx hb hown (hts _ q1004) (hp_rec hK hH (hW.c (show r < aRl S by omega) (show k < cN S r by omega)) rfl) dX0_hasCouple_43 ?_
      refine hp_getN (C := RX9) (T := TX9) (N := 2) (v := .int (nI (cY S r k))) hx hb hts in_X9 hown hK hH (hW.c (show r < aRl S by omega) (show k < cN S r by omega)) rfl 1 (by decide) (hG.nf hPB q725) (fun _ z => z) rfl dX0_hasCouple_46 ?_
      refine lv_iload_n hx hb dX0_hasCouple_49 rfl (lv_at hl 3 rfl) ?_
      refine lvN_ne (tgt := 70) hx hb (by first | omega | (refine Nat.lt_of_lt_of_le (Nat.mod_lt _ ?_) ?_ <;> omega)) (by first | omega | (refine Nat.lt_of_lt_of_le (Nat.mod_lt _ ?_) ?_ <;> omega)) dX0_hasCouple_50 (by decide) (fun c2 => ?_) (fun c2 => ?_)
      · refine lv_iinc (v := nI (k + 1)) (lv' := [(4, .int (nI (k + 1))), (0, .ref (w 0)), (1, .ref ((Ls 2).getD r 0)), (2, .int (nI x)), (3, .int (nI y))]) hx hb dX0_hasCouple_70 hl (k := 4) rfl (nI_add k 1) (by decide) rfl (fun ls hl => ?_)
        refine lv_goto (tgt := 3) hx hb dX0_hasCouple_73 (by decide) ?_
        exact ih3 (k + 1) (by omega) H locs ls ⟨by omega, no_up hno (fun q => c2 q.2), hH, hS, lv_sub hl [1, 2, 3, 4, 0] rfl⟩
      · refine lv_aload_n hx hb dX0_hasCouple_53 rfl (lv_at hl 0 rfl) ?_
        refine lv_aload_n hx hb dX0_hasCouple_54 rfl (lv_at hl 1 rfl) ?_
        refine hp_gR6N hx hb hts hown hK hH (hW.r (show r < aRl S by omega)) (hO.kd (show r < aRl S by omega)) (hG.nf hPB q746) dX0_hasCouple_55 ?_
        refine lv_iload hx hb dX0_hasCouple_58 (lv_at hl 4 rfl) ?_
        refine hp_lget hx hb hml hown hts hPB hK0 hK hH hS hG (hW.cl (show r < aRl S by omega)) (k9 := k) (by rw [hW.nc (show r < aRl S by omega)]; omega) q808 (by first | decide | (simp only [rmk]; omega)) hl.1 rfl (Nat.le_of_ble_eq_true rfl) (by decide) dX0_hasCouple_60 (fun H locs hH hS => ?_)
        have hc4 := cXY hO hO2 (show r < aRl S by omega) (show k < cN S r by omega)
        refine va_castE hx hb hown (hts _ q1004) (hp_rec hK hH (hW.c (show r < aRl S by omega) (show k < cN S r by omega)) rfl) dX0_hasCouple_63 ?_
        refine hp_callV (As := [.ref ((Ls (10 + r)).getD k 0)]) (rest := []) hx hb hml hown hts hPB hK hH hS (mc_areComing hK0 hG hO hO2 hW (cx := cX S r k) (cy := cY S r k) (hW.c (show r < aRl S by omega) (show k < cN S r by omega)) (by omega) (by omega)) hW.x rfl rfl 1 (lw_V q1005 q1007 qs28 q102 q1008) (by decide +kernel) ⟨rfl, rfl⟩ (by decide) rfl hl.1 rfl (Nat.le_of_ble_eq_true rfl) (by decide) dX0_hasCouple_66 (fun v5 h7 H locs hp6 _ hH hS => ?_)
        obtain ⟨rfl, hq⟩ := hp6
        rw [hq] at hH
        exact hp_zret hx hb hr (zI_nar _) hlocks hH hS (by decide) (by decide) dX0_hasCouple_69 (⟨congrArg some (congrArg Value.int (congrArg zI (by rw [cpl_yes (show k < cN S r by omega) c1 c2, Bool.true_and, ← c1, ← c2]))), rfl⟩)
set_option maxHeartbeats 4000000 in
theorem mc_sourceOf (hK0 : va_K D CL (TYS K) s0) {av : Nat → Nat} {ed mi : Nat} (hG : GX s0 wd av ed mi) {S : Ab} {w : Nat → Nat} {Ls : Nat → List Nat} {Jn : Nat → Nat} {Z : Nat → Nat → Int32} (hO : SOK S) (hO2 : SO2 S) (hW : CW K ed S h w Ls Jn Z) {x : Nat} {y : Nat} (room : Int32) (hx0 : x < aN S) (hy0 : y < aN S) : Met l yX0_sourceOf (ws_ yX0_sourceOf cX0_sourceOf 7 ((Option.some Jvm.ClassFile.FieldType.int))) (rmk 5 0 0) (va_Pc [.ref (w 0), .int room, .int (nI x), .int (nI y)] (PB s0 D CL (h))) (QR s0 D CL (fun v h1 => v = some (.int (src S room x y 0)) ∧ h1 = h)) 0 0 (zA s0) := by
  refine hp_met (by decide) (Nat.le_of_ble_eq_true rfl) hK0 ?_
  intro p e s m below meth cd ls hx hb hr hlocks hml hown hnm hts hK hPB hl hS hH hA
  have hl : lv_has ls 7 [(0, .ref (w 0)), (1, .int room), (2, .int (nI x)), (3, .int (nI y))] := hl
  have hown : s.vm.findClass RX0 = some m.cls := hown
  have hn := hO.n
  have hmk := hO.mk
  have hrl := hO.rl
  have hrm := hO.rm
  have hsz := hO.sz
  refine lv_iconst (v := (-1)) hx hb dX0_sourceOf_0 (by decide) ?_
  refine lv_istore (lv' := [(4, .int (-1)), (0, .ref (w 0)), (1, .int room), (2, .int (nI x)), (3, .int (nI y))]) hx hb dX0_sourceOf_1 hl (by decide) rfl (fun ls hl => ?_)
  refine lv_iconst (v := nI 0) hx hb dX0_sourceOf_3 (by decide) ?_
  refine lv_istore (lv' := [(5, .int (nI 0)), (4, .int (-1)), (0, .ref (w 0)), (1, .int room), (2, .int (nI x)), (3, .int (nI y))]) hx hb dX0_sourceOf_4 hl (by decide) rfl (fun ls hl => ?_)
  refine w_loop1 (fun (i : Nat) => aRl S - i) (fun (i : Nat) H locs ls => (i ≤ aRl S) ∧ HP D CL (zA s0) h H ∧ va_S (zA s0) s.heap H locs ∧ lv_has ls 7 [(0, .ref (w 0)), (1, .int room), (2, .int (nI x)), (3, .int (nI y)), (4, .int (srcF S room x y 0 i)), (5, .int (nI i))]) ?_ 0 ⟨Nat.zero_le _, hH, hS, lv_sub hl [2, 3, 4, 5, 1, 0] rfl⟩
  intro i ih6 H locs ls hP
  obtain ⟨hi, hH, hS, hl⟩ := hP
  refine lv_iload hx hb dX0_sourceOf_6 (lv_at hl 5 rfl) ?_
  refine lv_aload_n hx hb dX0_sourceOf_8 rfl (lv_at hl 0 rfl) ?_
  refine hp_get (C := RX0) (T := TX0) (N := 14) (v := .ref (w 5)) hx hb hts in_X0 hown hK hH hW.x rfl 4 (by decide) (hts _ q216) (fun _ z => z) rfl dX0_sourceOf_9 ?_
  refine hp_siz hx hb hml hown hts hPB hK0 hK hH hS hG (hW.li 2 (by decide)) hW.nr q807 (by first | decide | (simp only [rmk]; omega)) hl.1 rfl (Nat.le_of_ble_eq_true rfl) (by decide) dX0_sourceOf_12 (fun H locs hH hS => ?_)
  refine lvN_ge (tgt := 102) hx hb (by first | omega | (refine Nat.lt_of_lt_of_le (Nat.mod_lt _ ?_) ?_ <;> omega)) (by first | omega | (refine Nat.lt_of_lt_of_le (Nat.mod_lt _ ?_) ?_ <;> omega)) dX0_sourceOf_15 (by decide) (fun c1 => ?_) (fun c1 => ?_)
  · refine lv_iload hx hb dX0_sourceOf_102 (lv_at hl 4 rfl) ?_
    exact hp_iret hx hb hr hlocks hH hS (by decide) (by decide) dX0_sourceOf_104 (⟨congrArg some (congrArg Value.int (by rw [show i = aRl S by omega]; rfl)), rfl⟩)
  · refine lv_aload_n hx hb dX0_sourceOf_18 rfl (lv_at hl 0 rfl) ?_
    refine hp_get (C := RX0) (T := TX0) (N := 14) (v := .ref (w 5)) hx hb hts in_X0 hown hK hH hW.x rfl 4 (by decide) (hts _ q216) (fun _ z => z) rfl dX0_sourceOf_19 ?_
    refine lv_iload hx hb dX0_sourceOf_22 (lv_at hl 5 rfl) ?_
    refine hp_lget hx hb hml hown hts hPB hK0 hK hH hS hG (hW.li 2 (by decide)) (k9 := i) (by rw [hW.nr]; omega) q808 (by first | decide | (simp only [rmk]; omega)) hl.1 rfl (Nat.le_of_ble_eq_true rfl) (by decide) dX0_sourceOf_24 (fun H locs hH hS => ?_)
    have hn2 := cN_le S i
    have hkhn2 := hO.kd (show i < aRl S by omega)
    have hwhn2 := hO.wt (show i < aRl S by omega)
    refine hp_castR hx hb hown (hts _ q812) hG hPB hK hH (hW.r (show i < aRl S by omega)) (hO.kd (show i < aRl S by omega)) dX0_sourceOf_27 ?_
    refine lv_astore (lv' := [(6, .ref ((Ls 2).getD i 0)), (0, .ref (w 0)), (1, .int room), (2, .int (nI x)), (3, .int (nI y)), (4, .int (srcF S room x y 0 i)), (5, .int (nI i))]) hx hb dX0_sourceOf_30 hl (by decide) rfl (fun ls hl => ?_)
    refine lv_aload hx hb dX0_sourceOf_32 (lv_at hl 0 rfl) ?_
    refine hp_kind hx hb hml hown hts hPB hK0 hK hH hS hG (hW.r (show i < aRl S by omega)) (hO.kd (show i < aRl S by omega)) q887 (by first | decide | (simp only [rmk]; omega)) hl.1 rfl (Nat.le_of_ble_eq_true rfl) (by decide) dX0_sourceOf_34 (fun H locs hH hS => ?_)
    refine lvZ_ne (tgt := 96) hx hb (by first | omega | (refine Nat.lt_of_lt_of_le (Nat.mod_lt _ ?_) ?_ <;> omega)) dX0_sourceOf_37 (by decide) (fun ck => ?_) (fun ck => ?_)
    · refine lv_iinc (v := nI (i + 1)) (lv' := [(5, .int (nI (i + 1))), (6, .ref ((Ls 2).getD i 0)), (0, .ref (w 0)), (1, .int room), (2, .int (nI x)), (3, .int (nI y)), (4, .int (srcF S room x y 0 i))]) hx hb dX0_sourceOf_96 hl (k := 6) rfl (nI_add i 1) (by decide) rfl (fun ls hl => ?_)
      refine lv_goto (tgt := 6) hx hb dX0_sourceOf_99 (by decide) ?_
      have hl : lv_has ls 7 [(5, .int (nI (i + 1))), (6, .ref ((Ls 2).getD i 0)), (0, .ref (w 0)), (1, .int room), (2, .int (nI x)), (3, .int (nI y)), (4, .int (srcF S room x y 0 (i + 1)))] := by rw [show srcF S room x y 0 (i + 1) = srcF S room x y 0 i from srcF_k (Or.inl ck)]; exact hl
      exact ih6 (i + 1) (by omega) H locs ls ⟨by omega, hH, hS, lv_sub hl [2, 3, 4, 5, 6, 0] rfl⟩
    · refine lv_aload hx hb dX0_sourceOf_40 (lv_at hl 0 rfl) ?_
      refine lv_iload_n hx hb dX0_sourceOf_42 rfl (lv_at hl 2 rfl) ?_
      refine hp_cin hx hb hml hown hts hPB hK0 hK hH hS hG (hW.r (show i < aRl S by omega)) (hO.kd (show i < aRl S by omega)) q993 (by first | decide | (simp only [rmk]; omega)) hl.1 rfl (Nat.le_of_ble_eq_true rfl) (by decide) dX0_sourceOf_43 (fun H locs hH hS => ?_)
      refine lv_top (y := zI (cnt S i room)) rfl ?_
      refine lvB_eq (tgt := 96) hx hb dX0_sourceOf_46 (by decide) (fun cc => ?_) (fun cc => ?_)
      · refine lv_iinc (v := nI (i + 1)) (lv' := [(5, .int (nI (i + 1))), (6, .ref ((Ls 2).getD i 0)), (0, .ref (w 0)), (1, .int room), (2, .int (nI x)), (3, .int (nI y)), (4, .int (srcF S room x y 0 i))]) hx hb dX0_sourceOf_96 hl (k := 6) rfl (nI_add i 1) (by decide) rfl (fun ls hl => ?_)
        refine lv_goto (tgt := 6) hx hb dX0_sourceOf_99 (by decide) ?_
        have hl : lv_has ls 7 [(5, .int (nI (i + 1))), (6, .ref ((Ls 2).getD i 0)), (0, .ref (w 0)), (1, .int room), (2, .int (nI x)), (3, .int (nI y)), (4, .int (srcF S room x y 0 (i + 1)))] := by rw [show srcF S room x y 0 (i + 1) = srcF S room x y 0 i from srcF_k (Or.inr (Or.inl ⟨ck, Or.inl cc⟩))]; exact hl
        exact ih6 (i + 1) (by omega) H locs ls ⟨by omega, hH, hS, lv_sub hl [2, 3, 4, 5, 6, 0] rfl⟩
      · refine lv_aload_n hx hb dX0_sourceOf_49 rfl (lv_at hl 1 rfl) ?_
        refine lv_aload hx hb dX0_sourceOf_50 (lv_at hl 0 rfl) ?_
        refine lv_iload_n hx hb dX0_sourceOf_52 rfl (lv_at hl 3 rfl) ?_
        refine lv_iload_n hx hb dX0_sourceOf_53 rfl (lv_at hl 4 rfl) ?_
        refine hp_callV (As := [.ref ((Ls 2).getD i 0), .int (nI x), .int (nI y)]) (rest := []) hx hb hml hown hts hPB hK hH hS (mc_hasCouple hK0 hG hO hO2 hW (r := i) (x := x) (y := y) (by omega) (by omega) (by omega)) hW.x rfl rfl 3 (lw_V q1000 q1002 qs27 q102 q1003) (by decide +kernel) ⟨rfl, rfl⟩ (by decide) rfl hl.1 rfl (Nat.le_of_ble_eq_true rfl) (by decide) dX0_sourceOf_54 (fun v3 h5 H locs hp4 _ hH hS => ?_)
        obtain ⟨rfl, hq⟩ := hp4
        rw [hq] at hH
        refine lvB_ne (tgt := 63) hx hb dX0_sourceOf_57 (by decide) (fun ch => ?_) (fun ch => ?_)
        · refine lv_iload hx hb dX0_sourceOf_63 (lv_at hl 5 rfl) ?_
          refine lv_iconst (v := (-1)) hx hb dX0_sourceOf_65 (by decide) ?_
          refine lv_icmp_eq (tgt := 92) hx hb dX0_sourceOf_66 (by decide) (fun cb => ?_) (fun cb => ?_)
          · refine lv_iload hx hb dX0_sourceOf_92 (lv_at hl 6 rfl) ?_
            refine lv_istore (lv' := [(4, .int (nI i)), (6, .ref ((Ls 2).getD i 0)), (0, .ref (w 0)), (1, .int room), (2, .int (nI x)), (3, .int (nI y)), (5, .int (nI i))]) hx hb dX0_sourceOf_94 hl (by decide) rfl (fun ls hl => ?_)
            refine lv_iinc (v := nI (i + 1)) (lv' := [(5, .int (nI (i + 1))), (4, .int (nI i)), (6, .ref ((Ls 2).getD i 0)), (0, .ref (w 0)), (1, .int room), (2, .int (nI x)), (3, .int (nI y))]) hx hb dX0_sourceOf_96 hl (k := 6) rfl (nI_add i 1) (by decide) rfl (fun ls hl => ?_)
            refine lv_goto (tgt := 6) hx hb dX0_sourceOf_99 (by decide) ?_
            have hl : lv_has ls 7 [(5, .int (nI (i + 1))), (4, .int (srcF S room x y 0 (i + 1))), (6, .ref ((Ls 2).getD i 0)), (0, .ref (w 0)), (1, .int room), (2, .int (nI x)), (3, .int (nI y))] := by rw [show srcF S room x y 0 (i + 1) = nI i from srcF_y ck cc ch (Or.inl cb)]; exact hl
            exact ih6 (i + 1) (by omega) H locs ls ⟨by omega, hH, hS, lv_sub hl [3, 4, 5, 6, 1, 0] rfl⟩
          · obtain ⟨b9, hb9, eb9⟩ := (srcF_lt S room x y 0 i).resolve_left cb
            rw [eb9] at hl
            refine lv_aload hx hb dX0_sourceOf_69 (lv_at hl 0 rfl) ?_
            refine hp_gR2 hx hb hts hown hK hH (hW.r (show i < aRl S by omega)) (hO.kd (show i < aRl S by omega)) (hts _ q738) dX0_sourceOf_71 ?_
            refine lv_aload_n hx hb dX0_sourceOf_74 rfl (lv_at hl 1 rfl) ?_
            refine hp_get (C := RX0) (T := TX0) (N := 14) (v := .ref (w 5)) hx hb hts in_X0 hown hK hH hW.x rfl 4 (by decide) (hts _ q216) (fun _ z => z) rfl dX0_sourceOf_75 ?_
            refine lv_iload hx hb dX0_sourceOf_78 (lv_at hl 5 rfl) ?_
            refine hp_lget hx hb hml hown hts hPB hK0 hK hH hS hG (hW.li 2 (by decide)) (k9 := b9) (by rw [hW.nr]; omega) q808 (by first | decide | (simp only [rmk]; omega)) hl.1 rfl (Nat.le_of_ble_eq_true rfl) (by decide) dX0_sourceOf_80 (fun H locs hH hS => ?_)
            have hn6 := cN_le S b9
            have hkhn6 := hO.kd (show b9 < aRl S by omega)
            have hwhn6 := hO.wt (show b9 < aRl S by omega)
            refine hp_castR hx hb hown (hts _ q812) hG hPB hK hH (hW.r (show b9 < aRl S by omega)) (hO.kd (show b9 < aRl S by omega)) dX0_sourceOf_83 ?_
            refine hp_gR2 hx hb hts hown hK hH (hW.r (show b9 < aRl S by omega)) (hO.kd (show b9 < aRl S by omega)) (hts _ q738) dX0_sourceOf_86 ?_
            refine lvN_le (tgt := 96) hx hb (by first | omega | (refine Nat.lt_of_lt_of_le (Nat.mod_lt _ ?_) ?_ <;> omega)) (by first | omega | (refine Nat.lt_of_lt_of_le (Nat.mod_lt _ ?_) ?_ <;> omega)) dX0_sourceOf_89 (by decide) (fun cw => ?_) (fun cw => ?_)
            · refine lv_iinc (v := nI (i + 1)) (lv' := [(5, .int (nI (i + 1))), (6, .ref ((Ls 2).getD i 0)), (0, .ref (w 0)), (1, .int room), (2, .int (nI x)), (3, .int (nI y)), (4, .int (nI b9))]) hx hb dX0_sourceOf_96 hl (k := 6) rfl (nI_add i 1) (by decide) rfl (fun ls hl => ?_)
              refine lv_goto (tgt := 6) hx hb dX0_sourceOf_99 (by decide) ?_
              have hl : lv_has ls 7 [(5, .int (nI (i + 1))), (6, .ref ((Ls 2).getD i 0)), (0, .ref (w 0)), (1, .int room), (2, .int (nI x)), (3, .int (nI y)), (4, .int (srcF S room x y 0 (i + 1)))] := by rw [show srcF S room x y 0 (i + 1) = nI b9 from (srcF_k (Or.inr (Or.inr ⟨cb, by rw [eb9, nI_clamp (by omega)]; omega⟩))).trans eb9]; exact hl
              exact ih6 (i + 1) (by omega) H locs ls ⟨by omega, hH, hS, lv_sub hl [2, 3, 4, 5, 6, 0] rfl⟩
            · refine lv_iload hx hb dX0_sourceOf_92 (lv_at hl 6 rfl) ?_
              refine lv_istore (lv' := [(4, .int (nI i)), (6, .ref ((Ls 2).getD i 0)), (0, .ref (w 0)), (1, .int room), (2, .int (nI x)), (3, .int (nI y)), (5, .int (nI i))]) hx hb dX0_sourceOf_94 hl (by decide) rfl (fun ls hl => ?_)
              refine lv_iinc (v := nI (i + 1)) (lv' := [(5, .int (nI (i + 1))), (4, .int (nI i)), (6, .ref ((Ls 2).getD i 0)), (0, .ref (w 0)), (1, .int room), (2, .int (nI x)), (3, .int (nI y))]) hx hb dX0_sourceOf_96 hl (k := 6) rfl (nI_add i 1) (by decide) rfl (fun ls hl => ?_)
              refine lv_goto (tgt := 6) hx hb dX0_sourceOf_99 (by decide) ?_
              have hl : lv_has ls 7 [(5, .int (nI (i + 1))), (4, .int (srcF S room x y 0 (i + 1))), (6, .ref ((Ls 2).getD i 0)), (0, .ref (w 0)), (1, .int room), (2, .int (nI x)), (3, .int (nI y))] := by rw [show srcF S room x y 0 (i + 1) = nI i from srcF_y ck cc ch (Or.inr (by rw [eb9, nI_clamp (by omega)]; exact cw))]; exact hl
              exact ih6 (i + 1) (by omega) H locs ls ⟨by omega, hH, hS, lv_sub hl [3, 4, 5, 6, 1, 0] rfl⟩
        · refine lv_goto (tgt := 96) hx hb dX0_sourceOf_60 (by decide) ?_
          refine lv_iinc (v := nI (i + 1)) (lv' := [(5, .int (nI (i + 1))), (6, .ref ((Ls 2).getD i 0)), (0, .ref (w 0)), (1, .int room), (2, .int (nI x)), (3, .int (nI y)), (4, .int (srcF S room x y 0 i))]) hx hb dX0_sourceOf_96 hl (k := 6) rfl (nI_add i 1) (by decide) rfl (fun ls hl => ?_)
          refine lv_goto (tgt := 6) hx hb dX0_sourceOf_99 (by decide) ?_
          have hl : lv_has ls 7 [(5, .int (nI (i + 1))), (6, .ref ((Ls 2).getD i 0)), (0, .ref (w 0)), (1, .int room), (2, .int (nI x)), (3, .int (nI y)), (4, .int (srcF S room x y 0 (i + 1)))] := by rw [show srcF S room x y 0 (i + 1) = srcF S room x y 0 i from srcF_k (Or.inr (Or.inl ⟨ck, Or.inr ch⟩))]; exact hl
          exact ih6 (i + 1) (by omega) H locs ls ⟨by omega, hH, hS, lv_sub hl [2, 3, 4, 5, 6, 0] rfl⟩
set_option maxHeartbeats 4000000 in
theorem mc_source (hK0 : va_K D CL (TYS K) s0) {av : Nat → Nat} {ed mi : Nat} (hG : GX s0 wd av ed mi) {S : Ab} {w : Nat → Nat} {Ls : Nat → List Nat} {Jn : Nat → Nat} {Z : Nat → Nat → Int32} (hO : SOK S) (hO2 : SO2 S) (hW : CW K ed S h w Ls Jn Z) (room g o9 : Int32) : Met l yX0_source (ws_ yX0_source cX0_source 4 ((Option.some Jvm.ClassFile.FieldType.int))) (rmk 6 0 0) (va_Pc [.ref (w 0), .int room, .int g, .int o9] (PB s0 D CL (h))) (QR s0 D CL (fun v h1 => v = some (.int (spSource S room g o9)) ∧ h1 = h)) 0 0 (zA s0) := by
  refine hp_met (by decide) (Nat.le_of_ble_eq_true rfl) hK0 ?_
  intro p e s m below meth cd ls hx hb hr hlocks hml hown hnm hts hK hPB hl hS hH hA
  have hl : lv_has ls 4 [(0, .ref (w 0)), (1, .int room), (2, .int g), (3, .int o9)] := hl
  have hown : s.vm.findClass RX0 = some m.cls := hown
  have hn := hO.n
  have hmk := hO.mk
  have hrl := hO.rl
  have hrm := hO.rm
  have hsz := hO.sz
  refine lv_aload_n hx hb dX0_source_0 rfl (lv_at hl 0 rfl) ?_
  refine lv_iload_n hx hb dX0_source_1 rfl (lv_at hl 1 rfl) ?_
  refine hp_callV (As := [.int room]) (rest := []) hx hb hml hown hts hPB hK hH hS (mc_roomAt hK0 hG hO hO2 hW room) hW.x rfl rfl 1 (lw_V q924 q926 qs24 q102 q927) (by decide +kernel) ⟨rfl, rfl⟩ (by decide) rfl hl.1 rfl (Nat.le_of_ble_eq_true rfl) (by decide) dX0_source_2 (fun v3 h5 H locs hp4 _ hH hS => ?_)
  rcases hp4.1 with ⟨k1, hk1, hgk1, rfl⟩ | ⟨cz2, rfl⟩
  · have hq := hp4.2; rw [hq] at hH
    subst hgk1
    have hik1 : inN (nI k1) (aRm S) = true := by rw [inN_nI (by omega)]; exact decide_eq_true hk1
    have ek1 := nI_clamp (show k1 < 2 ^ 31 by omega)
    have hp6 := hO.rp (show k1 < aRm S by omega)
    refine lv_ifnull hx hb dX0_source_5 ?_
    refine lv_aload_n hx hb dX0_source_8 rfl (lv_at hl 0 rfl) ?_
    refine lv_iload_n hx hb dX0_source_9 rfl (lv_at hl 2 rfl) ?_
    refine hp_callV (As := [.int g]) (rest := []) hx hb hml hown hts hPB hK hH hS (mc_guestAt hK0 hG hO hO2 hW g) hW.x rfl rfl 1 (lw_V q875 q877 qs22 q102 q878) (by decide +kernel) ⟨rfl, rfl⟩ (by decide) rfl hl.1 rfl (Nat.le_of_ble_eq_true rfl) (by decide) dX0_source_10 (fun v9 h11 H locs hp10 _ hH hS => ?_)
    rcases hp10.1 with ⟨k7, hk7, hgk7, rfl⟩ | ⟨cz8, rfl⟩
    · have hq := hp10.2; rw [hq] at hH
      subst hgk7
      have hik7 : inN (nI k7) (aN S) = true := by rw [inN_nI (by omega)]; exact decide_eq_true hk7
      have ek7 := nI_clamp (show k7 < 2 ^ 31 by omega)
      refine lv_ifnull hx hb dX0_source_13 ?_
      refine lv_aload_n hx hb dX0_source_16 rfl (lv_at hl 0 rfl) ?_
      refine lv_iload_n hx hb dX0_source_17 rfl (lv_at hl 3 rfl) ?_
      refine hp_callV (As := [.int o9]) (rest := []) hx hb hml hown hts hPB hK hH hS (mc_guestAt hK0 hG hO hO2 hW o9) hW.x rfl rfl 1 (lw_V q875 q877 qs22 q102 q878) (by decide +kernel) ⟨rfl, rfl⟩ (by decide) rfl hl.1 rfl (Nat.le_of_ble_eq_true rfl) (by decide) dX0_source_18 (fun v14 h16 H locs hp15 _ hH hS => ?_)
      rcases hp15.1 with ⟨k12, hk12, hgk12, rfl⟩ | ⟨cz13, rfl⟩
      · have hq := hp15.2; rw [hq] at hH
        subst hgk12
        have hik12 : inN (nI k12) (aN S) = true := by rw [inN_nI (by omega)]; exact decide_eq_true hk12
        have ek12 := nI_clamp (show k12 < 2 ^ 31 by omega)
        refine lv_ifnonnull (tgt := 28) hx hb dX0_source_21 (by decide) ?_
        refine lv_aload_n hx hb dX0_source_28 rfl (lv_at hl 0 rfl) ?_
        refine lv_iload_n hx hb dX0_source_29 rfl (lv_at hl 1 rfl) ?_
        refine lv_iload_n hx hb dX0_source_30 rfl (lv_at hl 2 rfl) ?_
        refine lv_iload_n hx hb dX0_source_31 rfl (lv_at hl 3 rfl) ?_
        refine hp_callV (As := [.int (nI k1), .int (nI k7), .int (nI k12)]) (rest := []) hx hb hml hown hts hPB hK hH hS (mc_sourceOf hK0 hG hO hO2 hW (x := k7) (y := k12) (nI k1) (by omega) (by omega)) hW.x rfl rfl 3 (lw_V q989 q991 qs26 q102 q992) (by decide +kernel) ⟨rfl, rfl⟩ (by decide) rfl hl.1 rfl (Nat.le_of_ble_eq_true rfl) (by decide) dX0_source_32 (fun v17 h19 H locs hp18 _ hH hS => ?_)
        obtain ⟨rfl, hq⟩ := hp18
        rw [hq] at hH
        exact hp_iret hx hb hr hlocks hH hS (by decide) (by decide) dX0_source_35 (⟨congrArg some (congrArg Value.int (by simp [spSource, hik1, ek1, hik7, ek7, hik12, ek12])), rfl⟩)
      · have hq := hp15.2; rw [hq] at hH
        refine lv_ifnonnullN hx hb dX0_source_21 ?_
        refine lv_iconst (v := (-1)) hx hb dX0_source_24 (by decide) ?_
        refine lv_goto (tgt := 35) hx hb dX0_source_25 (by decide) ?_
        exact hp_iret hx hb hr hlocks hH hS (by decide) (by decide) dX0_source_35 (⟨congrArg some (congrArg Value.int (by simp [spSource, hik1, ek1, hik7, ek7, cz13])), rfl⟩)
    · have hq := hp10.2; rw [hq] at hH
      refine lv_ifnullN (tgt := 24) hx hb dX0_source_13 (by decide) ?_
      refine lv_iconst (v := (-1)) hx hb dX0_source_24 (by decide) ?_
      refine lv_goto (tgt := 35) hx hb dX0_source_25 (by decide) ?_
      exact hp_iret hx hb hr hlocks hH hS (by decide) (by decide) dX0_source_35 (⟨congrArg some (congrArg Value.int (by simp [spSource, hik1, ek1, cz8])), rfl⟩)
  · have hq := hp4.2; rw [hq] at hH
    refine lv_ifnullN (tgt := 24) hx hb dX0_source_5 (by decide) ?_
    refine lv_iconst (v := (-1)) hx hb dX0_source_24 (by decide) ?_
    refine lv_goto (tgt := 35) hx hb dX0_source_25 (by decide) ?_
    exact hp_iret hx hb hr hlocks hH hS (by decide) (by decide) dX0_source_35 (⟨congrArg some (congrArg Value.int (by simp [spSource, cz2])), rfl⟩)
set_option maxHeartbeats 4000000 in
theorem mc_higher (hK0 : va_K D CL (TYS K) s0) {av : Nat → Nat} {ed mi : Nat} (hG : GX s0 wd av ed mi) {S : Ab} {w : Nat → Nat} {Ls : Nat → List Nat} {Jn : Nat → Nat} {Z : Nat → Nat → Int32} (hO : SOK S) (hO2 : SO2 S) (hW : CW K ed S h w Ls Jn Z) (room cr a b : Int32) : Met l yX0_higher (ws_ yX0_higher cX0_higher 6 ((Option.some Jvm.ClassFile.FieldType.int))) (rmk 4 0 0) (va_Pc [.ref (w 0), .int room, .int cr, .int a, .int b] (PB s0 D CL (h))) (QR s0 D CL (fun v h1 => v = some (.int (spHigher S room cr a b)) ∧ h1 = h)) 0 0 (zA s0) := by
  refine hp_met (by decide) (Nat.le_of_ble_eq_true rfl) hK0 ?_
  intro p e s m below meth cd ls hx hb hr hlocks hml hown hnm hts hK hPB hl hS hH hA
  have hl : lv_has ls 6 [(0, .ref (w 0)), (1, .int room), (2, .int cr), (3, .int a), (4, .int b)] := hl
  have hown : s.vm.findClass RX0 = some m.cls := hown
  have hn := hO.n
  have hmk := hO.mk
  have hrl := hO.rl
  have hrm := hO.rm
  have hsz := hO.sz
  refine lv_aload_n hx hb dX0_higher_0 rfl (lv_at hl 0 rfl) ?_
  refine lv_iload_n hx hb dX0_higher_1 rfl (lv_at hl 1 rfl) ?_
  refine hp_callV (As := [.int room]) (rest := []) hx hb hml hown hts hPB hK hH hS (mc_roomAt hK0 hG hO hO2 hW room) hW.x rfl rfl 1 (lw_V q924 q926 qs24 q102 q927) (by decide +kernel) ⟨rfl, rfl⟩ (by decide) rfl hl.1 rfl (Nat.le_of_ble_eq_true rfl) (by decide) dX0_higher_2 (fun v3 h5 H locs hp4 _ hH hS => ?_)
  rcases hp4.1 with ⟨k1, hk1, hgk1, rfl⟩ | ⟨cz2, rfl⟩
  · have hq := hp4.2; rw [hq] at hH
    subst hgk1
    have hik1 : inN (nI k1) (aRm S) = true := by rw [inN_nI (by omega)]; exact decide_eq_true hk1
    have ek1 := nI_clamp (show k1 < 2 ^ 31 by omega)
    have hp6 := hO.rp (show k1 < aRm S by omega)
    refine lv_astore (lv' := [(5, .ref ((Ls 3).getD k1 0)), (0, .ref (w 0)), (1, .int (nI k1)), (2, .int cr), (3, .int a), (4, .int b)]) hx hb dX0_higher_5 hl (by decide) rfl (fun ls hl => ?_)
    refine lv_aload hx hb dX0_higher_7 (lv_at hl 0 rfl) ?_
    refine lv_ifnull hx hb dX0_higher_9 ?_
    refine lv_iload_n hx hb dX0_higher_12 rfl (lv_at hl 3 rfl) ?_
    refine lv_iconst (v := nI 0) hx hb dX0_higher_13 (by decide) ?_
    refine lv_bipush (v := nI 9) hx hb dX0_higher_14 (by decide) ?_
    refine hp_callS (As := [.int cr, .int (nI 0), .int (nI 9)]) (rest := []) hx hb hml hown hts hPB hH hS (mc_in hK0 cr (nI 0) (nI 9)) 3 (lw_S q268 q269 q102 q270) (by decide +kernel) ⟨rfl, rfl⟩ (by decide) rfl hl.1 rfl (Nat.le_of_ble_eq_true rfl) (by decide) dX0_higher_16 (fun v7 h9 H locs hp8 _ hH hS => ?_)
    obtain ⟨rfl, hq⟩ := hp8
    rw [hq] at hH
    refine lv_top (y := zI (inN cr 10)) (congrArg zI (in_ik (by omega))) ?_
    refine lvB_eq (tgt := 53) hx hb dX0_higher_19 (by decide) (fun c10 => ?_) (fun c10 => ?_)
    · refine lv_iconst (v := (-1)) hx hb dX0_higher_53 (by decide) ?_
      refine lv_goto (tgt := 66) hx hb dX0_higher_54 (by decide) ?_
      exact hp_iret hx hb hr hlocks hH hS (by decide) (by decide) dX0_higher_66 (⟨congrArg some (congrArg Value.int (by simp [spHigher, hik1, ek1, c10])), rfl⟩)
    · obtain ⟨c9, hkc9, rfl⟩ := inN_t c10
      have ec9 := nI_clamp (show c9 < 2 ^ 31 by omega)
      refine lv_iload_n hx hb dX0_higher_22 rfl (lv_at hl 4 rfl) ?_
      refine lv_iconst (v := nI 0) hx hb dX0_higher_23 (by decide) ?_
      refine lv_aload hx hb dX0_higher_24 (lv_at hl 0 rfl) ?_
      refine hp_gQ hx hb hts hown hK hH (hW.q (show k1 < aRm S by omega)) (hO.rk (show k1 < aRm S by omega)) (hts _ q835) dX0_higher_26 ?_
      refine lv_iconst (v := nI 1) hx hb dX0_higher_29 (by decide) ?_
      refine lv_isub hx hb dX0_higher_30 ?_
      refine hp_callS (As := [.int a, .int (nI 0), .int ((nI (aRp S k1)) - (nI 1))]) (rest := []) hx hb hml hown hts hPB hH hS (mc_in hK0 a (nI 0) ((nI (aRp S k1)) - (nI 1))) 3 (lw_S q268 q269 q102 q270) (by decide +kernel) ⟨rfl, rfl⟩ (by decide) rfl hl.1 rfl (Nat.le_of_ble_eq_true rfl) (by decide) dX0_higher_31 (fun v11 h13 H locs hp12 _ hH hS => ?_)
      obtain ⟨rfl, hq⟩ := hp12
      rw [hq] at hH
      refine lv_top (y := zI (inN a (aRp S k1))) (congrArg zI (in_i0 (by omega))) ?_
      refine lvB_eq (tgt := 53) hx hb dX0_higher_34 (by decide) (fun c14 => ?_) (fun c14 => ?_)
      · refine lv_iconst (v := (-1)) hx hb dX0_higher_53 (by decide) ?_
        refine lv_goto (tgt := 66) hx hb dX0_higher_54 (by decide) ?_
        exact hp_iret hx hb hr hlocks hH hS (by decide) (by decide) dX0_higher_66 (⟨congrArg some (congrArg Value.int (by simp [spHigher, hik1, ek1, c10, ec9, c14])), rfl⟩)
      · obtain ⟨a9, hka9, rfl⟩ := inN_t c14
        have ea9 := nI_clamp (show a9 < 2 ^ 31 by omega)
        refine lv_iload hx hb dX0_higher_37 (lv_at hl 5 rfl) ?_
        refine lv_iconst (v := nI 0) hx hb dX0_higher_39 (by decide) ?_
        refine lv_aload hx hb dX0_higher_40 (lv_at hl 0 rfl) ?_
        refine hp_gQ hx hb hts hown hK hH (hW.q (show k1 < aRm S by omega)) (hO.rk (show k1 < aRm S by omega)) (hts _ q835) dX0_higher_42 ?_
        refine lv_iconst (v := nI 1) hx hb dX0_higher_45 (by decide) ?_
        refine lv_isub hx hb dX0_higher_46 ?_
        refine hp_callS (As := [.int b, .int (nI 0), .int ((nI (aRp S k1)) - (nI 1))]) (rest := []) hx hb hml hown hts hPB hH hS (mc_in hK0 b (nI 0) ((nI (aRp S k1)) - (nI 1))) 3 (lw_S q268 q269 q102 q270) (by decide +kernel) ⟨rfl, rfl⟩ (by decide) rfl hl.1 rfl (Nat.le_of_ble_eq_true rfl) (by decide) dX0_higher_47 (fun v15 h17 H locs hp16 _ hH hS => ?_)
        obtain ⟨rfl, hq⟩ := hp16
        rw [hq] at hH
        refine lv_top (y := zI (inN b (aRp S k1))) (congrArg zI (in_i0 (by omega))) ?_
        refine lvB_ne (tgt := 57) hx hb dX0_higher_50 (by decide) (fun c18 => ?_) (fun c18 => ?_)
        · obtain ⟨b9, hkb9, rfl⟩ := inN_t c18
          have eb9 := nI_clamp (show b9 < 2 ^ 31 by omega)
          refine lv_aload hx hb dX0_higher_57 (lv_at hl 0 rfl) ?_
          refine lv_iload_n hx hb dX0_higher_59 rfl (lv_at hl 3 rfl) ?_
          refine lv_iload_n hx hb dX0_higher_60 rfl (lv_at hl 4 rfl) ?_
          refine lv_iload hx hb dX0_higher_61 (lv_at hl 5 rfl) ?_
          refine hp_hi hx hb hml hown hts hPB hK0 hK hH hS hG (hW.q (show k1 < aRm S by omega)) (hO.rk (show k1 < aRm S by omega)) (hO.rp (show k1 < aRm S by omega)) (c9 := c9) (a := a9) (b := b9) (by omega) (by omega) (by omega) q945 (by first | decide | (simp only [rmk]; omega)) hl.1 rfl (Nat.le_of_ble_eq_true rfl) (by decide) dX0_higher_63 (fun H locs hH hS => ?_)
          exact hp_iret hx hb hr hlocks hH hS (by decide) (by decide) dX0_higher_66 (⟨congrArg some (congrArg Value.int (by simp only [spHigher, hik1, ek1, c10, ec9, c14, ea9, c18, eb9, Bool.and_self, if_true]; exact (hgh_ht (hO.rk (by omega)) (by omega) (by omega)).symm)), rfl⟩)
        · refine lv_iconst (v := (-1)) hx hb dX0_higher_53 (by decide) ?_
          refine lv_goto (tgt := 66) hx hb dX0_higher_54 (by decide) ?_
          exact hp_iret hx hb hr hlocks hH hS (by decide) (by decide) dX0_higher_66 (⟨congrArg some (congrArg Value.int (by simp [spHigher, hik1, ek1, c10, ec9, c14, ea9, c18])), rfl⟩)
  · have hq := hp4.2; rw [hq] at hH
    refine lv_astoreN (lv' := [(5, .null), (0, .ref (w 0)), (1, .int room), (2, .int cr), (3, .int a), (4, .int b)]) hx hb dX0_higher_5 hl (by decide) rfl (fun ls hl => ?_)
    refine lv_aloadN hx hb dX0_higher_7 (lv_at hl 0 rfl) ?_
    refine lv_ifnullN (tgt := 53) hx hb dX0_higher_9 (by decide) ?_
    refine lv_iconst (v := (-1)) hx hb dX0_higher_53 (by decide) ?_
    refine lv_goto (tgt := 66) hx hb dX0_higher_54 (by decide) ?_
    exact hp_iret hx hb hr hlocks hH hS (by decide) (by decide) dX0_higher_66 (⟨congrArg some (congrArg Value.int (by simp [spHigher, cz2])), rfl⟩)
end MODEL
