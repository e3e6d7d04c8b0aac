/-! by gen/mspec.py -/
set_option maxRecDepth 100000
section MODEL
variable {l : Launch} {s0 : State} {D : va_G} {K : Nat → ClassId} {wd : Nat → Nat} {o : Nat} {h : Hp} {I : Nat → Int32} {V : Nat → Nat → Int32} {J : Nat → Nat → Int64}
set_option maxHeartbeats 4000000 in
theorem mc_goes (hK0 : va_K D CL (TYS K) s0) {av : Nat → Nat} {ed mi : Nat} (hG : GX s0 wd av ed mi) {a t : Nat} {v0 v1 v2 v3 v4 v5 : Value} (he : h a = some (.inr (4, [v0, v1, v2, v3, v4, v5]), t)) : Met l yX5_goes (ws_ yX5_goes cX5_goes 1 ((Option.none : Option Jvm.ClassFile.FieldType))) (rmk 0 0 0) (va_Pc [.ref a] (PB s0 D CL (h))) (QR s0 D CL (fun v h1 => v = none ∧ h1 = hset h a (.inr (4, [v0, v1, v2, .int (zI false), .int (-1), .int (-1)])) t)) 0 0 (zA s0) := by
  refine hp_met (by decide) (Nat.le_of_ble_eq_true rfl) hK0 ?_
  intro p e s m below meth cd ls hx hb hr hlocks hml hown hnm hts hK hPB hl hS hH hA
  have hl : lv_has ls 1 [(0, .ref a)] := hl
  have hown : s.vm.findClass RX5 = some m.cls := hown
  refine lv_aload_n hx hb dX5_goes_0 rfl (lv_at hl 0 rfl) ?_
  refine lv_iconst (v := (-1)) hx hb dX5_goes_1 (by decide) ?_
  refine hp_put (C := RX5) (T := TX5) (N := 6) (v := .int (-1)) (ty := .int) hx hb hts in_X5 tyX5 tyX5_ok nmX5 hown hK hH hS he rfl 4 (by decide) (hts _ q546) (fun _ z => z) rfl (by decide +kernel) rfl rfl (Nat.le_of_ble_eq_true rfl) dX5_goes_2 (fun H locs _ hH hS => ?_)
  have hH : HP D CL (zA s0) (hset h a (.inr (4, [v0, v1, v2, v3, .int (-1), v5])) t) H := hH
  have e1 : (hset h a (.inr (4, [v0, v1, v2, v3, .int (-1), v5])) t) a = some (.inr (4, [v0, v1, v2, v3, .int (-1), v5]), t) := hset_self _ _ _ _
  refine lv_aload_n hx hb dX5_goes_5 rfl (lv_at hl 0 rfl) ?_
  refine lv_iconst (v := (-1)) hx hb dX5_goes_6 (by decide) ?_
  refine hp_put (C := RX5) (T := TX5) (N := 6) (v := .int (-1)) (ty := .int) hx hb hts in_X5 tyX5 tyX5_ok nmX5 hown hK hH hS e1 rfl 5 (by decide) (hts _ q549) (fun _ z => z) rfl (by decide +kernel) rfl rfl (Nat.le_of_ble_eq_true rfl) dX5_goes_7 (fun H locs _ hH hS => ?_)
  have hH : HP D CL (zA s0) (hset (hset h a (.inr (4, [v0, v1, v2, v3, .int (-1), v5])) t) a (.inr (4, [v0, v1, v2, v3, .int (-1), .int (-1)])) t) H := hH
  have e2 : (hset (hset h a (.inr (4, [v0, v1, v2, v3, .int (-1), v5])) t) a (.inr (4, [v0, v1, v2, v3, .int (-1), .int (-1)])) t) a = some (.inr (4, [v0, v1, v2, v3, .int (-1), .int (-1)]), t) := hset_self _ _ _ _
  refine lv_aload_n hx hb dX5_goes_10 rfl (lv_at hl 0 rfl) ?_
  refine lv_iconst (v := nI 0) hx hb dX5_goes_11 (by decide) ?_
  refine hp_put (C := RX5) (T := TX5) (N := 6) (v := .int (nI 0)) (ty := .boolean) hx hb hts in_X5 tyX5 tyX5_ok nmX5 hown hK hH hS e2 rfl 3 (by decide) (hts _ q544) (fun _ z => z) rfl (by decide +kernel) rfl rfl (Nat.le_of_ble_eq_true rfl) dX5_goes_12 (fun H locs _ hH hS => ?_)
  have hH : HP D CL (zA s0) (hset (hset (hset h a (.inr (4, [v0, v1, v2, v3, .int (-1), v5])) t) a (.inr (4, [v0, v1, v2, v3, .int (-1), .int (-1)])) t) a (.inr (4, [v0, v1, v2, .int (nI 0), .int (-1), .int (-1)])) t) H := hH
  have e3 : (hset (hset (hset h a (.inr (4, [v0, v1, v2, v3, .int (-1), v5])) t) a (.inr (4, [v0, v1, v2, v3, .int (-1), .int (-1)])) t) a (.inr (4, [v0, v1, v2, .int (nI 0), .int (-1), .int (-1)])) t) a = some (.inr (4, [v0, v1, v2, .int (nI 0), .int (-1), .int (-1)]), t) := hset_self _ _ _ _
  exact hp_vret hx hb hr hlocks hH hS (by decide) (by decide) dX5_goes_15 (⟨rfl, by simp only [hset_hset]; rfl⟩)
set_option maxHeartbeats 4000000 in
theorem mc_rest (hK0 : va_K D CL (TYS K) s0) {av : Nat → Nat} {ed mi : Nat} (hG : GX s0 wd av ed mi) {S : Ab} {w : Nat → Nat} {Ls : Nat → List Nat} {Jn : Nat → Nat} {Z : Nat → Nat → Int32} (hO : SOK S) (hO2 : SO2 S) (hW : CW K ed S h w Ls Jn Z) (r : Int32) (b : Bool) : Met l yX0_rest (ws_ yX0_rest cX0_rest 4 ((Option.some Jvm.ClassFile.FieldType.boolean))) (rmk 4 0 0) (va_Pc [.ref (w 0), .int r, .int (zI b)] (PB s0 D CL (h))) (QR s0 D CL (fun v h1 => v = some (.int (zI (okRest S r b))) ∧ PBX K ed (stRest S r b) (w 0) h h1)) 0 0 (zA s0) := by
  refine hp_met (by decide) (Nat.le_of_ble_eq_true rfl) hK0 ?_
  intro p e s m below meth cd ls hx hb hr hlocks hml hown hnm hts hK hPB hl hS hH hA
  have hl : lv_has ls 4 [(0, .ref (w 0)), (1, .int r), (2, .int (zI b))] := hl
  have hown : s.vm.findClass RX0 = some m.cls := hown
  have hn := hO.n
  have hmk := hO.mk
  have hrl := hO.rl
  have hrm := hO.rm
  have hsz := hO.sz
  refine lv_aload_n hx hb dX0_rest_0 rfl (lv_at hl 0 rfl) ?_
  refine lv_iload_n hx hb dX0_rest_1 rfl (lv_at hl 1 rfl) ?_
  refine hp_callV (As := [.int r]) (rest := []) hx hb hml hown hts hPB hK hH hS (mc_ruleAt hK0 hG hO hO2 hW r) hW.x rfl rfl 1 (lw_V q883 q885 qs23 q102 q886) (by decide +kernel) ⟨rfl, rfl⟩ (by decide) rfl hl.1 rfl (Nat.le_of_ble_eq_true rfl) (by decide) dX0_rest_2 (fun v3 h5 H locs hp4 _ hH hS => ?_)
  rcases hp4.1 with ⟨k1, hk1, hgk1, rfl⟩ | ⟨cz2, rfl⟩
  · have hq := hp4.2; rw [hq] at hH
    subst hgk1
    have hik1 : inN (nI k1) (aRl S) = true := by rw [inN_nI (by omega)]; exact decide_eq_true hk1
    have ek1 := nI_clamp (show k1 < 2 ^ 31 by omega)
    have hn6 := cN_le S k1
    have hkhn6 := hO.kd (show k1 < aRl S by omega)
    have hwhn6 := hO.wt (show k1 < aRl S by omega)
    refine lv_astore_n (lv' := [(3, .ref ((Ls 2).getD k1 0)), (0, .ref (w 0)), (1, .int (nI k1)), (2, .int (zI b))]) hx hb dX0_rest_5 rfl hl (by decide) rfl (fun ls hl => ?_)
    refine lv_aload_n hx hb dX0_rest_6 rfl (lv_at hl 0 rfl) ?_
    refine lv_ifnull hx hb dX0_rest_7 ?_
    refine lv_aload_n hx hb dX0_rest_10 rfl (lv_at hl 0 rfl) ?_
    refine hp_gR5 hx hb hts hown hK hH (hW.r (show k1 < aRl S by omega)) (hO.kd (show k1 < aRl S by omega)) (hts _ q744) dX0_rest_11 ?_
    refine lv_iload_n hx hb dX0_rest_14 rfl (lv_at hl 3 rfl) ?_
    refine lv_icmp_ne (tgt := 20) hx hb dX0_rest_15 (by decide) (fun c7 => ?_) (fun c7 => ?_)
    · have c7 : ¬ (aRs S k1) = b := fun q => c7 (zI_inj.mpr q)
      refine lv_aload_n hx hb dX0_rest_20 rfl (lv_at hl 0 rfl) ?_
      refine lv_iload_n hx hb dX0_rest_21 rfl (lv_at hl 3 rfl) ?_
      refine hp_pR5 hx hb hts hown hK hH hS (hW.r (show k1 < aRl S by omega)) (hO.kd (show k1 < aRl S by omega)) (hts _ q744) dX0_rest_22 (fun H locs _ hH hS => ?_)
      have hH : HP D CL (zA s0) (hset h ((Ls 2).getD k1 0) (.inr (cRl (aKd S k1), [.ref (sdA Ls (aOn S k1)), .ref (sdA Ls (aOt S k1)), .int (nI (aWt S k1)), .int (aTl S k1), unV Ls (aUn S k1), .int (zI b), .ref (w (300 + k1))])) 22) H := hH
      refine lv_iconst (v := nI 1) hx hb dX0_rest_25 (by decide) ?_
      exact hp_zret hx hb hr rfl hlocks hH hS (by decide) (by decide) dX0_rest_26 (⟨congrArg some (congrArg Value.int (zI_1 (by simp [okRest, hik1, ek1, c7]))), by rw [show stRest S (nI k1) b = _ from if_pos (by simp [okRest, hik1, ek1, c7]), ek1]; exact pbx_r hW (by omega) b⟩)
    · have c7 : (aRs S k1) = b := zI_inj.mp c7
      refine lv_iconst (v := nI 0) hx hb dX0_rest_18 (by decide) ?_
      exact hp_zret hx hb hr rfl hlocks hH hS (by decide) (by decide) dX0_rest_19 (⟨congrArg some (congrArg Value.int (zI_0 (by simp [okRest, hik1, ek1, c7]))), by rw [show stRest S (nI k1) b = S from if_neg (Bool.not_eq_true _ ▸ (by simp [okRest, hik1, ek1, c7] : okRest S (nI k1) b = false))]; exact pbx_h hW⟩)
  · have hq := hp4.2; rw [hq] at hH
    refine lv_astore_nN (lv' := [(3, .null), (0, .ref (w 0)), (1, .int r), (2, .int (zI b))]) hx hb dX0_rest_5 rfl hl (by decide) rfl (fun ls hl => ?_)
    refine lv_aload_nN hx hb dX0_rest_6 rfl (lv_at hl 0 rfl) ?_
    refine lv_ifnullN (tgt := 18) hx hb dX0_rest_7 (by decide) ?_
    refine lv_iconst (v := nI 0) hx hb dX0_rest_18 (by decide) ?_
    exact hp_zret hx hb hr rfl hlocks hH hS (by decide) (by decide) dX0_rest_19 (⟨congrArg some (congrArg Value.int (zI_0 (by simp [okRest, cz2]))), by rw [show stRest S r b = S from if_neg (Bool.not_eq_true _ ▸ (by simp [okRest, cz2] : okRest S r b = false))]; exact pbx_h hW⟩)
set_option maxHeartbeats 4000000 in
theorem mc_comes (hK0 : va_K D CL (TYS K) s0) {av : Nat → Nat} {ed mi : Nat} (hG : GX s0 wd av ed mi) {S : Ab} {w : Nat → Nat} {Ls : Nat → List Nat} {Jn : Nat → Nat} {Z : Nat → Nat → Int32} (hO : SOK S) (hO2 : SO2 S) (hW : CW K ed S h w Ls Jn Z) (g : Int32) (b : Bool) : Met l yX0_comes (ws_ yX0_comes cX0_comes 4 ((Option.some Jvm.ClassFile.FieldType.boolean))) (rmk 4 0 0) (va_Pc [.ref (w 0), .int g, .int (zI b)] (PB s0 D CL (h))) (QR s0 D CL (fun v h1 => v = some (.int (zI (okComes S g b))) ∧ PBX K ed (stComes S g b) (w 0) h h1)) 0 0 (zA s0) := by
  refine hp_met (by decide) (Nat.le_of_ble_eq_true rfl) hK0 ?_
  intro p e s m below meth cd ls hx hb hr hlocks hml hown hnm hts hK hPB hl hS hH hA
  have hl : lv_has ls 4 [(0, .ref (w 0)), (1, .int g), (2, .int (zI b))] := hl
  have hown : s.vm.findClass RX0 = some m.cls := hown
  have hn := hO.n
  have hmk := hO.mk
  have hrl := hO.rl
  have hrm := hO.rm
  have hsz := hO.sz
  refine lv_aload_n hx hb dX0_comes_0 rfl (lv_at hl 0 rfl) ?_
  refine lv_iload_n hx hb dX0_comes_1 rfl (lv_at hl 1 rfl) ?_
  refine hp_callV (As := [.int g]) (rest := []) hx hb hml hown hts hPB hK hH hS (mc_guestAt hK0 hG hO hO2 hW g) hW.x rfl rfl 1 (lw_V q875 q877 qs22 q102 q878) (by decide +kernel) ⟨rfl, rfl⟩ (by decide) rfl hl.1 rfl (Nat.le_of_ble_eq_true rfl) (by decide) dX0_comes_2 (fun v3 h5 H locs hp4 _ hH hS => ?_)
  rcases hp4.1 with ⟨k1, hk1, hgk1, rfl⟩ | ⟨cz2, rfl⟩
  · have hq := hp4.2; rw [hq] at hH
    subst hgk1
    have hik1 : inN (nI k1) (aN S) = true := by rw [inN_nI (by omega)]; exact decide_eq_true hk1
    have ek1 := nI_clamp (show k1 < 2 ^ 31 by omega)
    refine lv_astore_n (lv' := [(3, .ref ((Ls 0).getD k1 0)), (0, .ref (w 0)), (1, .int (nI k1)), (2, .int (zI b))]) hx hb dX0_comes_5 rfl hl (by decide) rfl (fun ls hl => ?_)
    refine lv_aload_n hx hb dX0_comes_6 rfl (lv_at hl 0 rfl) ?_
    refine lv_ifnull hx hb dX0_comes_7 ?_
    refine lv_aload_n hx hb dX0_comes_10 rfl (lv_at hl 0 rfl) ?_
    refine hp_getN (C := RX5) (T := TX5) (N := 6) (v := .int (zI (aCm S k1))) hx hb hts in_X5 hown hK hH (hW.g (show k1 < aN S by omega)) rfl 2 (by decide) (hG.nf hPB q542) (fun _ z => z) rfl dX0_comes_11 ?_
    refine lv_iload_n hx hb dX0_comes_14 rfl (lv_at hl 3 rfl) ?_
    refine lv_icmp_ne (tgt := 20) hx hb dX0_comes_15 (by decide) (fun c6 => ?_) (fun c6 => ?_)
    · have c6 : ¬ (aCm S k1) = b := fun q => c6 (zI_inj.mpr q)
      refine lv_aload_n hx hb dX0_comes_20 rfl (lv_at hl 0 rfl) ?_
      refine lv_iload_n hx hb dX0_comes_21 rfl (lv_at hl 3 rfl) ?_
      refine hp_putN (C := RX5) (T := TX5) (N := 6) (v := .int (zI b)) (ty := .boolean) hx hb hts in_X5 tyX5 tyX5_ok nmX5 hown hK hH hS (hW.g (show k1 < aN S by omega)) rfl 2 (by decide) (hG.nf hPB q542) (fun _ z => z) rfl (by decide +kernel) (zI_nar _) (zI_fits _) (Nat.le_of_ble_eq_true rfl) dX0_comes_22 (fun H locs _ hH hS => ?_)
      have hH : HP D CL (zA s0) (hset h ((Ls 0).getD k1 0) (.inr (4, [.ref (w (100 + k1)), .int (nI k1), .int (zI b), .int (zI (aSi S k1)), .int (aIr S k1), .int (aIp S k1)])) 20) H := hH
      have e7 : (hset h ((Ls 0).getD k1 0) (.inr (4, [.ref (w (100 + k1)), .int (nI k1), .int (zI b), .int (zI (aSi S k1)), .int (aIr S k1), .int (aIp S k1)])) 20) (w 0) = some (.inr (0, [.ref (w 1), .ref (w 2), .ref (w 3), .ref (w 4), .ref (w 5), .ref (w 6), .int (nI (aSz S)), .ref (w 7), .ref (w 8), .ref (w 9), .ref (w 10), .ref (w 11), .ref (w 12), .int (Z 6 0)]), 1) := (hset_ne _ _ _ (ne_ci hW.x (hW.g (show k1 < aN S by omega)) (by decide))).trans hW.x
      have e8 : (hset h ((Ls 0).getD k1 0) (.inr (4, [.ref (w (100 + k1)), .int (nI k1), .int (zI b), .int (zI (aSi S k1)), .int (aIr S k1), .int (aIp S k1)])) 20) (w 7) = some (.inl (K 0, 10, .inl (Z 0)), 11) := (hset_ne _ _ _ (ne_ao (hW.ar 0 (by decide)) (hW.g (show k1 < aN S by omega)))).trans (hW.ar 0 (by decide))
      have e9 : (hset h ((Ls 0).getD k1 0) (.inr (4, [.ref (w (100 + k1)), .int (nI k1), .int (zI b), .int (zI (aSi S k1)), .int (aIr S k1), .int (aIp S k1)])) 20) (w 8) = some (.inl (K 0, 10, .inl (Z 1)), 12) := (hset_ne _ _ _ (ne_ao (hW.ar 1 (by decide)) (hW.g (show k1 < aN S by omega)))).trans (hW.ar 1 (by decide))
      have e10 : (hset h ((Ls 0).getD k1 0) (.inr (4, [.ref (w (100 + k1)), .int (nI k1), .int (zI b), .int (zI (aSi S k1)), .int (aIr S k1), .int (aIp S k1)])) 20) (w 9) = some (.inl (K 0, 10, .inl (Z 2)), 13) := (hset_ne _ _ _ (ne_ao (hW.ar 2 (by decide)) (hW.g (show k1 < aN S by omega)))).trans (hW.ar 2 (by decide))
      have e11 : (hset h ((Ls 0).getD k1 0) (.inr (4, [.ref (w (100 + k1)), .int (nI k1), .int (zI b), .int (zI (aSi S k1)), .int (aIr S k1), .int (aIp S k1)])) 20) (w 10) = some (.inl (K 0, 10, .inl (Z 3)), 14) := (hset_ne _ _ _ (ne_ao (hW.ar 3 (by decide)) (hW.g (show k1 < aN S by omega)))).trans (hW.ar 3 (by decide))
      have e12 : (hset h ((Ls 0).getD k1 0) (.inr (4, [.ref (w (100 + k1)), .int (nI k1), .int (zI b), .int (zI (aSi S k1)), .int (aIr S k1), .int (aIp S k1)])) 20) (w 11) = some (.inl (K 0, 10, .inl (Z 4)), 15) := (hset_ne _ _ _ (ne_ao (hW.ar 4 (by decide)) (hW.g (show k1 < aN S by omega)))).trans (hW.ar 4 (by decide))
      have e13 : (hset h ((Ls 0).getD k1 0) (.inr (4, [.ref (w (100 + k1)), .int (nI k1), .int (zI b), .int (zI (aSi S k1)), .int (aIr S k1), .int (aIp S k1)])) 20) (w 12) = some (.inl (K 0, 10, .inl (Z 5)), 16) := (hset_ne _ _ _ (ne_ao (hW.ar 5 (by decide)) (hW.g (show k1 < aN S by omega)))).trans (hW.ar 5 (by decide))
      have e14 : (hset h ((Ls 0).getD k1 0) (.inr (4, [.ref (w (100 + k1)), .int (nI k1), .int (zI b), .int (zI (aSi S k1)), .int (aIr S k1), .int (aIp S k1)])) 20) ((Ls 0).getD k1 0) = some (.inr (4, [.ref (w (100 + k1)), .int (nI k1), .int (zI b), .int (zI (aSi S k1)), .int (aIr S k1), .int (aIp S k1)]), 20) := hset_self _ _ _ _
      refine lv_aload_n hx hb dX0_comes_25 rfl (lv_at hl 0 rfl) ?_
      refine hp_callV (As := []) (rest := []) hx hb hml hown hts hPB hK hH hS (mc_goes hK0 hG e14) e14 rfl rfl 0 (lw_V q916 q917 q918 q119 q919) (by decide +kernel) ⟨rfl, rfl⟩ (by decide) rfl hl.1 rfl (Nat.le_of_ble_eq_true rfl) (by decide) dX0_comes_26 (fun v15 h17 H locs hp16 _ hH hS => ?_)
      obtain ⟨rfl, hq⟩ := hp16
      rw [hq, hset_hset] at hH
      refine lv_iconst (v := nI 1) hx hb dX0_comes_29 (by decide) ?_
      exact hp_zret hx hb hr rfl hlocks hH hS (by decide) (by decide) dX0_comes_30 (⟨congrArg some (congrArg Value.int (zI_1 (by simp [okComes, hik1, ek1, c6]))), by rw [show stComes S (nI k1) b = _ from if_pos (by simp [okComes, hik1, ek1, c6]), ek1]; exact pbx_g hW (by omega) (eg_comes S k1 b).1 (eg_cell (eg_comes S k1 b))⟩)
    · have c6 : (aCm S k1) = b := zI_inj.mp c6
      refine lv_iconst (v := nI 0) hx hb dX0_comes_18 (by decide) ?_
      exact hp_zret hx hb hr rfl hlocks hH hS (by decide) (by decide) dX0_comes_19 (⟨congrArg some (congrArg Value.int (zI_0 (by simp [okComes, hik1, ek1, c6]))), by rw [show stComes S (nI k1) b = S from if_neg (Bool.not_eq_true _ ▸ (by simp [okComes, hik1, ek1, c6] : okComes S (nI k1) b = false))]; exact pbx_h hW⟩)
  · have hq := hp4.2; rw [hq] at hH
    refine lv_astore_nN (lv' := [(3, .null), (0, .ref (w 0)), (1, .int g), (2, .int (zI b))]) hx hb dX0_comes_5 rfl hl (by decide) rfl (fun ls hl => ?_)
    refine lv_aload_nN hx hb dX0_comes_6 rfl (lv_at hl 0 rfl) ?_
    refine lv_ifnullN (tgt := 18) hx hb dX0_comes_7 (by decide) ?_
    refine lv_iconst (v := nI 0) hx hb dX0_comes_18 (by decide) ?_
    exact hp_zret hx hb hr rfl hlocks hH hS (by decide) (by decide) dX0_comes_19 (⟨congrArg some (congrArg Value.int (zI_0 (by simp [okComes, cz2]))), by rw [show stComes S g b = S from if_neg (Bool.not_eq_true _ ▸ (by simp [okComes, cz2] : okComes S g b = false))]; exact pbx_h hW⟩)
set_option maxHeartbeats 4000000 in
theorem mc_leave (hK0 : va_K D CL (TYS K) s0) {av : Nat → Nat} {ed mi : Nat} (hG : GX s0 wd av ed mi) {S : Ab} {w : Nat → Nat} {Ls : Nat → List Nat} {Jn : Nat → Nat} {Z : Nat → Nat → Int32} (hO : SOK S) (hO2 : SO2 S) (hW : CW K ed S h w Ls Jn Z) (g : Int32) : Met l yX0_leave (ws_ yX0_leave cX0_leave 3 ((Option.some Jvm.ClassFile.FieldType.boolean))) (rmk 4 0 0) (va_Pc [.ref (w 0), .int g] (PB s0 D CL (h))) (QR s0 D CL (fun v h1 => v = some (.int (zI (okLeave S g))) ∧ PBX K ed (stLeave S g) (w 0) h h1)) 0 0 (zA s0) := by
  refine hp_met (by decide) (Nat.le_of_ble_eq_true rfl) hK0 ?_
  intro p e s m below meth cd ls hx hb hr hlocks hml hown hnm hts hK hPB hl hS hH hA
  have hl : lv_has ls 3 [(0, .ref (w 0)), (1, .int g)] := hl
  have hown : s.vm.findClass RX0 = some m.cls := hown
  have hn := hO.n
  have hmk := hO.mk
  have hrl := hO.rl
  have hrm := hO.rm
  have hsz := hO.sz
  refine lv_aload_n hx hb dX0_leave_0 rfl (lv_at hl 0 rfl) ?_
  refine lv_iload_n hx hb dX0_leave_1 rfl (lv_at hl 1 rfl) ?_
  refine hp_callV (As := [.int g]) (rest := []) hx hb hml hown hts hPB hK hH hS (mc_guestAt hK0 hG hO hO2 hW g) hW.x rfl rfl 1 (lw_V q875 q877 qs22 q102 q878) (by decide +kernel) ⟨rfl, rfl⟩ (by decide) rfl hl.1 rfl (Nat.le_of_ble_eq_true rfl) (by decide) dX0_leave_2 (fun v3 h5 H locs hp4 _ hH hS => ?_)
  rcases hp4.1 with ⟨k1, hk1, hgk1, rfl⟩ | ⟨cz2, rfl⟩
  · have hq := hp4.2; rw [hq] at hH
    subst hgk1
    have hik1 : inN (nI k1) (aN S) = true := by rw [inN_nI (by omega)]; exact decide_eq_true hk1
    have ek1 := nI_clamp (show k1 < 2 ^ 31 by omega)
    refine lv_astore_n (lv' := [(2, .ref ((Ls 0).getD k1 0)), (0, .ref (w 0)), (1, .int (nI k1))]) hx hb dX0_leave_5 rfl hl (by decide) rfl (fun ls hl => ?_)
    refine lv_aload_n hx hb dX0_leave_6 rfl (lv_at hl 0 rfl) ?_
    refine lv_ifnull hx hb dX0_leave_7 ?_
    refine lv_aload_n hx hb dX0_leave_10 rfl (lv_at hl 0 rfl) ?_
    refine hp_getN (C := RX5) (T := TX5) (N := 6) (v := .int (aIr S k1)) hx hb hts in_X5 hown hK hH (hW.g (show k1 < aN S by omega)) rfl 4 (by decide) (hG.nf hPB q548) (fun _ z => z) rfl dX0_leave_11 ?_
    refine lv_iconst (v := (-1)) hx hb dX0_leave_14 (by decide) ?_
    refine lv_icmp_eq (tgt := 25) hx hb dX0_leave_15 (by decide) (fun c1 => ?_) (fun c1 => ?_)
    · refine lv_iconst (v := nI 0) hx hb dX0_leave_25 (by decide) ?_
      exact hp_zret hx hb hr rfl hlocks hH hS (by decide) (by decide) dX0_leave_26 (⟨congrArg some (congrArg Value.int (zI_0 (by simp [okLeave, hik1, ek1, c1]))), by rw [show stLeave S (nI k1) = S from if_neg (Bool.not_eq_true _ ▸ (by simp [okLeave, hik1, ek1, c1] : okLeave S (nI k1) = false))]; exact pbx_h hW⟩)
    · refine lv_aload_n hx hb dX0_leave_18 rfl (lv_at hl 0 rfl) ?_
      refine hp_getN (C := RX5) (T := TX5) (N := 6) (v := .int (zI (aSi S k1))) hx hb hts in_X5 hown hK hH (hW.g (show k1 < aN S by omega)) rfl 3 (by decide) (hG.nf hPB q545) (fun _ z => z) rfl dX0_leave_19 ?_
      refine lvB_eq (tgt := 27) hx hb dX0_leave_22 (by decide) (fun c2 => ?_) (fun c2 => ?_)
      · refine lv_aload_n hx hb dX0_leave_27 rfl (lv_at hl 0 rfl) ?_
        refine hp_callV (As := []) (rest := []) hx hb hml hown hts hPB hK hH hS (mc_goes hK0 hG (hW.g (show k1 < aN S by omega))) (hW.g (show k1 < aN S by omega)) rfl rfl 0 (lw_V q916 q917 q918 q119 q919) (by decide +kernel) ⟨rfl, rfl⟩ (by decide) rfl hl.1 rfl (Nat.le_of_ble_eq_true rfl) (by decide) dX0_leave_28 (fun v6 h8 H locs hp7 _ hH hS => ?_)
        obtain ⟨rfl, hq⟩ := hp7
        rw [hq] at hH
        refine lv_iconst (v := nI 1) hx hb dX0_leave_31 (by decide) ?_
        exact hp_zret hx hb hr rfl hlocks hH hS (by decide) (by decide) dX0_leave_32 (⟨congrArg some (congrArg Value.int (zI_1 (by simp [okLeave, hik1, ek1, c1, c2]))), by rw [show stLeave S (nI k1) = _ from if_pos (by simp [okLeave, hik1, ek1, c1, c2]), ek1]; exact pbx_g hW (by omega) (eg_seat S k1 (-1) (-1)).1 (eg_cell ⟨(eg_seat S k1 (-1) (-1)).1, (eg_seat S k1 (-1) (-1)).2.1, (eg_seat S k1 (-1) (-1)).2.2.1.trans c2, (eg_seat S k1 (-1) (-1)).2.2.2⟩)⟩)
      · refine lv_iconst (v := nI 0) hx hb dX0_leave_25 (by decide) ?_
        exact hp_zret hx hb hr rfl hlocks hH hS (by decide) (by decide) dX0_leave_26 (⟨congrArg some (congrArg Value.int (zI_0 (by simp [okLeave, hik1, ek1, c1, c2]))), by rw [show stLeave S (nI k1) = S from if_neg (Bool.not_eq_true _ ▸ (by simp [okLeave, hik1, ek1, c1, c2] : okLeave S (nI k1) = false))]; exact pbx_h hW⟩)
  · have hq := hp4.2; rw [hq] at hH
    refine lv_astore_nN (lv' := [(2, .null), (0, .ref (w 0)), (1, .int g)]) hx hb dX0_leave_5 rfl hl (by decide) rfl (fun ls hl => ?_)
    refine lv_aload_nN hx hb dX0_leave_6 rfl (lv_at hl 0 rfl) ?_
    refine lv_ifnullN (tgt := 25) hx hb dX0_leave_7 (by decide) ?_
    refine lv_iconst (v := nI 0) hx hb dX0_leave_25 (by decide) ?_
    exact hp_zret hx hb hr rfl hlocks hH hS (by decide) (by decide) dX0_leave_26 (⟨congrArg some (congrArg Value.int (zI_0 (by simp [okLeave, cz2]))), by rw [show stLeave S g = S from if_neg (Bool.not_eq_true _ ▸ (by simp [okLeave, cz2] : okLeave S g = false))]; exact pbx_h hW⟩)
set_option maxHeartbeats 4000000 in
theorem mc_sits (hK0 : va_K D CL (TYS K) s0) {av : Nat → Nat} {ed mi : Nat} (hG : GX s0 wd av ed mi) {S : Ab} {w : Nat → Nat} {Ls : Nat → List Nat} {Jn : Nat → Nat} {Z : Nat → Nat → Int32} (hO : SOK S) (hO2 : SO2 S) (hW : CW K ed S h w Ls Jn Z) (g : Int32) (b : Bool) : Met l yX0_sits (ws_ yX0_sits cX0_sits 4 ((Option.some Jvm.ClassFile.FieldType.boolean))) (rmk 4 0 0) (va_Pc [.ref (w 0), .int g, .int (zI b)] (PB s0 D CL (h))) (QR s0 D CL (fun v h1 => v = some (.int (zI (okSits S g b))) ∧ PBX K ed (stSits S g b) (w 0) h h1)) 0 0 (zA s0) := by
  refine hp_met (by decide) (Nat.le_of_ble_eq_true rfl) hK0 ?_
  intro p e s m below meth cd ls hx hb hr hlocks hml hown hnm hts hK hPB hl hS hH hA
  have hl : lv_has ls 4 [(0, .ref (w 0)), (1, .int g), (2, .int (zI b))] := hl
  have hown : s.vm.findClass RX0 = some m.cls := hown
  have hn := hO.n
  have hmk := hO.mk
  have hrl := hO.rl
  have hrm := hO.rm
  have hsz := hO.sz
  refine lv_aload_n hx hb dX0_sits_0 rfl (lv_at hl 0 rfl) ?_
  refine lv_iload_n hx hb dX0_sits_1 rfl (lv_at hl 1 rfl) ?_
  refine hp_callV (As := [.int g]) (rest := []) hx hb hml hown hts hPB hK hH hS (mc_guestAt hK0 hG hO hO2 hW g) hW.x rfl rfl 1 (lw_V q875 q877 qs22 q102 q878) (by decide +kernel) ⟨rfl, rfl⟩ (by decide) rfl hl.1 rfl (Nat.le_of_ble_eq_true rfl) (by decide) dX0_sits_2 (fun v3 h5 H locs hp4 _ hH hS => ?_)
  rcases hp4.1 with ⟨k1, hk1, hgk1, rfl⟩ | ⟨cz2, rfl⟩
  · have hq := hp4.2; rw [hq] at hH
    subst hgk1
    have hik1 : inN (nI k1) (aN S) = true := by rw [inN_nI (by omega)]; exact decide_eq_true hk1
    have ek1 := nI_clamp (show k1 < 2 ^ 31 by omega)
    refine lv_astore_n (lv' := [(3, .ref ((Ls 0).getD k1 0)), (0, .ref (w 0)), (1, .int (nI k1)), (2, .int (zI b))]) hx hb dX0_sits_5 rfl hl (by decide) rfl (fun ls hl => ?_)
    refine lv_aload_n hx hb dX0_sits_6 rfl (lv_at hl 0 rfl) ?_
    refine lv_ifnull hx hb dX0_sits_7 ?_
    refine lv_aload_n hx hb dX0_sits_10 rfl (lv_at hl 0 rfl) ?_
    refine hp_getN (C := RX5) (T := TX5) (N := 6) (v := .int (aIr S k1)) hx hb hts in_X5 hown hK hH (hW.g (show k1 < aN S by omega)) rfl 4 (by decide) (hG.nf hPB q548) (fun _ z => z) rfl dX0_sits_11 ?_
    refine lv_iconst (v := (-1)) hx hb dX0_sits_14 (by decide) ?_
    refine lv_icmp_eq (tgt := 26) hx hb dX0_sits_15 (by decide) (fun c6 => ?_) (fun c6 => ?_)
    · refine lv_iconst (v := nI 0) hx hb dX0_sits_26 (by decide) ?_
      exact hp_zret hx hb hr rfl hlocks hH hS (by decide) (by decide) dX0_sits_27 (⟨congrArg some (congrArg Value.int (zI_0 (by simp [okSits, hik1, ek1, c6]))), by rw [show stSits S (nI k1) b = S from if_neg (Bool.not_eq_true _ ▸ (by simp [okSits, hik1, ek1, c6] : okSits S (nI k1) b = false))]; exact pbx_h hW⟩)
    · refine lv_aload_n hx hb dX0_sits_18 rfl (lv_at hl 0 rfl) ?_
      refine hp_getN (C := RX5) (T := TX5) (N := 6) (v := .int (zI (aSi S k1))) hx hb hts in_X5 hown hK hH (hW.g (show k1 < aN S by omega)) rfl 3 (by decide) (hG.nf hPB q545) (fun _ z => z) rfl dX0_sits_19 ?_
      refine lv_iload_n hx hb dX0_sits_22 rfl (lv_at hl 3 rfl) ?_
      refine lv_icmp_ne (tgt := 28) hx hb dX0_sits_23 (by decide) (fun c7 => ?_) (fun c7 => ?_)
      · have c7 : ¬ (aSi S k1) = b := fun q => c7 (zI_inj.mpr q)
        refine lv_aload_n hx hb dX0_sits_28 rfl (lv_at hl 0 rfl) ?_
        refine lv_iload_n hx hb dX0_sits_29 rfl (lv_at hl 3 rfl) ?_
        refine hp_putN (C := RX5) (T := TX5) (N := 6) (v := .int (zI b)) (ty := .boolean) hx hb hts in_X5 tyX5 tyX5_ok nmX5 hown hK hH hS (hW.g (show k1 < aN S by omega)) rfl 3 (by decide) (hG.nf hPB q545) (fun _ z => z) rfl (by decide +kernel) (zI_nar _) (zI_fits _) (Nat.le_of_ble_eq_true rfl) dX0_sits_30 (fun H locs _ hH hS => ?_)
        have hH : HP D CL (zA s0) (hset h ((Ls 0).getD k1 0) (.inr (4, [.ref (w (100 + k1)), .int (nI k1), .int (zI (aCm S k1)), .int (zI b), .int (aIr S k1), .int (aIp S k1)])) 20) H := hH
        have e8 : (hset h ((Ls 0).getD k1 0) (.inr (4, [.ref (w (100 + k1)), .int (nI k1), .int (zI (aCm S k1)), .int (zI b), .int (aIr S k1), .int (aIp S k1)])) 20) (w 0) = some (.inr (0, [.ref (w 1), .ref (w 2), .ref (w 3), .ref (w 4), .ref (w 5), .ref (w 6), .int (nI (aSz S)), .ref (w 7), .ref (w 8), .ref (w 9), .ref (w 10), .ref (w 11), .ref (w 12), .int (Z 6 0)]), 1) := (hset_ne _ _ _ (ne_ci hW.x (hW.g (show k1 < aN S by omega)) (by decide))).trans hW.x
        have e9 : (hset h ((Ls 0).getD k1 0) (.inr (4, [.ref (w (100 + k1)), .int (nI k1), .int (zI (aCm S k1)), .int (zI b), .int (aIr S k1), .int (aIp S k1)])) 20) (w 7) = some (.inl (K 0, 10, .inl (Z 0)), 11) := (hset_ne _ _ _ (ne_ao (hW.ar 0 (by decide)) (hW.g (show k1 < aN S by omega)))).trans (hW.ar 0 (by decide))
        have e10 : (hset h ((Ls 0).getD k1 0) (.inr (4, [.ref (w (100 + k1)), .int (nI k1), .int (zI (aCm S k1)), .int (zI b), .int (aIr S k1), .int (aIp S k1)])) 20) (w 8) = some (.inl (K 0, 10, .inl (Z 1)), 12) := (hset_ne _ _ _ (ne_ao (hW.ar 1 (by decide)) (hW.g (show k1 < aN S by omega)))).trans (hW.ar 1 (by decide))
        have e11 : (hset h ((Ls 0).getD k1 0) (.inr (4, [.ref (w (100 + k1)), .int (nI k1), .int (zI (aCm S k1)), .int (zI b), .int (aIr S k1), .int (aIp S k1)])) 20) (w 9) = some (.inl (K 0, 10, .inl (Z 2)), 13) := (hset_ne _ _ _ (ne_ao (hW.ar 2 (by decide)) (hW.g (show k1 < aN S by omega)))).trans (hW.ar 2 (by decide))
        have e12 : (hset h ((Ls 0).getD k1 0) (.inr (4, [.ref (w (100 + k1)), .int (nI k1), .int (zI (aCm S k1)), .int (zI b), .int (aIr S k1), .int (aIp S k1)])) 20) (w 10) = some (.inl (K 0, 10, .inl (Z 3)), 14) := (hset_ne _ _ _ (ne_ao (hW.ar 3 (by decide)) (hW.g (show k1 < aN S by omega)))).trans (hW.ar 3 (by decide))
        have e13 : (hset h ((Ls 0).getD k1 0) (.inr (4, [.ref (w (100 + k1)), .int (nI k1), .int (zI (aCm S k1)), .int (zI b), .int (aIr S k1), .int (aIp S k1)])) 20) (w 11) = some (.inl (K 0, 10, .inl (Z 4)), 15) := (hset_ne _ _ _ (ne_ao (hW.ar 4 (by decide)) (hW.g (show k1 < aN S by omega)))).trans (hW.ar 4 (by decide))
        have e14 : (hset h ((Ls 0).getD k1 0) (.inr (4, [.ref (w (100 + k1)), .int (nI k1), .int (zI (aCm S k1)), .int (zI b), .int (aIr S k1), .int (aIp S k1)])) 20) (w 12) = some (.inl (K 0, 10, .inl (Z 5)), 16) := (hset_ne _ _ _ (ne_ao (hW.ar 5 (by decide)) (hW.g (show k1 < aN S by omega)))).trans (hW.ar 5 (by decide))
        have e15 : (hset h ((Ls 0).getD k1 0) (.inr (4, [.ref (w (100 + k1)), .int (nI k1), .int (zI (aCm S k1)), .int (zI b), .int (aIr S k1), .int (aIp S k1)])) 20) ((Ls 0).getD k1 0) = some (.inr (4, [.ref (w (100 + k1)), .int (nI k1), .int (zI (aCm S k1)), .int (zI b), .int (aIr S k1), .int (aIp S k1)]), 20) := hset_self _ _ _ _
        refine lv_iconst (v := nI 1) hx hb dX0_sits_33 (by decide) ?_
        exact hp_zret hx hb hr rfl hlocks hH hS (by decide) (by decide) dX0_sits_34 (⟨congrArg some (congrArg Value.int (zI_1 (by simp [okSits, hik1, ek1, c6, c7]))), by rw [show stSits S (nI k1) b = _ from if_pos (by simp [okSits, hik1, ek1, c6, c7]), ek1]; exact pbx_g hW (by omega) (eg_sits S k1 b).1 (eg_cell (eg_sits S k1 b))⟩)
      · have c7 : (aSi S k1) = b := zI_inj.mp c7
        refine lv_iconst (v := nI 0) hx hb dX0_sits_26 (by decide) ?_
        exact hp_zret hx hb hr rfl hlocks hH hS (by decide) (by decide) dX0_sits_27 (⟨congrArg some (congrArg Value.int (zI_0 (by simp [okSits, hik1, ek1, c6, c7]))), by rw [show stSits S (nI k1) b = S from if_neg (Bool.not_eq_true _ ▸ (by simp [okSits, hik1, ek1, c6, c7] : okSits S (nI k1) b = false))]; exact pbx_h hW⟩)
  · have hq := hp4.2; rw [hq] at hH
    refine lv_astore_nN (lv' := [(3, .null), (0, .ref (w 0)), (1, .int g), (2, .int (zI b))]) hx hb dX0_sits_5 rfl hl (by decide) rfl (fun ls hl => ?_)
    refine lv_aload_nN hx hb dX0_sits_6 rfl (lv_at hl 0 rfl) ?_
    refine lv_ifnullN (tgt := 26) hx hb dX0_sits_7 (by decide) ?_
    refine lv_iconst (v := nI 0) hx hb dX0_sits_26 (by decide) ?_
    exact hp_zret hx hb hr rfl hlocks hH hS (by decide) (by decide) dX0_sits_27 (⟨congrArg some (congrArg Value.int (zI_0 (by simp [okSits, cz2]))), by rw [show stSits S g b = S from if_neg (Bool.not_eq_true _ ▸ (by simp [okSits, cz2] : okSits S g b = false))]; exact pbx_h hW⟩)
set_option maxHeartbeats 4000000 in
theorem mc_seat (hK0 : va_K D CL (TYS K) s0) {av : Nat → Nat} {ed mi : Nat} (hG : GX s0 wd av ed mi) {S : Ab} {w : Nat → Nat} {Ls : Nat → List Nat} {Jn : Nat → Nat} {Z : Nat → Nat → Int32} (hO : SOK S) (hO2 : SO2 S) (hW : CW K ed S h w Ls Jn Z) (g room place : Int32) : Met l yX0_seat (ws_ yX0_seat cX0_seat 6 ((Option.some Jvm.ClassFile.FieldType.boolean))) (rmk 4 0 0) (va_Pc [.ref (w 0), .int g, .int room, .int place] (PB s0 D CL (h))) (QR s0 D CL (fun v h1 => v = some (.int (zI (okSeat S g room place))) ∧ PBX K ed (stSeat S g room place) (w 0) h h1)) 0 0 (zA s0) := by
  refine hp_met (by decide) (Nat.le_of_ble_eq_true rfl) hK0 ?_
  intro p e s m below meth cd ls hx hb hr hlocks hml hown hnm hts hK hPB hl hS hH hA
  have hl : lv_has ls 6 [(0, .ref (w 0)), (1, .int g), (2, .int room), (3, .int place)] := hl
  have hown : s.vm.findClass RX0 = some m.cls := hown
  have hn := hO.n
  have hmk := hO.mk
  have hrl := hO.rl
  have hrm := hO.rm
  have hsz := hO.sz
  refine lv_aload_n hx hb dX0_seat_0 rfl (lv_at hl 0 rfl) ?_
  refine lv_iload_n hx hb dX0_seat_1 rfl (lv_at hl 1 rfl) ?_
  refine hp_callV (As := [.int g]) (rest := []) hx hb hml hown hts hPB hK hH hS (mc_guestAt hK0 hG hO hO2 hW g) hW.x rfl rfl 1 (lw_V q875 q877 qs22 q102 q878) (by decide +kernel) ⟨rfl, rfl⟩ (by decide) rfl hl.1 rfl (Nat.le_of_ble_eq_true rfl) (by decide) dX0_seat_2 (fun v3 h5 H locs hp4 _ hH hS => ?_)
  rcases hp4.1 with ⟨k1, hk1, hgk1, rfl⟩ | ⟨cz2, rfl⟩
  · have hq := hp4.2; rw [hq] at hH
    subst hgk1
    have hik1 : inN (nI k1) (aN S) = true := by rw [inN_nI (by omega)]; exact decide_eq_true hk1
    have ek1 := nI_clamp (show k1 < 2 ^ 31 by omega)
    refine lv_astore (lv' := [(4, .ref ((Ls 0).getD k1 0)), (0, .ref (w 0)), (1, .int (nI k1)), (2, .int room), (3, .int place)]) hx hb dX0_seat_5 hl (by decide) rfl (fun ls hl => ?_)
    refine lv_aload_n hx hb dX0_seat_7 rfl (lv_at hl 1 rfl) ?_
    refine lv_iload_n hx hb dX0_seat_8 rfl (lv_at hl 3 rfl) ?_
    refine hp_callV (As := [.int room]) (rest := []) hx hb hml hown hts hPB hK hH hS (mc_roomAt hK0 hG hO hO2 hW room) hW.x rfl rfl 1 (lw_V q924 q926 qs24 q102 q927) (by decide +kernel) ⟨rfl, rfl⟩ (by decide) rfl hl.1 rfl (Nat.le_of_ble_eq_true rfl) (by decide) dX0_seat_9 (fun v8 h10 H locs hp9 _ hH hS => ?_)
    rcases hp9.1 with ⟨k6, hk6, hgk6, rfl⟩ | ⟨cz7, rfl⟩
    · have hq := hp9.2; rw [hq] at hH
      subst hgk6
      have hik6 : inN (nI k6) (aRm S) = true := by rw [inN_nI (by omega)]; exact decide_eq_true hk6
      have ek6 := nI_clamp (show k6 < 2 ^ 31 by omega)
      have hp11 := hO.rp (show k6 < aRm S by omega)
      refine lv_astore (lv' := [(5, .ref ((Ls 3).getD k6 0)), (4, .ref ((Ls 0).getD k1 0)), (0, .ref (w 0)), (1, .int (nI k1)), (2, .int (nI k6)), (3, .int place)]) hx hb dX0_seat_12 hl (by decide) rfl (fun ls hl => ?_)
      refine lv_aload hx hb dX0_seat_14 (lv_at hl 1 rfl) ?_
      refine lv_ifnull hx hb dX0_seat_16 ?_
      refine lv_aload hx hb dX0_seat_19 (lv_at hl 1 rfl) ?_
      refine hp_getN (C := RX5) (T := TX5) (N := 6) (v := .int (zI (aCm S k1))) hx hb hts in_X5 hown hK hH (hW.g (show k1 < aN S by omega)) rfl 2 (by decide) (hG.nf hPB q542) (fun _ z => z) rfl dX0_seat_21 ?_
      refine lvB_eq (tgt := 64) hx hb dX0_seat_24 (by decide) (fun c12 => ?_) (fun c12 => ?_)
      · refine lv_iconst (v := nI 0) hx hb dX0_seat_64 (by decide) ?_
        exact hp_zret hx hb hr rfl hlocks hH hS (by decide) (by decide) dX0_seat_65 (⟨congrArg some (congrArg Value.int (zI_0 (by simp [okSeat, hik1, ek1, hik6, ek6, c12]))), by rw [show stSeat S (nI k1) (nI k6) place = S from if_neg (Bool.not_eq_true _ ▸ (by simp [okSeat, hik1, ek1, hik6, ek6, c12] : okSeat S (nI k1) (nI k6) place = false))]; exact pbx_h hW⟩)
      · refine lv_aload hx hb dX0_seat_27 (lv_at hl 1 rfl) ?_
        refine hp_getN (C := RX5) (T := TX5) (N := 6) (v := .int (zI (aSi S k1))) hx hb hts in_X5 hown hK hH (hW.g (show k1 < aN S by omega)) rfl 3 (by decide) (hG.nf hPB q545) (fun _ z => z) rfl dX0_seat_29 ?_
        refine lvB_ne (tgt := 64) hx hb dX0_seat_32 (by decide) (fun c13 => ?_) (fun c13 => ?_)
        · refine lv_iconst (v := nI 0) hx hb dX0_seat_64 (by decide) ?_
          exact hp_zret hx hb hr rfl hlocks hH hS (by decide) (by decide) dX0_seat_65 (⟨congrArg some (congrArg Value.int (zI_0 (by simp [okSeat, hik1, ek1, hik6, ek6, c12, c13]))), by rw [show stSeat S (nI k1) (nI k6) place = S from if_neg (Bool.not_eq_true _ ▸ (by simp [okSeat, hik1, ek1, hik6, ek6, c12, c13] : okSeat S (nI k1) (nI k6) place = false))]; exact pbx_h hW⟩)
        · refine lv_aload hx hb dX0_seat_35 (lv_at hl 0 rfl) ?_
          refine lv_ifnull hx hb dX0_seat_37 ?_
          refine lv_iload_n hx hb dX0_seat_40 rfl (lv_at hl 5 rfl) ?_
          refine lv_iconst (v := nI 0) hx hb dX0_seat_41 (by decide) ?_
          refine lv_aload hx hb dX0_seat_42 (lv_at hl 0 rfl) ?_
          refine hp_gQ hx hb hts hown hK hH (hW.q (show k6 < aRm S by omega)) (hO.rk (show k6 < aRm S by omega)) (hts _ q835) dX0_seat_44 ?_
          refine lv_iconst (v := nI 1) hx hb dX0_seat_47 (by decide) ?_
          refine lv_isub hx hb dX0_seat_48 ?_
          refine hp_callS (As := [.int place, .int (nI 0), .int ((nI (aRp S k6)) - (nI 1))]) (rest := []) hx hb hml hown hts hPB hH hS (mc_in hK0 place (nI 0) ((nI (aRp S k6)) - (nI 1))) 3 (lw_S q268 q269 q102 q270) (by decide +kernel) ⟨rfl, rfl⟩ (by decide) rfl hl.1 rfl (Nat.le_of_ble_eq_true rfl) (by decide) dX0_seat_49 (fun v14 h16 H locs hp15 _ hH hS => ?_)
          obtain ⟨rfl, hq⟩ := hp15
          rw [hq] at hH
          refine lv_top (y := zI (inN place (aRp S k6))) (congrArg zI (in_i0 (by omega))) ?_
          refine lvB_eq (tgt := 64) hx hb dX0_seat_52 (by decide) (fun c17 => ?_) (fun c17 => ?_)
          · refine lv_iconst (v := nI 0) hx hb dX0_seat_64 (by decide) ?_
            exact hp_zret hx hb hr rfl hlocks hH hS (by decide) (by decide) dX0_seat_65 (⟨congrArg some (congrArg Value.int (zI_0 (by simp [okSeat, hik1, ek1, hik6, ek6, c12, c13, c17]))), by rw [show stSeat S (nI k1) (nI k6) place = S from if_neg (Bool.not_eq_true _ ▸ (by simp [okSeat, hik1, ek1, hik6, ek6, c12, c13, c17] : okSeat S (nI k1) (nI k6) place = false))]; exact pbx_h hW⟩)
          · refine lv_aload_n hx hb dX0_seat_55 rfl (lv_at hl 2 rfl) ?_
            refine lv_iload_n hx hb dX0_seat_56 rfl (lv_at hl 4 rfl) ?_
            refine lv_iload_n hx hb dX0_seat_57 rfl (lv_at hl 5 rfl) ?_
            refine hp_callV (As := [.int (nI k6), .int place]) (rest := []) hx hb hml hown hts hPB hK hH hS (mc_who hK0 hG hO hO2 hW (nI k6) place) hW.x rfl rfl 2 (lw_V q929 q931 qs25 q102 q932) (by decide +kernel) ⟨rfl, rfl⟩ (by decide) rfl hl.1 rfl (Nat.le_of_ble_eq_true rfl) (by decide) dX0_seat_58 (fun v18 h20 H locs hp19 _ hH hS => ?_)
            rcases hp19.1 with ⟨k8, hk8, hr8, hp8, rfl⟩ | ⟨hfr, rfl⟩
            · have hq := hp19.2; rw [hq] at hH
              have hfb : freeB S (nI k6) place = false := decide_eq_false (fun q => q k8 hk8 ⟨hr8, hp8⟩)
              refine lv_ifnull hx hb dX0_seat_61 ?_
              refine lv_iconst (v := nI 0) hx hb dX0_seat_64 (by decide) ?_
              exact hp_zret hx hb hr rfl hlocks hH hS (by decide) (by decide) dX0_seat_65 (⟨congrArg some (congrArg Value.int (zI_0 (by simp [okSeat, hik1, ek1, hik6, ek6, c12, c13, c17, hfb]))), by rw [show stSeat S (nI k1) (nI k6) place = S from if_neg (Bool.not_eq_true _ ▸ (by simp [okSeat, hik1, ek1, hik6, ek6, c12, c13, c17, hfb] : okSeat S (nI k1) (nI k6) place = false))]; exact pbx_h hW⟩)
            · have hq := hp19.2; rw [hq] at hH
              have hfb : freeB S (nI k6) place = true := decide_eq_true hfr
              refine lv_ifnullN (tgt := 66) hx hb dX0_seat_61 (by decide) ?_
              refine lv_aload hx hb dX0_seat_66 (lv_at hl 1 rfl) ?_
              refine lv_iload_n hx hb dX0_seat_68 rfl (lv_at hl 4 rfl) ?_
              refine hp_putN (C := RX5) (T := TX5) (N := 6) (v := .int (nI k6)) (ty := .int) hx hb hts in_X5 tyX5 tyX5_ok nmX5 hown hK hH hS (hW.g (show k1 < aN S by omega)) rfl 4 (by decide) (hG.nf hPB q548) (fun _ z => z) rfl (by decide +kernel) rfl rfl (Nat.le_of_ble_eq_true rfl) dX0_seat_69 (fun H locs _ hH hS => ?_)
              have hH : HP D CL (zA s0) (hset h ((Ls 0).getD k1 0) (.inr (4, [.ref (w (100 + k1)), .int (nI k1), .int (zI (aCm S k1)), .int (zI (aSi S k1)), .int (nI k6), .int (aIp S k1)])) 20) H := hH
              have e21 : (hset h ((Ls 0).getD k1 0) (.inr (4, [.ref (w (100 + k1)), .int (nI k1), .int (zI (aCm S k1)), .int (zI (aSi S k1)), .int (nI k6), .int (aIp S k1)])) 20) (w 0) = some (.inr (0, [.ref (w 1), .ref (w 2), .ref (w 3), .ref (w 4), .ref (w 5), .ref (w 6), .int (nI (aSz S)), .ref (w 7), .ref (w 8), .ref (w 9), .ref (w 10), .ref (w 11), .ref (w 12), .int (Z 6 0)]), 1) := (hset_ne _ _ _ (ne_ci hW.x (hW.g (show k1 < aN S by omega)) (by decide))).trans hW.x
              have e22 : (hset h ((Ls 0).getD k1 0) (.inr (4, [.ref (w (100 + k1)), .int (nI k1), .int (zI (aCm S k1)), .int (zI (aSi S k1)), .int (nI k6), .int (aIp S k1)])) 20) (w 7) = some (.inl (K 0, 10, .inl (Z 0)), 11) := (hset_ne _ _ _ (ne_ao (hW.ar 0 (by decide)) (hW.g (show k1 < aN S by omega)))).trans (hW.ar 0 (by decide))
              have e23 : (hset h ((Ls 0).getD k1 0) (.inr (4, [.ref (w (100 + k1)), .int (nI k1), .int (zI (aCm S k1)), .int (zI (aSi S k1)), .int (nI k6), .int (aIp S k1)])) 20) (w 8) = some (.inl (K 0, 10, .inl (Z 1)), 12) := (hset_ne _ _ _ (ne_ao (hW.ar 1 (by decide)) (hW.g (show k1 < aN S by omega)))).trans (hW.ar 1 (by decide))
              have e24 : (hset h ((Ls 0).getD k1 0) (.inr (4, [.ref (w (100 + k1)), .int (nI k1), .int (zI (aCm S k1)), .int (zI (aSi S k1)), .int (nI k6), .int (aIp S k1)])) 20) (w 9) = some (.inl (K 0, 10, .inl (Z 2)), 13) := (hset_ne _ _ _ (ne_ao (hW.ar 2 (by decide)) (hW.g (show k1 < aN S by omega)))).trans (hW.ar 2 (by decide))
              have e25 : (hset h ((Ls 0).getD k1 0) (.inr (4, [.ref (w (100 + k1)), .int (nI k1), .int (zI (aCm S k1)), .int (zI (aSi S k1)), .int (nI k6), .int (aIp S k1)])) 20) (w 10) = some (.inl (K 0, 10, .inl (Z 3)), 14) := (hset_ne _ _ _ (ne_ao (hW.ar 3 (by decide)) (hW.g (show k1 < aN S by omega)))).trans (hW.ar 3 (by decide))
              have e26 : (hset h ((Ls 0).getD k1 0) (.inr (4, [.ref (w (100 + k1)), .int (nI k1), .int (zI (aCm S k1)), .int (zI (aSi S k1)), .int (nI k6), .int (aIp S k1)])) 20) (w 11) = some (.inl (K 0, 10, .inl (Z 4)), 15) := (hset_ne _ _ _ (ne_ao (hW.ar 4 (by decide)) (hW.g (show k1 < aN S by omega)))).trans (hW.ar 4 (by decide))
              have e27 : (hset h ((Ls 0).getD k1 0) (.inr (4, [.ref (w (100 + k1)), .int (nI k1), .int (zI (aCm S k1)), .int (zI (aSi S k1)), .int (nI k6), .int (aIp S k1)])) 20) (w 12) = some (.inl (K 0, 10, .inl (Z 5)), 16) := (hset_ne _ _ _ (ne_ao (hW.ar 5 (by decide)) (hW.g (show k1 < aN S by omega)))).trans (hW.ar 5 (by decide))
              have e28 : (hset h ((Ls 0).getD k1 0) (.inr (4, [.ref (w (100 + k1)), .int (nI k1), .int (zI (aCm S k1)), .int (zI (aSi S k1)), .int (nI k6), .int (aIp S k1)])) 20) ((Ls 0).getD k1 0) = some (.inr (4, [.ref (w (100 + k1)), .int (nI k1), .int (zI (aCm S k1)), .int (zI (aSi S k1)), .int (nI k6), .int (aIp S k1)]), 20) := hset_self _ _ _ _
              refine lv_aload hx hb dX0_seat_72 (lv_at hl 1 rfl) ?_
              refine lv_iload_n hx hb dX0_seat_74 rfl (lv_at hl 5 rfl) ?_
              refine hp_putN (C := RX5) (T := TX5) (N := 6) (v := .int place) (ty := .int) hx hb hts in_X5 tyX5 tyX5_ok nmX5 hown hK hH hS e28 rfl 5 (by decide) (hG.nf hPB q551) (fun _ z => z) rfl (by decide +kernel) rfl rfl (Nat.le_of_ble_eq_true rfl) dX0_seat_75 (fun H locs _ hH hS => ?_)
              have hH : HP D CL (zA s0) (hset (hset h ((Ls 0).getD k1 0) (.inr (4, [.ref (w (100 + k1)), .int (nI k1), .int (zI (aCm S k1)), .int (zI (aSi S k1)), .int (nI k6), .int (aIp S k1)])) 20) ((Ls 0).getD k1 0) (.inr (4, [.ref (w (100 + k1)), .int (nI k1), .int (zI (aCm S k1)), .int (zI (aSi S k1)), .int (nI k6), .int place])) 20) H := hH
              have e29 : (hset (hset h ((Ls 0).getD k1 0) (.inr (4, [.ref (w (100 + k1)), .int (nI k1), .int (zI (aCm S k1)), .int (zI (aSi S k1)), .int (nI k6), .int (aIp S k1)])) 20) ((Ls 0).getD k1 0) (.inr (4, [.ref (w (100 + k1)), .int (nI k1), .int (zI (aCm S k1)), .int (zI (aSi S k1)), .int (nI k6), .int place])) 20) (w 0) = some (.inr (0, [.ref (w 1), .ref (w 2), .ref (w 3), .ref (w 4), .ref (w 5), .ref (w 6), .int (nI (aSz S)), .ref (w 7), .ref (w 8), .ref (w 9), .ref (w 10), .ref (w 11), .ref (w 12), .int (Z 6 0)]), 1) := (hset_ne _ _ _ (ne_ci e21 e28 (by decide))).trans e21
              have e30 : (hset (hset h ((Ls 0).getD k1 0) (.inr (4, [.ref (w (100 + k1)), .int (nI k1), .int (zI (aCm S k1)), .int (zI (aSi S k1)), .int (nI k6), .int (aIp S k1)])) 20) ((Ls 0).getD k1 0) (.inr (4, [.ref (w (100 + k1)), .int (nI k1), .int (zI (aCm S k1)), .int (zI (aSi S k1)), .int (nI k6), .int place])) 20) (w 7) = some (.inl (K 0, 10, .inl (Z 0)), 11) := (hset_ne _ _ _ (ne_ao e22 e28)).trans e22
              have e31 : (hset (hset h ((Ls 0).getD k1 0) (.inr (4, [.ref (w (100 + k1)), .int (nI k1), .int (zI (aCm S k1)), .int (zI (aSi S k1)), .int (nI k6), .int (aIp S k1)])) 20) ((Ls 0).getD k1 0) (.inr (4, [.ref (w (100 + k1)), .int (nI k1), .int (zI (aCm S k1)), .int (zI (aSi S k1)), .int (nI k6), .int place])) 20) (w 8) = some (.inl (K 0, 10, .inl (Z 1)), 12) := (hset_ne _ _ _ (ne_ao e23 e28)).trans e23
              have e32 : (hset (hset h ((Ls 0).getD k1 0) (.inr (4, [.ref (w (100 + k1)), .int (nI k1), .int (zI (aCm S k1)), .int (zI (aSi S k1)), .int (nI k6), .int (aIp S k1)])) 20) ((Ls 0).getD k1 0) (.inr (4, [.ref (w (100 + k1)), .int (nI k1), .int (zI (aCm S k1)), .int (zI (aSi S k1)), .int (nI k6), .int place])) 20) (w 9) = some (.inl (K 0, 10, .inl (Z 2)), 13) := (hset_ne _ _ _ (ne_ao e24 e28)).trans e24
              have e33 : (hset (hset h ((Ls 0).getD k1 0) (.inr (4, [.ref (w (100 + k1)), .int (nI k1), .int (zI (aCm S k1)), .int (zI (aSi S k1)), .int (nI k6), .int (aIp S k1)])) 20) ((Ls 0).getD k1 0) (.inr (4, [.ref (w (100 + k1)), .int (nI k1), .int (zI (aCm S k1)), .int (zI (aSi S k1)), .int (nI k6), .int place])) 20) (w 10) = some (.inl (K 0, 10, .inl (Z 3)), 14) := (hset_ne _ _ _ (ne_ao e25 e28)).trans e25
              have e34 : (hset (hset h ((Ls 0).getD k1 0) (.inr (4, [.ref (w (100 + k1)), .int (nI k1), .int (zI (aCm S k1)), .int (zI (aSi S k1)), .int (nI k6), .int (aIp S k1)])) 20) ((Ls 0).getD k1 0) (.inr (4, [.ref (w (100 + k1)), .int (nI k1), .int (zI (aCm S k1)), .int (zI (aSi S k1)), .int (nI k6), .int place])) 20) (w 11) = some (.inl (K 0, 10, .inl (Z 4)), 15) := (hset_ne _ _ _ (ne_ao e26 e28)).trans e26
              have e35 : (hset (hset h ((Ls 0).getD k1 0) (.inr (4, [.ref (w (100 + k1)), .int (nI k1), .int (zI (aCm S k1)), .int (zI (aSi S k1)), .int (nI k6), .int (aIp S k1)])) 20) ((Ls 0).getD k1 0) (.inr (4, [.ref (w (100 + k1)), .int (nI k1), .int (zI (aCm S k1)), .int (zI (aSi S k1)), .int (nI k6), .int place])) 20) (w 12) = some (.inl (K 0, 10, .inl (Z 5)), 16) := (hset_ne _ _ _ (ne_ao e27 e28)).trans e27
              have e36 : (hset (hset h ((Ls 0).getD k1 0) (.inr (4, [.ref (w (100 + k1)), .int (nI k1), .int (zI (aCm S k1)), .int (zI (aSi S k1)), .int (nI k6), .int (aIp S k1)])) 20) ((Ls 0).getD k1 0) (.inr (4, [.ref (w (100 + k1)), .int (nI k1), .int (zI (aCm S k1)), .int (zI (aSi S k1)), .int (nI k6), .int place])) 20) ((Ls 0).getD k1 0) = some (.inr (4, [.ref (w (100 + k1)), .int (nI k1), .int (zI (aCm S k1)), .int (zI (aSi S k1)), .int (nI k6), .int place]), 20) := hset_self _ _ _ _
              refine lv_iconst (v := nI 1) hx hb dX0_seat_78 (by decide) ?_
              exact hp_zret hx hb hr rfl hlocks hH hS (by decide) (by decide) dX0_seat_79 (⟨congrArg some (congrArg Value.int (zI_1 (by simp [okSeat, hik1, ek1, hik6, ek6, c12, c13, c17, hfb]))), by rw [show stSeat S (nI k1) (nI k6) place = _ from if_pos (by simp [okSeat, hik1, ek1, hik6, ek6, c12, c13, c17, hfb]), ek1, hset_hset]; exact pbx_g hW (by omega) (eg_seat S k1 (nI k6) place).1 (eg_cell (eg_seat S k1 (nI k6) place))⟩)
    · have hq := hp9.2; rw [hq] at hH
      refine lv_astoreN (lv' := [(5, .null), (4, .ref ((Ls 0).getD k1 0)), (0, .ref (w 0)), (1, .int (nI k1)), (2, .int room), (3, .int place)]) hx hb dX0_seat_12 hl (by decide) rfl (fun ls hl => ?_)
      refine lv_aload hx hb dX0_seat_14 (lv_at hl 1 rfl) ?_
      refine lv_ifnull hx hb dX0_seat_16 ?_
      refine lv_aload hx hb dX0_seat_19 (lv_at hl 1 rfl) ?_
      refine hp_getN (C := RX5) (T := TX5) (N := 6) (v := .int (zI (aCm S k1))) hx hb hts in_X5 hown hK hH (hW.g (show k1 < aN S by omega)) rfl 2 (by decide) (hG.nf hPB q542) (fun _ z => z) rfl dX0_seat_21 ?_
      refine lvB_eq (tgt := 64) hx hb dX0_seat_24 (by decide) (fun c37 => ?_) (fun c37 => ?_)
      · refine lv_iconst (v := nI 0) hx hb dX0_seat_64 (by decide) ?_
        exact hp_zret hx hb hr rfl hlocks hH hS (by decide) (by decide) dX0_seat_65 (⟨congrArg some (congrArg Value.int (zI_0 (by simp [okSeat, hik1, ek1, cz7, c37]))), by rw [show stSeat S (nI k1) room place = S from if_neg (Bool.not_eq_true _ ▸ (by simp [okSeat, hik1, ek1, cz7, c37] : okSeat S (nI k1) room place = false))]; exact pbx_h hW⟩)
      · refine lv_aload hx hb dX0_seat_27 (lv_at hl 1 rfl) ?_
        refine hp_getN (C := RX5) (T := TX5) (N := 6) (v := .int (zI (aSi S k1))) hx hb hts in_X5 hown hK hH (hW.g (show k1 < aN S by omega)) rfl 3 (by decide) (hG.nf hPB q545) (fun _ z => z) rfl dX0_seat_29 ?_
        refine lvB_ne (tgt := 64) hx hb dX0_seat_32 (by decide) (fun c38 => ?_) (fun c38 => ?_)
        · refine lv_iconst (v := nI 0) hx hb dX0_seat_64 (by decide) ?_
          exact hp_zret hx hb hr rfl hlocks hH hS (by decide) (by decide) dX0_seat_65 (⟨congrArg some (congrArg Value.int (zI_0 (by simp [okSeat, hik1, ek1, cz7, c37, c38]))), by rw [show stSeat S (nI k1) room place = S from if_neg (Bool.not_eq_true _ ▸ (by simp [okSeat, hik1, ek1, cz7, c37, c38] : okSeat S (nI k1) room place = false))]; exact pbx_h hW⟩)
        · refine lv_aloadN hx hb dX0_seat_35 (lv_at hl 0 rfl) ?_
          refine lv_ifnullN (tgt := 64) hx hb dX0_seat_37 (by decide) ?_
          refine lv_iconst (v := nI 0) hx hb dX0_seat_64 (by decide) ?_
          exact hp_zret hx hb hr rfl hlocks hH hS (by decide) (by decide) dX0_seat_65 (⟨congrArg some (congrArg Value.int (zI_0 (by simp [okSeat, hik1, ek1, cz7, c37, c38]))), by rw [show stSeat S (nI k1) room place = S from if_neg (Bool.not_eq_true _ ▸ (by simp [okSeat, hik1, ek1, cz7, c37, c38] : okSeat S (nI k1) room place = false))]; exact pbx_h hW⟩)
  · have hq := hp4.2; rw [hq] at hH
    refine lv_astoreN (lv' := [(4, .null), (0, .ref (w 0)), (1, .int g), (2, .int room), (3, .int place)]) hx hb dX0_seat_5 hl (by decide) rfl (fun ls hl => ?_)
    refine lv_aload_n hx hb dX0_seat_7 rfl (lv_at hl 1 rfl) ?_
    refine lv_iload_n hx hb dX0_seat_8 rfl (lv_at hl 3 rfl) ?_
    refine hp_callV (As := [.int room]) (rest := []) hx hb hml hown hts hPB hK hH hS (mc_roomAt hK0 hG hO hO2 hW room) hW.x rfl rfl 1 (lw_V q924 q926 qs24 q102 q927) (by decide +kernel) ⟨rfl, rfl⟩ (by decide) rfl hl.1 rfl (Nat.le_of_ble_eq_true rfl) (by decide) dX0_seat_9 (fun v41 h43 H locs hp42 _ hH hS => ?_)
    rcases hp42.1 with ⟨k39, hk39, hgk39, rfl⟩ | ⟨cz40, rfl⟩
    · have hq := hp42.2; rw [hq] at hH
      subst hgk39
      have hik39 : inN (nI k39) (aRm S) = true := by rw [inN_nI (by omega)]; exact decide_eq_true hk39
      have ek39 := nI_clamp (show k39 < 2 ^ 31 by omega)
      have hp44 := hO.rp (show k39 < aRm S by omega)
      refine lv_astore (lv' := [(5, .ref ((Ls 3).getD k39 0)), (4, .null), (0, .ref (w 0)), (1, .int g), (2, .int (nI k39)), (3, .int place)]) hx hb dX0_seat_12 hl (by decide) rfl (fun ls hl => ?_)
      refine lv_aloadN hx hb dX0_seat_14 (lv_at hl 1 rfl) ?_
      refine lv_ifnullN (tgt := 64) hx hb dX0_seat_16 (by decide) ?_
      refine lv_iconst (v := nI 0) hx hb dX0_seat_64 (by decide) ?_
      exact hp_zret hx hb hr rfl hlocks hH hS (by decide) (by decide) dX0_seat_65 (⟨congrArg some (congrArg Value.int (zI_0 (by simp [okSeat, cz2, hik39, ek39]))), by rw [show stSeat S g (nI k39) place = S from if_neg (Bool.not_eq_true _ ▸ (by simp [okSeat, cz2, hik39, ek39] : okSeat S g (nI k39) place = false))]; exact pbx_h hW⟩)
    · have hq := hp42.2; rw [hq] at hH
      refine lv_astoreN (lv' := [(5, .null), (4, .null), (0, .ref (w 0)), (1, .int g), (2, .int room), (3, .int place)]) hx hb dX0_seat_12 hl (by decide) rfl (fun ls hl => ?_)
      refine lv_aloadN hx hb dX0_seat_14 (lv_at hl 1 rfl) ?_
      refine lv_ifnullN (tgt := 64) hx hb dX0_seat_16 (by decide) ?_
      refine lv_iconst (v := nI 0) hx hb dX0_seat_64 (by decide) ?_
      exact hp_zret hx hb hr rfl hlocks hH hS (by decide) (by decide) dX0_seat_65 (⟨congrArg some (congrArg Value.int (zI_0 (by simp [okSeat, cz2, cz40]))), by rw [show stSeat S g room place = S from if_neg (Bool.not_eq_true _ ▸ (by simp [okSeat, cz2, cz40] : okSeat S g room place = false))]; exact pbx_h hW⟩)
end MODEL
