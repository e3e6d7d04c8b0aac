/-! by gen/mspec.py -/
set_option maxRecDepth 100000
section MODEL
variable {l : Launch} {s0 : State} {D : va_G} {K : Nat → ClassId} {wd : Nat → Nat} {o : Nat} {h : Hp} {I : Nat → Int32} {V : Nat → Nat → Int32} {J : Nat → Nat → Int64}
set_option maxHeartbeats 4000000 in
theorem mc_feeds (hK0 : va_K D CL (TYS K) s0) {av : Nat → Nat} {ed mi : Nat} (hG : GX s0 wd av ed mi) {S : Ab} {w : Nat → Nat} {Ls : Nat → List Nat} {Jn : Nat → Nat} {Z : Nat → Nat → Int32} (hW : CW K ed S h w Ls Jn Z) (hs4 : aSz S + 4 ≤ 700) (v : Int32) : Met l yX0_feeds (ws_ yX0_feeds cX0_feeds 3 ((Option.none : Option Jvm.ClassFile.FieldType))) (rmk 0 0 0) (va_Pc [.ref (w 0), .int v] (PB s0 D CL (h))) (QR s0 D CL (fun v9 h1 => v9 = none ∧ CW K ed (stFeeds S v) h1 w Ls Jn Z ∧ fr0 h h1)) 0 0 (zA s0) := by
  refine hp_met (by decide) (Nat.le_of_ble_eq_true rfl) hK0 ?_
  intro p e s m below meth cd ls hx hb hr hlocks hml hown hnm hts hK hPB hl hS hH hA
  have hl : lv_has ls 3 [(0, .ref (w 0)), (1, .int v)] := hl
  have hown : s.vm.findClass RX0 = some m.cls := hown
  obtain ⟨tx, htx, htx2⟩ := hW.tx
  refine lv_bipush (v := nI 24) hx hb dX0_feeds_0 (by decide) ?_
  refine lv_istore_n (lv' := [(2, .int (nI 24)), (0, .ref (w 0)), (1, .int v)]) hx hb dX0_feeds_2 rfl hl (by decide) rfl (fun ls hl => ?_)
  refine lv_iload_n hx hb dX0_feeds_3 rfl (lv_at hl 0 rfl) ?_
  refine lv_if_lt (tgt := 36) hx hb dX0_feeds_4 (by decide) (fun c1 => ?_) (fun c1 => ?_)
  · exact absurd c1 (by decide)
  · refine lv_aload_n hx hb dX0_feeds_7 rfl (lv_at hl 1 rfl) ?_
    refine hp_get (C := RX0) (T := TX0) (N := 14) (v := .ref (w 1)) hx hb hts in_X0 hown hK hH hW.x rfl 0 (by decide) (hts _ q212) (fun _ z => z) rfl dX0_feeds_8 ?_
    refine lv_aload_n hx hb dX0_feeds_11 rfl (lv_at hl 1 rfl) ?_
    refine hp_get (C := RX0) (T := TX0) (N := 14) (v := .int (nI (aSz S))) hx hb hts in_X0 hown hK hH hW.x rfl 6 (by decide) (hts _ q218) (fun _ z => z) rfl dX0_feeds_12 ?_
    refine lv_iload_n hx hb dX0_feeds_15 rfl (lv_at hl 2 rfl) ?_
    refine lv_iload_n hx hb dX0_feeds_16 rfl (lv_at hl 0 rfl) ?_
    refine lv_ishr hx hb dX0_feeds_17 ?_
    refine lv_i2b (v := byU v 3) hx hb dX0_feeds_18 (by_eq v 3 (by decide)) ?_
    refine hp_bst (n := 700) (j := aSz S) (x' := byU v 3) (hx' := by_nar v _) hx hb hK hH hS 1 htx rfl (by first | omega | (refine Nat.lt_of_lt_of_le (Nat.mod_lt _ ?_) ?_ <;> omega)) (by first | omega | (refine Nat.lt_of_lt_of_le (Nat.mod_lt _ ?_) ?_ <;> omega)) dX0_feeds_19 (fun H locs _ hH hS => ?_)
    have hH : HP D CL (zA s0) (hset h (w 1) (.inl (K 1, 700, .inl (upd tx (aSz S) (byU v 3)))) 2) H := hH
    have e2 : (hset h (w 1) (.inl (K 1, 700, .inl (upd tx (aSz S) (byU v 3)))) 2) (w 0) = some (.inr (0, [.ref (w 1), .ref (w 2), .ref (w 3), .ref (w 4), .ref (w 5), .ref (w 6), .int (nI (aSz S)), .ref (w 7), .ref (w 8), .ref (w 9), .ref (w 10), .ref (w 11), .ref (w 12), .int (Z 6 0)]), 1) := (hset_ne _ _ _ (ne_oa hW.x htx)).trans hW.x
    have e3 : (hset h (w 1) (.inl (K 1, 700, .inl (upd tx (aSz S) (byU v 3)))) 2) (w 1) = some (.inl (K 1, 700, .inl (upd tx (aSz S) (byU v 3))), 2) := hset_self _ _ _ _
    refine lv_aload_n hx hb dX0_feeds_20 rfl (lv_at hl 1 rfl) ?_
    refine lv_dup hx hb dX0_feeds_21 rfl ?_
    refine hp_get (C := RX0) (T := TX0) (N := 14) (v := .int (nI (aSz S))) hx hb hts in_X0 hown hK hH e2 rfl 6 (by decide) (hts _ q218) (fun _ z => z) rfl dX0_feeds_22 ?_
    refine lv_iconst (v := nI 1) hx hb dX0_feeds_25 (by decide) ?_
    refine lv_iadd hx hb dX0_feeds_26 ?_
    refine lv_top (y := nI ((aSz S) + 1)) (nI_add _ _) ?_
    refine hp_put (C := RX0) (T := TX0) (N := 14) (v := .int (nI ((aSz S) + 1))) (ty := .int) hx hb hts in_X0 tyX0 tyX0_ok nmX0 hown hK hH hS e2 rfl 6 (by decide) (hts _ q218) (fun _ z => z) rfl (by decide +kernel) rfl rfl (Nat.le_of_ble_eq_true rfl) dX0_feeds_27 (fun H locs _ hH hS => ?_)
    have hH : HP D CL (zA s0) (hset (hset h (w 1) (.inl (K 1, 700, .inl (upd tx (aSz S) (byU v 3)))) 2) (w 0) (.inr (0, [.ref (w 1), .ref (w 2), .ref (w 3), .ref (w 4), .ref (w 5), .ref (w 6), .int (nI ((aSz S) + 1)), .ref (w 7), .ref (w 8), .ref (w 9), .ref (w 10), .ref (w 11), .ref (w 12), .int (Z 6 0)])) 1) H := hH
    have e4 : (hset (hset h (w 1) (.inl (K 1, 700, .inl (upd tx (aSz S) (byU v 3)))) 2) (w 0) (.inr (0, [.ref (w 1), .ref (w 2), .ref (w 3), .ref (w 4), .ref (w 5), .ref (w 6), .int (nI ((aSz S) + 1)), .ref (w 7), .ref (w 8), .ref (w 9), .ref (w 10), .ref (w 11), .ref (w 12), .int (Z 6 0)])) 1) (w 1) = some (.inl (K 1, 700, .inl (upd tx (aSz S) (byU v 3))), 2) := (hset_ne _ _ _ (ne_ao e3 e2)).trans e3
    have e5 : (hset (hset h (w 1) (.inl (K 1, 700, .inl (upd tx (aSz S) (byU v 3)))) 2) (w 0) (.inr (0, [.ref (w 1), .ref (w 2), .ref (w 3), .ref (w 4), .ref (w 5), .ref (w 6), .int (nI ((aSz S) + 1)), .ref (w 7), .ref (w 8), .ref (w 9), .ref (w 10), .ref (w 11), .ref (w 12), .int (Z 6 0)])) 1) (w 0) = some (.inr (0, [.ref (w 1), .ref (w 2), .ref (w 3), .ref (w 4), .ref (w 5), .ref (w 6), .int (nI ((aSz S) + 1)), .ref (w 7), .ref (w 8), .ref (w 9), .ref (w 10), .ref (w 11), .ref (w 12), .int (Z 6 0)]), 1) := hset_self _ _ _ _
    obtain ⟨hN1, ehN1, hW, h0N1⟩ := hW.push htx htx2 (byU v 3)
    have hH : HP D CL (zA s0) hN1 H := by rw [ehN1]; exact hH
    obtain ⟨tx, htx, htx2⟩ := hW.tx
    have hsz0 : aSz (pushB S (byU v 3)) = aSz S + 1 := rfl
    refine lv_iinc (v := nI 16) (lv' := [(2, .int (nI 16)), (0, .ref (w 0)), (1, .int v)]) hx hb dX0_feeds_30 hl (k := 0) rfl (by decide) (by decide) rfl (fun ls hl => ?_)
    refine lv_goto (tgt := 3) hx hb dX0_feeds_33 (by decide) ?_
    refine lv_iload_n hx hb dX0_feeds_3 rfl (lv_at hl 0 rfl) ?_
    refine lv_if_lt (tgt := 36) hx hb dX0_feeds_4 (by decide) (fun c6 => ?_) (fun c6 => ?_)
    · exact absurd c6 (by decide)
    · refine lv_aload_n hx hb dX0_feeds_7 rfl (lv_at hl 1 rfl) ?_
      refine hp_get (C := RX0) (T := TX0) (N := 14) (v := .ref (w 1)) hx hb hts in_X0 hown hK hH hW.x rfl 0 (by decide) (hts _ q212) (fun _ z => z) rfl dX0_feeds_8 ?_
      refine lv_aload_n hx hb dX0_feeds_11 rfl (lv_at hl 1 rfl) ?_
      refine hp_get (C := RX0) (T := TX0) (N := 14) (v := .int (nI (aSz S + 1))) hx hb hts in_X0 hown hK hH hW.x rfl 6 (by decide) (hts _ q218) (fun _ z => z) rfl dX0_feeds_12 ?_
      refine lv_iload_n hx hb dX0_feeds_15 rfl (lv_at hl 2 rfl) ?_
      refine lv_iload_n hx hb dX0_feeds_16 rfl (lv_at hl 0 rfl) ?_
      refine lv_ishr hx hb dX0_feeds_17 ?_
      refine lv_i2b (v := byU v 2) hx hb dX0_feeds_18 (by_eq v 2 (by decide)) ?_
      refine hp_bst (n := 700) (j := aSz S + 1) (x' := byU v 2) (hx' := by_nar v _) hx hb hK hH hS 1 htx rfl (by first | omega | (refine Nat.lt_of_lt_of_le (Nat.mod_lt _ ?_) ?_ <;> omega)) (by first | omega | (refine Nat.lt_of_lt_of_le (Nat.mod_lt _ ?_) ?_ <;> omega)) dX0_feeds_19 (fun H locs _ hH hS => ?_)
      have hH : HP D CL (zA s0) (hset hN1 (w 1) (.inl (K 1, 700, .inl (upd tx (aSz S + 1) (byU v 2)))) 2) H := hH
      have e7 : (hset hN1 (w 1) (.inl (K 1, 700, .inl (upd tx (aSz S + 1) (byU v 2)))) 2) (w 0) = some (.inr (0, [.ref (w 1), .ref (w 2), .ref (w 3), .ref (w 4), .ref (w 5), .ref (w 6), .int (nI (aSz S + 1)), .ref (w 7), .ref (w 8), .ref (w 9), .ref (w 10), .ref (w 11), .ref (w 12), .int (Z 6 0)]), 1) := (hset_ne _ _ _ (ne_oa hW.x htx)).trans hW.x
      have e8 : (hset hN1 (w 1) (.inl (K 1, 700, .inl (upd tx (aSz S + 1) (byU v 2)))) 2) (w 1) = some (.inl (K 1, 700, .inl (upd tx (aSz S + 1) (byU v 2))), 2) := hset_self _ _ _ _
      refine lv_aload_n hx hb dX0_feeds_20 rfl (lv_at hl 1 rfl) ?_
      refine lv_dup hx hb dX0_feeds_21 rfl ?_
      refine hp_get (C := RX0) (T := TX0) (N := 14) (v := .int (nI (aSz S + 1))) hx hb hts in_X0 hown hK hH e7 rfl 6 (by decide) (hts _ q218) (fun _ z => z) rfl dX0_feeds_22 ?_
      refine lv_iconst (v := nI 1) hx hb dX0_feeds_25 (by decide) ?_
      refine lv_iadd hx hb dX0_feeds_26 ?_
      refine lv_top (y := nI (aSz S + 1 + 1)) (nI_add _ _) ?_
      refine hp_put (C := RX0) (T := TX0) (N := 14) (v := .int (nI (aSz S + 1 + 1))) (ty := .int) hx hb hts in_X0 tyX0 tyX0_ok nmX0 hown hK hH hS e7 rfl 6 (by decide) (hts _ q218) (fun _ z => z) rfl (by decide +kernel) rfl rfl (Nat.le_of_ble_eq_true rfl) dX0_feeds_27 (fun H locs _ hH hS => ?_)
      have hH : HP D CL (zA s0) (hset (hset hN1 (w 1) (.inl (K 1, 700, .inl (upd tx (aSz S + 1) (byU v 2)))) 2) (w 0) (.inr (0, [.ref (w 1), .ref (w 2), .ref (w 3), .ref (w 4), .ref (w 5), .ref (w 6), .int (nI (aSz S + 1 + 1)), .ref (w 7), .ref (w 8), .ref (w 9), .ref (w 10), .ref (w 11), .ref (w 12), .int (Z 6 0)])) 1) H := hH
      have e9 : (hset (hset hN1 (w 1) (.inl (K 1, 700, .inl (upd tx (aSz S + 1) (byU v 2)))) 2) (w 0) (.inr (0, [.ref (w 1), .ref (w 2), .ref (w 3), .ref (w 4), .ref (w 5), .ref (w 6), .int (nI (aSz S + 1 + 1)), .ref (w 7), .ref (w 8), .ref (w 9), .ref (w 10), .ref (w 11), .ref (w 12), .int (Z 6 0)])) 1) (w 1) = some (.inl (K 1, 700, .inl (upd tx (aSz S + 1) (byU v 2))), 2) := (hset_ne _ _ _ (ne_ao e8 e7)).trans e8
      have e10 : (hset (hset hN1 (w 1) (.inl (K 1, 700, .inl (upd tx (aSz S + 1) (byU v 2)))) 2) (w 0) (.inr (0, [.ref (w 1), .ref (w 2), .ref (w 3), .ref (w 4), .ref (w 5), .ref (w 6), .int (nI (aSz S + 1 + 1)), .ref (w 7), .ref (w 8), .ref (w 9), .ref (w 10), .ref (w 11), .ref (w 12), .int (Z 6 0)])) 1) (w 0) = some (.inr (0, [.ref (w 1), .ref (w 2), .ref (w 3), .ref (w 4), .ref (w 5), .ref (w 6), .int (nI (aSz S + 1 + 1)), .ref (w 7), .ref (w 8), .ref (w 9), .ref (w 10), .ref (w 11), .ref (w 12), .int (Z 6 0)]), 1) := hset_self _ _ _ _
      obtain ⟨hN2, ehN2, hW, h0N2⟩ := hW.push htx htx2 (byU v 2)
      have hH : HP D CL (zA s0) hN2 H := by rw [ehN2]; exact hH
      obtain ⟨tx, htx, htx2⟩ := hW.tx
      have hsz1 : aSz (pushB (pushB S (byU v 3)) (byU v 2)) = aSz S + 2 := rfl
      refine lv_iinc (v := nI 8) (lv' := [(2, .int (nI 8)), (0, .ref (w 0)), (1, .int v)]) hx hb dX0_feeds_30 hl (k := 0) rfl (by decide) (by decide) rfl (fun ls hl => ?_)
      refine lv_goto (tgt := 3) hx hb dX0_feeds_33 (by decide) ?_
      refine lv_iload_n hx hb dX0_feeds_3 rfl (lv_at hl 0 rfl) ?_
      refine lv_if_lt (tgt := 36) hx hb dX0_feeds_4 (by decide) (fun c11 => ?_) (fun c11 => ?_)
      · exact absurd c11 (by decide)
      · refine lv_aload_n hx hb dX0_feeds_7 rfl (lv_at hl 1 rfl) ?_
        refine hp_get (C := RX0) (T := TX0) (N := 14) (v := .ref (w 1)) hx hb hts in_X0 hown hK hH hW.x rfl 0 (by decide) (hts _ q212) (fun _ z => z) rfl dX0_feeds_8 ?_
        refine lv_aload_n hx hb dX0_feeds_11 rfl (lv_at hl 1 rfl) ?_
        refine hp_get (C := RX0) (T := TX0) (N := 14) (v := .int (nI (aSz S + 2))) hx hb hts in_X0 hown hK hH hW.x rfl 6 (by decide) (hts _ q218) (fun _ z => z) rfl dX0_feeds_12 ?_
        refine lv_iload_n hx hb dX0_feeds_15 rfl (lv_at hl 2 rfl) ?_
        refine lv_iload_n hx hb dX0_feeds_16 rfl (lv_at hl 0 rfl) ?_
        refine lv_ishr hx hb dX0_feeds_17 ?_
        refine lv_i2b (v := byU v 1) hx hb dX0_feeds_18 (by_eq v 1 (by decide)) ?_
        refine hp_bst (n := 700) (j := aSz S + 2) (x' := byU v 1) (hx' := by_nar v _) hx hb hK hH hS 1 htx rfl (by first | omega | (refine Nat.lt_of_lt_of_le (Nat.mod_lt _ ?_) ?_ <;> omega)) (by first | omega | (refine Nat.lt_of_lt_of_le (Nat.mod_lt _ ?_) ?_ <;> omega)) dX0_feeds_19 (fun H locs _ hH hS => ?_)
        have hH : HP D CL (zA s0) (hset hN2 (w 1) (.inl (K 1, 700, .inl (upd tx (aSz S + 2) (byU v 1)))) 2) H := hH
        have e12 : (hset hN2 (w 1) (.inl (K 1, 700, .inl (upd tx (aSz S + 2) (byU v 1)))) 2) (w 0) = some (.inr (0, [.ref (w 1), .ref (w 2), .ref (w 3), .ref (w 4), .ref (w 5), .ref (w 6), .int (nI (aSz S + 2)), .ref (w 7), .ref (w 8), .ref (w 9), .ref (w 10), .ref (w 11), .ref (w 12), .int (Z 6 0)]), 1) := (hset_ne _ _ _ (ne_oa hW.x htx)).trans hW.x
        have e13 : (hset hN2 (w 1) (.inl (K 1, 700, .inl (upd tx (aSz S + 2) (byU v 1)))) 2) (w 1) = some (.inl (K 1, 700, .inl (upd tx (aSz S + 2) (byU v 1))), 2) := hset_self _ _ _ _
        refine lv_aload_n hx hb dX0_feeds_20 rfl (lv_at hl 1 rfl) ?_
        refine lv_dup hx hb dX0_feeds_21 rfl ?_
        refine hp_get (C := RX0) (T := TX0) (N := 14) (v := .int (nI (aSz S + 2))) hx hb hts in_X0 hown hK hH e12 rfl 6 (by decide) (hts _ q218) (fun _ z => z) rfl dX0_feeds_22 ?_
        refine lv_iconst (v := nI 1) hx hb dX0_feeds_25 (by decide) ?_
        refine lv_iadd hx hb dX0_feeds_26 ?_
        refine lv_top (y := nI (aSz S + 2 + 1)) (nI_add _ _) ?_
        refine hp_put (C := RX0) (T := TX0) (N := 14) (v := .int (nI (aSz S + 2 + 1))) (ty := .int) hx hb hts in_X0 tyX0 tyX0_ok nmX0 hown hK hH hS e12 rfl 6 (by decide) (hts _ q218) (fun _ z => z) rfl (by decide +kernel) rfl rfl (Nat.le_of_ble_eq_true rfl) dX0_feeds_27 (fun H locs _ hH hS => ?_)
        have hH : HP D CL (zA s0) (hset (hset hN2 (w 1) (.inl (K 1, 700, .inl (upd tx (aSz S + 2) (byU v 1)))) 2) (w 0) (.inr (0, [.ref (w 1), .ref (w 2), .ref (w 3), .ref (w 4), .ref (w 5), .ref (w 6), .int (nI (aSz S + 2 + 1)), .ref (w 7), .ref (w 8), .ref (w 9), .ref (w 10), .ref (w 11), .ref (w 12), .int (Z 6 0)])) 1) H := hH
        have e14 : (hset (hset hN2 (w 1) (.inl (K 1, 700, .inl (upd tx (aSz S + 2) (byU v 1)))) 2) (w 0) (.inr (0, [.ref (w 1), .ref (w 2), .ref (w 3), .ref (w 4), .ref (w 5), .ref (w 6), .int (nI (aSz S + 2 + 1)), .ref (w 7), .ref (w 8), .ref (w 9), .ref (w 10), .ref (w 11), .ref (w 12), .int (Z 6 0)])) 1) (w 1) = some (.inl (K 1, 700, .inl (upd tx (aSz S + 2) (byU v 1))), 2) := (hset_ne _ _ _ (ne_ao e13 e12)).trans e13
        have e15 : (hset (hset hN2 (w 1) (.inl (K 1, 700, .inl (upd tx (aSz S + 2) (byU v 1)))) 2) (w 0) (.inr (0, [.ref (w 1), .ref (w 2), .ref (w 3), .ref (w 4), .ref (w 5), .ref (w 6), .int (nI (aSz S + 2 + 1)), .ref (w 7), .ref (w 8), .ref (w 9), .ref (w 10), .ref (w 11), .ref (w 12), .int (Z 6 0)])) 1) (w 0) = some (.inr (0, [.ref (w 1), .ref (w 2), .ref (w 3), .ref (w 4), .ref (w 5), .ref (w 6), .int (nI (aSz S + 2 + 1)), .ref (w 7), .ref (w 8), .ref (w 9), .ref (w 10), .ref (w 11), .ref (w 12), .int (Z 6 0)]), 1) := hset_self _ _ _ _
        obtain ⟨hN3, ehN3, hW, h0N3⟩ := hW.push htx htx2 (byU v 1)
        have hH : HP D CL (zA s0) hN3 H := by rw [ehN3]; exact hH
        obtain ⟨tx, htx, htx2⟩ := hW.tx
        have hsz2 : aSz (pushB (pushB (pushB S (byU v 3)) (byU v 2)) (byU v 1)) = aSz S + 3 := rfl
        refine lv_iinc (v := nI 0) (lv' := [(2, .int (nI 0)), (0, .ref (w 0)), (1, .int v)]) hx hb dX0_feeds_30 hl (k := 0) rfl (by decide) (by decide) rfl (fun ls hl => ?_)
        refine lv_goto (tgt := 3) hx hb dX0_feeds_33 (by decide) ?_
        refine lv_iload_n hx hb dX0_feeds_3 rfl (lv_at hl 0 rfl) ?_
        refine lv_if_lt (tgt := 36) hx hb dX0_feeds_4 (by decide) (fun c16 => ?_) (fun c16 => ?_)
        · exact absurd c16 (by decide)
        · refine lv_aload_n hx hb dX0_feeds_7 rfl (lv_at hl 1 rfl) ?_
          refine hp_get (C := RX0) (T := TX0) (N := 14) (v := .ref (w 1)) hx hb hts in_X0 hown hK hH hW.x rfl 0 (by decide) (hts _ q212) (fun _ z => z) rfl dX0_feeds_8 ?_
          refine lv_aload_n hx hb dX0_feeds_11 rfl (lv_at hl 1 rfl) ?_
          refine hp_get (C := RX0) (T := TX0) (N := 14) (v := .int (nI (aSz S + 3))) hx hb hts in_X0 hown hK hH hW.x rfl 6 (by decide) (hts _ q218) (fun _ z => z) rfl dX0_feeds_12 ?_
          refine lv_iload_n hx hb dX0_feeds_15 rfl (lv_at hl 2 rfl) ?_
          refine lv_iload_n hx hb dX0_feeds_16 rfl (lv_at hl 0 rfl) ?_
          refine lv_ishr hx hb dX0_feeds_17 ?_
          refine lv_i2b (v := byU v 0) hx hb dX0_feeds_18 (by_eq v 0 (by decide)) ?_
          refine hp_bst (n := 700) (j := aSz S + 3) (x' := byU v 0) (hx' := by_nar v _) hx hb hK hH hS 1 htx rfl (by first | omega | (refine Nat.lt_of_lt_of_le (Nat.mod_lt _ ?_) ?_ <;> omega)) (by first | omega | (refine Nat.lt_of_lt_of_le (Nat.mod_lt _ ?_) ?_ <;> omega)) dX0_feeds_19 (fun H locs _ hH hS => ?_)
          have hH : HP D CL (zA s0) (hset hN3 (w 1) (.inl (K 1, 700, .inl (upd tx (aSz S + 3) (byU v 0)))) 2) H := hH
          have e17 : (hset hN3 (w 1) (.inl (K 1, 700, .inl (upd tx (aSz S + 3) (byU v 0)))) 2) (w 0) = some (.inr (0, [.ref (w 1), .ref (w 2), .ref (w 3), .ref (w 4), .ref (w 5), .ref (w 6), .int (nI (aSz S + 3)), .ref (w 7), .ref (w 8), .ref (w 9), .ref (w 10), .ref (w 11), .ref (w 12), .int (Z 6 0)]), 1) := (hset_ne _ _ _ (ne_oa hW.x htx)).trans hW.x
          have e18 : (hset hN3 (w 1) (.inl (K 1, 700, .inl (upd tx (aSz S + 3) (byU v 0)))) 2) (w 1) = some (.inl (K 1, 700, .inl (upd tx (aSz S + 3) (byU v 0))), 2) := hset_self _ _ _ _
          refine lv_aload_n hx hb dX0_feeds_20 rfl (lv_at hl 1 rfl) ?_
          refine lv_dup hx hb dX0_feeds_21 rfl ?_
          refine hp_get (C := RX0) (T := TX0) (N := 14) (v := .int (nI (aSz S + 3))) hx hb hts in_X0 hown hK hH e17 rfl 6 (by decide) (hts _ q218) (fun _ z => z) rfl dX0_feeds_22 ?_
          refine lv_iconst (v := nI 1) hx hb dX0_feeds_25 (by decide) ?_
          refine lv_iadd hx hb dX0_feeds_26 ?_
          refine lv_top (y := nI (aSz S + 3 + 1)) (nI_add _ _) ?_
          refine hp_put (C := RX0) (T := TX0) (N := 14) (v := .int (nI (aSz S + 3 + 1))) (ty := .int) hx hb hts in_X0 tyX0 tyX0_ok nmX0 hown hK hH hS e17 rfl 6 (by decide) (hts _ q218) (fun _ z => z) rfl (by decide +kernel) rfl rfl (Nat.le_of_ble_eq_true rfl) dX0_feeds_27 (fun H locs _ hH hS => ?_)
          have hH : HP D CL (zA s0) (hset (hset hN3 (w 1) (.inl (K 1, 700, .inl (upd tx (aSz S + 3) (byU v 0)))) 2) (w 0) (.inr (0, [.ref (w 1), .ref (w 2), .ref (w 3), .ref (w 4), .ref (w 5), .ref (w 6), .int (nI (aSz S + 3 + 1)), .ref (w 7), .ref (w 8), .ref (w 9), .ref (w 10), .ref (w 11), .ref (w 12), .int (Z 6 0)])) 1) H := hH
          have e19 : (hset (hset hN3 (w 1) (.inl (K 1, 700, .inl (upd tx (aSz S + 3) (byU v 0)))) 2) (w 0) (.inr (0, [.ref (w 1), .ref (w 2), .ref (w 3), .ref (w 4), .ref (w 5), .ref (w 6), .int (nI (aSz S + 3 + 1)), .ref (w 7), .ref (w 8), .ref (w 9), .ref (w 10), .ref (w 11), .ref (w 12), .int (Z 6 0)])) 1) (w 1) = some (.inl (K 1, 700, .inl (upd tx (aSz S + 3) (byU v 0))), 2) := (hset_ne _ _ _ (ne_ao e18 e17)).trans e18
          have e20 : (hset (hset hN3 (w 1) (.inl (K 1, 700, .inl (upd tx (aSz S + 3) (byU v 0)))) 2) (w 0) (.inr (0, [.ref (w 1), .ref (w 2), .ref (w 3), .ref (w 4), .ref (w 5), .ref (w 6), .int (nI (aSz S + 3 + 1)), .ref (w 7), .ref (w 8), .ref (w 9), .ref (w 10), .ref (w 11), .ref (w 12), .int (Z 6 0)])) 1) (w 0) = some (.inr (0, [.ref (w 1), .ref (w 2), .ref (w 3), .ref (w 4), .ref (w 5), .ref (w 6), .int (nI (aSz S + 3 + 1)), .ref (w 7), .ref (w 8), .ref (w 9), .ref (w 10), .ref (w 11), .ref (w 12), .int (Z 6 0)]), 1) := hset_self _ _ _ _
          obtain ⟨hN4, ehN4, hW, h0N4⟩ := hW.push htx htx2 (byU v 0)
          have hH : HP D CL (zA s0) hN4 H := by rw [ehN4]; exact hH
          obtain ⟨tx, htx, htx2⟩ := hW.tx
          have hsz3 : aSz (pushB (pushB (pushB (pushB S (byU v 3)) (byU v 2)) (byU v 1)) (byU v 0)) = aSz S + 4 := rfl
          refine lv_iinc (v := (-8)) (lv' := [(2, .int (-8)), (0, .ref (w 0)), (1, .int v)]) hx hb dX0_feeds_30 hl (k := 0) rfl (by decide) (by decide) rfl (fun ls hl => ?_)
          refine lv_goto (tgt := 3) hx hb dX0_feeds_33 (by decide) ?_
          refine lv_iload_n hx hb dX0_feeds_3 rfl (lv_at hl 0 rfl) ?_
          refine lv_if_lt (tgt := 36) hx hb dX0_feeds_4 (by decide) (fun c21 => ?_) (fun c21 => ?_)
          · exact hp_vret hx hb hr hlocks hH hS (by decide) (by decide) dX0_feeds_36 (⟨rfl, hW, fun b e q => h0N4 b e (h0N3 b e (h0N2 b e (h0N1 b e q)))⟩)
          · exact absurd c21 (by decide)
set_option maxHeartbeats 4000000 in
theorem mc_feed (hK0 : va_K D CL (TYS K) s0) {av : Nat → Nat} {ed mi : Nat} (hG : GX s0 wd av ed mi) {S : Ab} {w : Nat → Nat} {Ls : Nat → List Nat} {Jn : Nat → Nat} {Z : Nat → Nat → Int32} (hO : SOK S) (hO2 : SO2 S) (hW : CW K ed S h w Ls Jn Z) (a1 a2 a3 a4 a5 : Int32) : Met l yX0_feed (ws_ yX0_feed cX0_feed 6 ((Option.some Jvm.ClassFile.FieldType.int))) (rmk 1 0 0) (va_Pc [.ref (w 0), .int a1, .int a2, .int a3, .int a4, .int a5] (PB s0 D CL (h))) (QR s0 D CL (fun v h1 => v = some (.int (spFeed S)) ∧ PBX K ed (stFeed S a1 a2 a3 a4 a5) (w 0) h h1)) 0 0 (zA s0) := by
  refine hp_met (by decide) (Nat.le_of_ble_eq_true rfl) hK0 ?_
  intro p e s m below meth cd ls hx hb hr hlocks hml hown hnm hts hK hPB hl hS hH hA
  have hl : lv_has ls 6 [(0, .ref (w 0)), (1, .int a1), (2, .int a2), (3, .int a3), (4, .int a4), (5, .int a5)] := hl
  have hown : s.vm.findClass RX0 = some m.cls := hown
  have hn := hO.n
  have hmk := hO.mk
  have hrl := hO.rl
  have hrm := hO.rm
  have hsz := hO.sz
  refine lv_aload_n hx hb dX0_feed_0 rfl (lv_at hl 0 rfl) ?_
  refine hp_get (C := RX0) (T := TX0) (N := 14) (v := .int (nI (aSz S))) hx hb hts in_X0 hown hK hH hW.x rfl 6 (by decide) (hts _ q218) (fun _ z => z) rfl dX0_feed_1 ?_
  refine lv_bipush (v := nI 20) hx hb dX0_feed_4 (by decide) ?_
  refine lv_iadd hx hb dX0_feed_6 ?_
  refine lv_top (y := nI ((aSz S) + 20)) (nI_add _ _) ?_
  refine lv_sipush (v := nI 700) hx hb dX0_feed_7 (by decide) ?_
  refine lvN_le (tgt := 15) hx hb (by first | omega | (refine Nat.lt_of_lt_of_le (Nat.mod_lt _ ?_) ?_ <;> omega)) (by first | omega | (refine Nat.lt_of_lt_of_le (Nat.mod_lt _ ?_) ?_ <;> omega)) dX0_feed_10 (by decide) (fun c0 => ?_) (fun c0 => ?_)
  · refine lv_aload_n hx hb dX0_feed_15 rfl (lv_at hl 0 rfl) ?_
    refine lv_iload_n hx hb dX0_feed_16 rfl (lv_at hl 1 rfl) ?_
    refine hp_callV (As := [.int a1]) (rest := []) hx hb hml hown hts hPB hK hH hS (mc_feeds hK0 hG hW (by show aSz S + 0 + 4 ≤ 700; omega) a1) hW.x rfl rfl 1 (lw_V q260 q262 qs0 q102 q263) (by decide +kernel) ⟨rfl, rfl⟩ (by decide) rfl hl.1 rfl (Nat.le_of_ble_eq_true rfl) (by decide) dX0_feed_17 (fun v1 h3 H locs hp2 _ hH hS => ?_)
    obtain ⟨rfl, hW, hf0⟩ := hp2
    refine lv_aload_n hx hb dX0_feed_20 rfl (lv_at hl 0 rfl) ?_
    refine lv_iload_n hx hb dX0_feed_21 rfl (lv_at hl 2 rfl) ?_
    refine hp_callV (As := [.int a2]) (rest := []) hx hb hml hown hts hPB hK hH hS (mc_feeds hK0 hG hW (by show aSz S + 4 + 4 ≤ 700; omega) a2) hW.x rfl rfl 1 (lw_V q260 q262 qs0 q102 q263) (by decide +kernel) ⟨rfl, rfl⟩ (by decide) rfl hl.1 rfl (Nat.le_of_ble_eq_true rfl) (by decide) dX0_feed_22 (fun v4 h6 H locs hp5 _ hH hS => ?_)
    obtain ⟨rfl, hW, hf1⟩ := hp5
    refine lv_aload_n hx hb dX0_feed_25 rfl (lv_at hl 0 rfl) ?_
    refine lv_iload_n hx hb dX0_feed_26 rfl (lv_at hl 3 rfl) ?_
    refine hp_callV (As := [.int a3]) (rest := []) hx hb hml hown hts hPB hK hH hS (mc_feeds hK0 hG hW (by show aSz S + 8 + 4 ≤ 700; omega) a3) hW.x rfl rfl 1 (lw_V q260 q262 qs0 q102 q263) (by decide +kernel) ⟨rfl, rfl⟩ (by decide) rfl hl.1 rfl (Nat.le_of_ble_eq_true rfl) (by decide) dX0_feed_27 (fun v7 h9 H locs hp8 _ hH hS => ?_)
    obtain ⟨rfl, hW, hf2⟩ := hp8
    refine lv_aload_n hx hb dX0_feed_30 rfl (lv_at hl 0 rfl) ?_
    refine lv_iload hx hb dX0_feed_31 (lv_at hl 4 rfl) ?_
    refine hp_callV (As := [.int a4]) (rest := []) hx hb hml hown hts hPB hK hH hS (mc_feeds hK0 hG hW (by show aSz S + 12 + 4 ≤ 700; omega) a4) hW.x rfl rfl 1 (lw_V q260 q262 qs0 q102 q263) (by decide +kernel) ⟨rfl, rfl⟩ (by decide) rfl hl.1 rfl (Nat.le_of_ble_eq_true rfl) (by decide) dX0_feed_33 (fun v10 h12 H locs hp11 _ hH hS => ?_)
    obtain ⟨rfl, hW, hf3⟩ := hp11
    refine lv_aload_n hx hb dX0_feed_36 rfl (lv_at hl 0 rfl) ?_
    refine lv_iload hx hb dX0_feed_37 (lv_at hl 5 rfl) ?_
    refine hp_callV (As := [.int a5]) (rest := []) hx hb hml hown hts hPB hK hH hS (mc_feeds hK0 hG hW (by show aSz S + 16 + 4 ≤ 700; omega) a5) hW.x rfl rfl 1 (lw_V q260 q262 qs0 q102 q263) (by decide +kernel) ⟨rfl, rfl⟩ (by decide) rfl hl.1 rfl (Nat.le_of_ble_eq_true rfl) (by decide) dX0_feed_39 (fun v13 h15 H locs hp14 _ hH hS => ?_)
    obtain ⟨rfl, hW, hf4⟩ := hp14
    refine lv_aload_n hx hb dX0_feed_42 rfl (lv_at hl 0 rfl) ?_
    refine hp_get (C := RX0) (T := TX0) (N := 14) (v := .int (nI (aSz S + 20))) hx hb hts in_X0 hown hK hH hW.x rfl 6 (by decide) (hts _ q218) (fun _ z => z) rfl dX0_feed_43 ?_
    exact hp_iret hx hb hr hlocks hH hS (by decide) (by decide) dX0_feed_46 (⟨congrArg some (congrArg Value.int (by rw [spFeed, if_pos c0])), by rw [stFeed, if_pos c0]; exact ⟨w, Ls, Jn, Z, rfl, hW, fun b e q => hf4 b e (hf3 b e (hf2 b e (hf1 b e (hf0 b e q))))⟩⟩)
  · refine lv_iconst (v := (-1)) hx hb dX0_feed_13 (by decide) ?_
    exact hp_iret hx hb hr hlocks hH hS (by decide) (by decide) dX0_feed_14 (⟨congrArg some (congrArg Value.int (by rw [spFeed, if_neg (by omega)])), by rw [stFeed, if_neg (by omega)]; exact pbx_h hW⟩)
set_option maxHeartbeats 4000000 in
theorem mc_end (hK0 : va_K D CL (TYS K) s0) {av : Nat → Nat} {ed mi : Nat} (hG : GX s0 wd av ed mi) {S : Ab} {w : Nat → Nat} {Ls : Nat → List Nat} {Jn : Nat → Nat} {Z : Nat → Nat → Int32} (hO : SOK S) (hO2 : SO2 S) (hW : CW K ed S h w Ls Jn Z) (n : Int32) : Met l yX0_end (ws_ yX0_end cX0_end 2 ((Option.some Jvm.ClassFile.FieldType.boolean))) (rmk 1 0 0) (va_Pc [.ref (w 0), .int n] (PB s0 D CL (h))) (QR s0 D CL (fun v h1 => v = some (.int (zI (okEnd S n))) ∧ PBX K ed (stEnd S n) (w 0) h h1)) 0 0 (zA s0) := by
  refine hp_met (by decide) (Nat.le_of_ble_eq_true rfl) hK0 ?_
  intro p e s m below meth cd ls hx hb hr hlocks hml hown hnm hts hK hPB hl hS hH hA
  have hl : lv_has ls 2 [(0, .ref (w 0)), (1, .int n)] := hl
  have hown : s.vm.findClass RX0 = some m.cls := hown
  have hn := hO.n
  have hmk := hO.mk
  have hrl := hO.rl
  have hrm := hO.rm
  have hsz := hO.sz
  refine lv_iload_n hx hb dX0_end_0 rfl (lv_at hl 1 rfl) ?_
  refine lv_iconst (v := nI 0) hx hb dX0_end_1 (by decide) ?_
  refine lv_aload_n hx hb dX0_end_2 rfl (lv_at hl 0 rfl) ?_
  refine hp_get (C := RX0) (T := TX0) (N := 14) (v := .int (nI (aSz S))) hx hb hts in_X0 hown hK hH hW.x rfl 6 (by decide) (hts _ q218) (fun _ z => z) rfl dX0_end_3 ?_
  refine hp_callS (As := [.int n, .int (nI 0), .int (nI (aSz S))]) (rest := []) hx hb hml hown hts hPB hH hS (mc_in hK0 n (nI 0) (nI (aSz S))) 3 (lw_S q268 q269 q102 q270) (by decide +kernel) ⟨rfl, rfl⟩ (by decide) rfl hl.1 rfl (Nat.le_of_ble_eq_true rfl) (by decide) dX0_end_6 (fun v1 h3 H locs hp2 _ hH hS => ?_)
  obtain ⟨rfl, hq⟩ := hp2
  rw [hq] at hH
  refine lv_top (y := zI (inN n (aSz S + 1))) (congrArg zI (in_ik (by omega))) ?_
  refine lvB_ne (tgt := 14) hx hb dX0_end_9 (by decide) (fun c0 => ?_) (fun c0 => ?_)
  · have c02 := c0
    obtain ⟨j, hj, rfl⟩ := inN_t c02
    have ej := nI_clamp (show j < 2 ^ 31 by omega)
    refine lv_aload_n hx hb dX0_end_14 rfl (lv_at hl 0 rfl) ?_
    refine lv_iload_n hx hb dX0_end_15 rfl (lv_at hl 1 rfl) ?_
    refine hp_put (C := RX0) (T := TX0) (N := 14) (v := .int (nI j)) (ty := .int) hx hb hts in_X0 tyX0 tyX0_ok nmX0 hown hK hH hS hW.x rfl 6 (by decide) (hts _ q218) (fun _ z => z) rfl (by decide +kernel) rfl rfl (Nat.le_of_ble_eq_true rfl) dX0_end_16 (fun H locs _ hH hS => ?_)
    have hH : HP D CL (zA s0) (hset h (w 0) (.inr (0, [.ref (w 1), .ref (w 2), .ref (w 3), .ref (w 4), .ref (w 5), .ref (w 6), .int (nI j), .ref (w 7), .ref (w 8), .ref (w 9), .ref (w 10), .ref (w 11), .ref (w 12), .int (Z 6 0)])) 1) H := hH
    have e4 : (hset h (w 0) (.inr (0, [.ref (w 1), .ref (w 2), .ref (w 3), .ref (w 4), .ref (w 5), .ref (w 6), .int (nI j), .ref (w 7), .ref (w 8), .ref (w 9), .ref (w 10), .ref (w 11), .ref (w 12), .int (Z 6 0)])) 1) (w 7) = some (.inl (K 0, 10, .inl (Z 0)), 11) := (hset_ne _ _ _ (ne_ao (hW.ar 0 (by decide)) hW.x)).trans (hW.ar 0 (by decide))
    have e5 : (hset h (w 0) (.inr (0, [.ref (w 1), .ref (w 2), .ref (w 3), .ref (w 4), .ref (w 5), .ref (w 6), .int (nI j), .ref (w 7), .ref (w 8), .ref (w 9), .ref (w 10), .ref (w 11), .ref (w 12), .int (Z 6 0)])) 1) (w 8) = some (.inl (K 0, 10, .inl (Z 1)), 12) := (hset_ne _ _ _ (ne_ao (hW.ar 1 (by decide)) hW.x)).trans (hW.ar 1 (by decide))
    have e6 : (hset h (w 0) (.inr (0, [.ref (w 1), .ref (w 2), .ref (w 3), .ref (w 4), .ref (w 5), .ref (w 6), .int (nI j), .ref (w 7), .ref (w 8), .ref (w 9), .ref (w 10), .ref (w 11), .ref (w 12), .int (Z 6 0)])) 1) (w 9) = some (.inl (K 0, 10, .inl (Z 2)), 13) := (hset_ne _ _ _ (ne_ao (hW.ar 2 (by decide)) hW.x)).trans (hW.ar 2 (by decide))
    have e7 : (hset h (w 0) (.inr (0, [.ref (w 1), .ref (w 2), .ref (w 3), .ref (w 4), .ref (w 5), .ref (w 6), .int (nI j), .ref (w 7), .ref (w 8), .ref (w 9), .ref (w 10), .ref (w 11), .ref (w 12), .int (Z 6 0)])) 1) (w 10) = some (.inl (K 0, 10, .inl (Z 3)), 14) := (hset_ne _ _ _ (ne_ao (hW.ar 3 (by decide)) hW.x)).trans (hW.ar 3 (by decide))
    have e8 : (hset h (w 0) (.inr (0, [.ref (w 1), .ref (w 2), .ref (w 3), .ref (w 4), .ref (w 5), .ref (w 6), .int (nI j), .ref (w 7), .ref (w 8), .ref (w 9), .ref (w 10), .ref (w 11), .ref (w 12), .int (Z 6 0)])) 1) (w 11) = some (.inl (K 0, 10, .inl (Z 4)), 15) := (hset_ne _ _ _ (ne_ao (hW.ar 4 (by decide)) hW.x)).trans (hW.ar 4 (by decide))
    have e9 : (hset h (w 0) (.inr (0, [.ref (w 1), .ref (w 2), .ref (w 3), .ref (w 4), .ref (w 5), .ref (w 6), .int (nI j), .ref (w 7), .ref (w 8), .ref (w 9), .ref (w 10), .ref (w 11), .ref (w 12), .int (Z 6 0)])) 1) (w 12) = some (.inl (K 0, 10, .inl (Z 5)), 16) := (hset_ne _ _ _ (ne_ao (hW.ar 5 (by decide)) hW.x)).trans (hW.ar 5 (by decide))
    have e10 : (hset h (w 0) (.inr (0, [.ref (w 1), .ref (w 2), .ref (w 3), .ref (w 4), .ref (w 5), .ref (w 6), .int (nI j), .ref (w 7), .ref (w 8), .ref (w 9), .ref (w 10), .ref (w 11), .ref (w 12), .int (Z 6 0)])) 1) (w 0) = some (.inr (0, [.ref (w 1), .ref (w 2), .ref (w 3), .ref (w 4), .ref (w 5), .ref (w 6), .int (nI j), .ref (w 7), .ref (w 8), .ref (w 9), .ref (w 10), .ref (w 11), .ref (w 12), .int (Z 6 0)]), 1) := hset_self _ _ _ _
    refine lv_iconst (v := nI 1) hx hb dX0_end_19 (by decide) ?_
    exact hp_zret hx hb hr rfl hlocks hH hS (by decide) (by decide) dX0_end_20 (⟨congrArg some (congrArg Value.int (zI_1 c0)), by rw [stEnd, if_pos (show okEnd S (nI j) = true from c0), ej]; exact pbx_c hW (by omega)⟩)
  · refine lv_iconst (v := nI 0) hx hb dX0_end_12 (by decide) ?_
    exact hp_zret hx hb hr rfl hlocks hH hS (by decide) (by decide) dX0_end_13 (⟨congrArg some (congrArg Value.int (zI_0 c0)), by rw [stEnd, if_neg (by rw [okEnd, c0]; decide)]; exact pbx_h hW⟩)
end MODEL
