/-! by gen/mspec.py -/
set_option maxRecDepth 100000
section MODEL
variable {l : Launch} {s0 : State} {D : va_G} {K : Nat → ClassId} {wd : Nat → Nat} {o : Nat} {h : Hp} {I : Nat → Int32} {V : Nat → Nat → Int32} {J : Nat → Nat → Int64}
set_option maxHeartbeats 4000000 in
theorem mj_clear0 (hK0 : va_K D CL (TYS K) s0) {av : Nat → Nat} {ed mi : Nat} (hG : GX s0 wd av ed mi) {a t j : Nat} {L : List Nat} (hA0 : AL (K 4) ed h a t L 0) : Met l yJ2_clear (ws_ yJ2_clear cJ2_clear 4 ((Option.none : Option Jvm.ClassFile.FieldType))) (rmk 0 0 0) (va_Pc [.ref a] (PB s0 D CL (h))) (QR s0 D CL (fun v h1 => v = none ∧ AL (K 4) ed h1 a t [] 0 ∧ frT t h h1 ∧ obK h h1)) 0 0 (zA s0) := by
  refine hp_met (by decide) (Nat.le_of_ble_eq_true rfl) hK0 ?_
  intro p e s m below meth cd ls hx hb hr hlocks hml hown hnm hts hK hPB hl hS hH hA
  have hl : lv_has ls 4 [(0, .ref a)] := hl
  have hown : s.vm.findClass RJ2 = some m.cls := hown
  obtain ⟨mcn, d, he, hob, hlen, hdd⟩ := hA0
  have hll := hlen.1
  have hL0 : L = [] := List.length_eq_zero_iff.mp (by have : gcap 0 = 0 := rfl; omega)
  subst hL0
  rcases hdd with ⟨-, rfl⟩ | ⟨q1, -⟩
  rotate_left
  · exact absurd q1 (Nat.lt_irrefl _)
  refine lv_aload_n hx hb dJ2_clear_0 rfl (lv_at hl 0 rfl) ?_
  refine lv_dup hx hb dJ2_clear_1 rfl ?_
  refine hp_get (C := RJ2) (T := TJ2) (N := 3) (v := .int mcn) hx hb hts in_J2 hown hK hH he rfl 0 (by decide) (hts _ q175) (u_same (hts _ q176)) rfl dJ2_clear_2 ?_
  refine lv_iconst (v := nI 1) hx hb dJ2_clear_5 (by decide) ?_
  refine lv_iadd hx hb dJ2_clear_6 ?_
  refine hp_put (C := RJ2) (T := TJ2) (N := 3) (v := .int (mcn + (nI 1))) (ty := .int) hx hb hts in_J2 tyJ2 tyJ2_ok nmJ2 hown hK hH hS he rfl 0 (by decide) (hts _ q175) (u_same (hts _ q176)) rfl (by decide +kernel) rfl rfl (Nat.le_of_ble_eq_true rfl) dJ2_clear_7 (fun H locs _ hH hS => ?_)
  have hH : HP D CL (zA s0) (hset h a (.inr (20, [.int (mcn + (nI 1)), .ref d, .int (nI 0)])) t) H := hH
  have e1 : (hset h a (.inr (20, [.int (mcn + (nI 1)), .ref d, .int (nI 0)])) t) a = some (.inr (20, [.int (mcn + (nI 1)), .ref d, .int (nI 0)]), t) := hset_self _ _ _ _
  refine lv_aload_n hx hb dJ2_clear_10 rfl (lv_at hl 0 rfl) ?_
  refine hp_get (C := RJ2) (T := TJ2) (N := 3) (v := .ref d) hx hb hts in_J2 hown hK hH e1 rfl 1 (by decide) (hts _ q172) (fun _ z => z) rfl dJ2_clear_11 ?_
  refine lv_astore_n (lv' := [(1, .ref d), (0, .ref a)]) hx hb dJ2_clear_14 rfl hl (by decide) rfl (fun ls hl => ?_)
  refine lv_aload_n hx hb dJ2_clear_15 rfl (lv_at hl 1 rfl) ?_
  refine hp_get (C := RJ2) (T := TJ2) (N := 3) (v := .int (nI 0)) hx hb hts in_J2 hown hK hH e1 rfl 2 (by decide) (hts _ q173) (fun _ z => z) rfl dJ2_clear_16 ?_
  refine lv_istore_n (lv' := [(2, .int (nI 0)), (1, .ref d), (0, .ref a)]) hx hb dJ2_clear_19 rfl hl (by decide) rfl (fun ls hl => ?_)
  refine lv_aload_n hx hb dJ2_clear_20 rfl (lv_at hl 2 rfl) ?_
  refine lv_iconst (v := nI 0) hx hb dJ2_clear_21 (by decide) ?_
  refine lv_dup_x1 hx hb dJ2_clear_22 rfl rfl ?_
  refine hp_put (C := RJ2) (T := TJ2) (N := 3) (v := .int (nI 0)) (ty := .int) hx hb hts in_J2 tyJ2 tyJ2_ok nmJ2 hown hK hH hS e1 rfl 2 (by decide) (hts _ q173) (fun _ z => z) rfl (by decide +kernel) rfl rfl (Nat.le_of_ble_eq_true rfl) dJ2_clear_23 (fun H locs _ hH hS => ?_)
  have hH : HP D CL (zA s0) (hset (hset h a (.inr (20, [.int (mcn + (nI 1)), .ref d, .int (nI 0)])) t) a (.inr (20, [.int (mcn + (nI 1)), .ref d, .int (nI 0)])) t) H := hH
  have e2 : (hset (hset h a (.inr (20, [.int (mcn + (nI 1)), .ref d, .int (nI 0)])) t) a (.inr (20, [.int (mcn + (nI 1)), .ref d, .int (nI 0)])) t) a = some (.inr (20, [.int (mcn + (nI 1)), .ref d, .int (nI 0)]), t) := hset_self _ _ _ _
  refine lv_istore_n (lv' := [(3, .int (nI 0)), (2, .int (nI 0)), (1, .ref d), (0, .ref a)]) hx hb dJ2_clear_26 rfl hl (by decide) rfl (fun ls hl => ?_)
  refine lv_iload_n hx hb dJ2_clear_27 rfl (lv_at hl 0 rfl) ?_
  refine lv_iload_n hx hb dJ2_clear_28 rfl (lv_at hl 1 rfl) ?_
  refine lvN_ge (tgt := 42) hx hb (by first | omega | (refine Nat.lt_of_lt_of_le (Nat.mod_lt _ ?_) ?_ <;> omega)) (by first | omega | (refine Nat.lt_of_lt_of_le (Nat.mod_lt _ ?_) ?_ <;> omega)) dJ2_clear_29 (by decide) (fun c3 => ?_) (fun c3 => ?_)
  · exact hp_vret hx hb hr hlocks hH hS (by decide) (by decide) dJ2_clear_42 (⟨rfl, al_nil (hset_self _ _ _ _) (by decide) (Or.inl ⟨rfl, rfl⟩), fr_1 he (fun b q => (hset_ne _ _ _ q).trans (hset_ne _ _ _ q)), ob_1 (hset_self _ _ _ _) (fun b q => (hset_ne _ _ _ q).trans (hset_ne _ _ _ q))⟩)
  · exact absurd c3 (by omega)
set_option maxHeartbeats 4000000 in
theorem mj_clearN (hK0 : va_K D CL (TYS K) s0) {av : Nat → Nat} {ed mi : Nat} (hG : GX s0 wd av ed mi) {a t j : Nat} {L : List Nat} (hA0 : AL (K 4) ed h a t L j) (hj : 0 < j) : Met l yJ2_clear (ws_ yJ2_clear cJ2_clear 4 ((Option.none : Option Jvm.ClassFile.FieldType))) (rmk 0 0 0) (va_Pc [.ref a] (PB s0 D CL (h))) (QR s0 D CL (fun v h1 => v = none ∧ AL (K 4) ed h1 a t [] j ∧ frT t h h1 ∧ obK h h1)) 0 0 (zA s0) := by
  refine hp_met (by decide) (Nat.le_of_ble_eq_true rfl) hK0 ?_
  intro p e s m below meth cd ls hx hb hr hlocks hml hown hnm hts hK hPB hl hS hH hA
  have hl : lv_has ls 4 [(0, .ref a)] := hl
  have hown : s.vm.findClass RJ2 = some m.cls := hown
  obtain ⟨mcn, d, he, hob, hlen, hdd⟩ := hA0
  have hl13 := gcap_lt j hlen.2
  have hll := hlen.1
  rcases hdd with ⟨q1, -⟩ | ⟨q1, f, hf, hfi⟩
  · exact absurd hj (by omega)
  have hda := ne_ao hf he
  refine lv_aload_n hx hb dJ2_clear_0 rfl (lv_at hl 0 rfl) ?_
  refine lv_dup hx hb dJ2_clear_1 rfl ?_
  refine hp_get (C := RJ2) (T := TJ2) (N := 3) (v := .int mcn) hx hb hts in_J2 hown hK hH he rfl 0 (by decide) (hts _ q175) (u_same (hts _ q176)) rfl dJ2_clear_2 ?_
  refine lv_iconst (v := nI 1) hx hb dJ2_clear_5 (by decide) ?_
  refine lv_iadd hx hb dJ2_clear_6 ?_
  refine hp_put (C := RJ2) (T := TJ2) (N := 3) (v := .int (mcn + (nI 1))) (ty := .int) hx hb hts in_J2 tyJ2 tyJ2_ok nmJ2 hown hK hH hS he rfl 0 (by decide) (hts _ q175) (u_same (hts _ q176)) rfl (by decide +kernel) rfl rfl (Nat.le_of_ble_eq_true rfl) dJ2_clear_7 (fun H locs _ hH hS => ?_)
  have hH : HP D CL (zA s0) (hset h a (.inr (20, [.int (mcn + (nI 1)), .ref d, .int (nI L.length)])) t) H := hH
  have e1 : (hset h a (.inr (20, [.int (mcn + (nI 1)), .ref d, .int (nI L.length)])) t) d = some (.inl (K 4, gcap j, .inr (.inr (.inr (.inr f)))), t) := (hset_ne _ _ _ (ne_ao hf he)).trans hf
  have e2 : (hset h a (.inr (20, [.int (mcn + (nI 1)), .ref d, .int (nI L.length)])) t) a = some (.inr (20, [.int (mcn + (nI 1)), .ref d, .int (nI L.length)]), t) := hset_self _ _ _ _
  refine lv_aload_n hx hb dJ2_clear_10 rfl (lv_at hl 0 rfl) ?_
  refine hp_get (C := RJ2) (T := TJ2) (N := 3) (v := .ref d) hx hb hts in_J2 hown hK hH e2 rfl 1 (by decide) (hts _ q172) (fun _ z => z) rfl dJ2_clear_11 ?_
  refine lv_astore_n (lv' := [(1, .ref d), (0, .ref a)]) hx hb dJ2_clear_14 rfl hl (by decide) rfl (fun ls hl => ?_)
  refine lv_aload_n hx hb dJ2_clear_15 rfl (lv_at hl 1 rfl) ?_
  refine hp_get (C := RJ2) (T := TJ2) (N := 3) (v := .int (nI L.length)) hx hb hts in_J2 hown hK hH e2 rfl 2 (by decide) (hts _ q173) (fun _ z => z) rfl dJ2_clear_16 ?_
  refine lv_istore_n (lv' := [(2, .int (nI L.length)), (1, .ref d), (0, .ref a)]) hx hb dJ2_clear_19 rfl hl (by decide) rfl (fun ls hl => ?_)
  refine lv_aload_n hx hb dJ2_clear_20 rfl (lv_at hl 2 rfl) ?_
  refine lv_iconst (v := nI 0) hx hb dJ2_clear_21 (by decide) ?_
  refine lv_dup_x1 hx hb dJ2_clear_22 rfl rfl ?_
  refine hp_put (C := RJ2) (T := TJ2) (N := 3) (v := .int (nI 0)) (ty := .int) hx hb hts in_J2 tyJ2 tyJ2_ok nmJ2 hown hK hH hS e2 rfl 2 (by decide) (hts _ q173) (fun _ z => z) rfl (by decide +kernel) rfl rfl (Nat.le_of_ble_eq_true rfl) dJ2_clear_23 (fun H locs _ hH hS => ?_)
  have hH : HP D CL (zA s0) (hset (hset h a (.inr (20, [.int (mcn + (nI 1)), .ref d, .int (nI L.length)])) t) a (.inr (20, [.int (mcn + (nI 1)), .ref d, .int (nI 0)])) t) H := hH
  have e3 : (hset (hset h a (.inr (20, [.int (mcn + (nI 1)), .ref d, .int (nI L.length)])) t) a (.inr (20, [.int (mcn + (nI 1)), .ref d, .int (nI 0)])) t) d = some (.inl (K 4, gcap j, .inr (.inr (.inr (.inr f)))), t) := (hset_ne _ _ _ (ne_ao e1 e2)).trans e1
  have e4 : (hset (hset h a (.inr (20, [.int (mcn + (nI 1)), .ref d, .int (nI L.length)])) t) a (.inr (20, [.int (mcn + (nI 1)), .ref d, .int (nI 0)])) t) a = some (.inr (20, [.int (mcn + (nI 1)), .ref d, .int (nI 0)]), t) := hset_self _ _ _ _
  refine lv_istore_n (lv' := [(3, .int (nI 0)), (2, .int (nI L.length)), (1, .ref d), (0, .ref a)]) hx hb dJ2_clear_26 rfl hl (by decide) rfl (fun ls hl => ?_)
  refine w_loop2 (fun (i : Nat) (hh : Hp) => L.length - i) (fun (i : Nat) (hh : Hp) H locs ls => (i ≤ L.length) ∧ (∃ g : Nat → Option Nat, hh d = some (.inl (K 4, gcap j, .inr (.inr (.inr (.inr g)))), t)) ∧ (∀ b, b ≠ d → hh b = (hset (hset h a (.inr (20, [.int (mcn + nI 1), .ref d, .int (nI L.length)])) t) a (.inr (20, [.int (mcn + nI 1), .ref d, .int (nI 0)])) t) b) ∧ HP D CL (zA s0) hh H ∧ va_S (zA s0) s.heap H locs ∧ lv_has ls 4 [(0, .ref a), (1, .ref d), (2, .int (nI L.length)), (3, .int (nI i))]) ?_ 0 (hset (hset h a (.inr (20, [.int (mcn + nI 1), .ref d, .int (nI L.length)])) t) a (.inr (20, [.int (mcn + nI 1), .ref d, .int (nI 0)])) t) ⟨Nat.zero_le _, ⟨f, (hset_ne _ _ _ hda).trans ((hset_ne _ _ _ hda).trans hf)⟩, fun _ _ => rfl, hH, hS, lv_sub hl [3, 2, 1, 0] rfl⟩
  intro i hh ih27 H locs ls hP
  obtain ⟨hii, hd9, ho9, hH, hS, hl⟩ := hP
  obtain ⟨g, hg⟩ := hd9
  refine lv_iload_n hx hb dJ2_clear_27 rfl (lv_at hl 3 rfl) ?_
  refine lv_iload_n hx hb dJ2_clear_28 rfl (lv_at hl 2 rfl) ?_
  refine lvN_ge (tgt := 42) hx hb (by first | omega | (refine Nat.lt_of_lt_of_le (Nat.mod_lt _ ?_) ?_ <;> omega)) (by first | omega | (refine Nat.lt_of_lt_of_le (Nat.mod_lt _ ?_) ?_ <;> omega)) dJ2_clear_29 (by decide) (fun c5 => ?_) (fun c5 => ?_)
  · exact hp_vret hx hb hr hlocks hH hS (by decide) (by decide) dJ2_clear_42 (clear_fin he hf hda ho9 hg hj hlen.2)
  · refine lv_aload_n hx hb dJ2_clear_32 rfl (lv_at hl 1 rfl) ?_
    refine lv_iload_n hx hb dJ2_clear_33 rfl (lv_at hl 3 rfl) ?_
    refine lv_null hx hb dJ2_clear_34 ?_
    refine hp_astN (n := gcap j) (j := i) hx hb hK hH hS 4 hg rfl (by first | omega | (refine Nat.lt_of_lt_of_le (Nat.mod_lt _ ?_) ?_ <;> omega)) (by first | omega | (refine Nat.lt_of_lt_of_le (Nat.mod_lt _ ?_) ?_ <;> omega)) dJ2_clear_35 (fun H locs _ hH hS => ?_)
    have hH : HP D CL (zA s0) (hset hh d (.inl (K 4, gcap j, .inr (.inr (.inr (.inr (va_up g i none)))))) t) H := hH
    have e6 : (hset hh d (.inl (K 4, gcap j, .inr (.inr (.inr (.inr (va_up g i none)))))) t) d = some (.inl (K 4, gcap j, .inr (.inr (.inr (.inr (va_up g i none))))), t) := hset_self _ _ _ _
    refine lv_iinc (v := nI (i + 1)) (lv' := [(3, .int (nI (i + 1))), (0, .ref a), (1, .ref d), (2, .int (nI L.length))]) hx hb dJ2_clear_36 hl (k := 3) rfl (nI_add i 1) (by decide) rfl (fun ls hl => ?_)
    refine lv_goto (tgt := 27) hx hb dJ2_clear_39 (by decide) ?_
    exact ih27 (i + 1) _ (by omega) H locs ls ⟨by omega, ⟨_, hset_self _ _ _ _⟩, fun b q => (hset_ne _ _ _ q).trans (ho9 b q), hH, hS, lv_sub hl [1, 2, 3, 0] rfl⟩
set_option maxHeartbeats 4000000 in
theorem mj_frem (hK0 : va_K D CL (TYS K) s0) {av : Nat → Nat} {ed mi : Nat} (hG : GX s0 wd av ed mi) {a t j d n k : Nat} {mcn : Int32} {f : Nat → Option Nat} (he : h a = some (.inr (20, [.int mcn, .ref d, .int (nI n)]), t)) (hf : h d = some (.inl (K 4, gcap j, .inr (.inr (.inr (.inr f)))), t)) (hob : ∀ i, i < n → ∀ y, f i = some y → OBJ h y) (hj : j ≤ 13) (hn : n ≤ gcap j) (hk : k < n) : Met l yJ2_fastRemove (ws_ yJ2_fastRemove cJ2_fastRemove 4 ((Option.none : Option Jvm.ClassFile.FieldType))) (rmk 2 0 0) (va_Pc [.ref a, .ref d, .int (nI k)] (PB s0 D CL (h))) (QR s0 D CL (fun v h1 => v = none ∧ PW h h1 a d (.inr (20, [.int (mcn + nI 1), .ref d, .int (nI (n - 1))])) (.inl (K 4, gcap j, .inr (.inr (.inr (.inr (va_up (if n - 1 > k then va_cpy f f (k + 1) k (n - 1 - k) else f) (n - 1) none)))))) t)) 0 0 (zA s0) := by
  refine hp_met (by decide) (Nat.le_of_ble_eq_true rfl) hK0 ?_
  intro p e s m below meth cd ls hx hb hr hlocks hml hown hnm hts hK hPB hl hS hH hA
  have hl : lv_has ls 4 [(0, .ref a), (1, .ref d), (2, .int (nI k))] := hl
  have hown : s.vm.findClass RJ2 = some m.cls := hown
  have hg1 := gcap_lt j hj
  refine lv_aload_n hx hb dJ2_fastRemove_0 rfl (lv_at hl 0 rfl) ?_
  refine lv_dup hx hb dJ2_fastRemove_1 rfl ?_
  refine hp_get (C := RJ2) (T := TJ2) (N := 3) (v := .int mcn) hx hb hts in_J2 hown hK hH he rfl 0 (by decide) (hts _ q175) (u_same (hts _ q176)) rfl dJ2_fastRemove_2 ?_
  refine lv_iconst (v := nI 1) hx hb dJ2_fastRemove_5 (by decide) ?_
  refine lv_iadd hx hb dJ2_fastRemove_6 ?_
  refine hp_put (C := RJ2) (T := TJ2) (N := 3) (v := .int (mcn + (nI 1))) (ty := .int) hx hb hts in_J2 tyJ2 tyJ2_ok nmJ2 hown hK hH hS he rfl 0 (by decide) (hts _ q175) (u_same (hts _ q176)) rfl (by decide +kernel) rfl rfl (Nat.le_of_ble_eq_true rfl) dJ2_fastRemove_7 (fun H locs _ hH hS => ?_)
  have hH : HP D CL (zA s0) (hset h a (.inr (20, [.int (mcn + (nI 1)), .ref d, .int (nI n)])) t) H := hH
  have e1 : (hset h a (.inr (20, [.int (mcn + (nI 1)), .ref d, .int (nI n)])) t) d = some (.inl (K 4, gcap j, .inr (.inr (.inr (.inr f)))), t) := (hset_ne _ _ _ (ne_ao hf he)).trans hf
  have e2 : (hset h a (.inr (20, [.int (mcn + (nI 1)), .ref d, .int (nI n)])) t) a = some (.inr (20, [.int (mcn + (nI 1)), .ref d, .int (nI n)]), t) := hset_self _ _ _ _
  refine lv_aload_n hx hb dJ2_fastRemove_10 rfl (lv_at hl 0 rfl) ?_
  refine hp_get (C := RJ2) (T := TJ2) (N := 3) (v := .int (nI n)) hx hb hts in_J2 hown hK hH e2 rfl 2 (by decide) (hts _ q173) (fun _ z => z) rfl dJ2_fastRemove_11 ?_
  refine lv_iconst (v := nI 1) hx hb dJ2_fastRemove_14 (by decide) ?_
  refine lv_isub hx hb dJ2_fastRemove_15 ?_
  refine lv_top (y := nI (n - 1)) (pk_sub (by first | omega | (refine Nat.lt_of_lt_of_le (Nat.mod_lt _ ?_) ?_ <;> omega))) ?_
  refine lv_dup hx hb dJ2_fastRemove_16 rfl ?_
  refine lv_istore_n (lv' := [(3, .int (nI (n - 1))), (0, .ref a), (1, .ref d), (2, .int (nI k))]) hx hb dJ2_fastRemove_17 rfl hl (by decide) rfl (fun ls hl => ?_)
  refine lv_iload_n hx hb dJ2_fastRemove_18 rfl (lv_at hl 3 rfl) ?_
  refine lvN_le (tgt := 34) hx hb (by first | omega | (refine Nat.lt_of_lt_of_le (Nat.mod_lt _ ?_) ?_ <;> omega)) (by first | omega | (refine Nat.lt_of_lt_of_le (Nat.mod_lt _ ?_) ?_ <;> omega)) dJ2_fastRemove_19 (by decide) (fun cg => ?_) (fun cg => ?_)
  · refine lv_aload_n hx hb dJ2_fastRemove_34 rfl (lv_at hl 2 rfl) ?_
    refine lv_aload_n hx hb dJ2_fastRemove_35 rfl (lv_at hl 1 rfl) ?_
    refine lv_iload_n hx hb dJ2_fastRemove_36 rfl (lv_at hl 0 rfl) ?_
    refine lv_dup_x1 hx hb dJ2_fastRemove_37 rfl rfl ?_
    refine hp_put (C := RJ2) (T := TJ2) (N := 3) (v := .int (nI (n - 1))) (ty := .int) hx hb hts in_J2 tyJ2 tyJ2_ok nmJ2 hown hK hH hS e2 rfl 2 (by decide) (hts _ q173) (fun _ z => z) rfl (by decide +kernel) rfl rfl (Nat.le_of_ble_eq_true rfl) dJ2_fastRemove_38 (fun H locs _ hH hS => ?_)
    have hH : HP D CL (zA s0) (hset (hset h a (.inr (20, [.int (mcn + (nI 1)), .ref d, .int (nI n)])) t) a (.inr (20, [.int (mcn + (nI 1)), .ref d, .int (nI (n - 1))])) t) H := hH
    have e3 : (hset (hset h a (.inr (20, [.int (mcn + (nI 1)), .ref d, .int (nI n)])) t) a (.inr (20, [.int (mcn + (nI 1)), .ref d, .int (nI (n - 1))])) t) d = some (.inl (K 4, gcap j, .inr (.inr (.inr (.inr f)))), t) := (hset_ne _ _ _ (ne_ao e1 e2)).trans e1
    have e4 : (hset (hset h a (.inr (20, [.int (mcn + (nI 1)), .ref d, .int (nI n)])) t) a (.inr (20, [.int (mcn + (nI 1)), .ref d, .int (nI (n - 1))])) t) a = some (.inr (20, [.int (mcn + (nI 1)), .ref d, .int (nI (n - 1))]), t) := hset_self _ _ _ _
    refine lv_null hx hb dJ2_fastRemove_41 ?_
    refine hp_astN (n := gcap j) (j := n - 1) hx hb hK hH hS 4 e3 rfl (by first | omega | (refine Nat.lt_of_lt_of_le (Nat.mod_lt _ ?_) ?_ <;> omega)) (by first | omega | (refine Nat.lt_of_lt_of_le (Nat.mod_lt _ ?_) ?_ <;> omega)) dJ2_fastRemove_42 (fun H locs _ hH hS => ?_)
    have hH : HP D CL (zA s0) (hset (hset (hset h a (.inr (20, [.int (mcn + (nI 1)), .ref d, .int (nI n)])) t) a (.inr (20, [.int (mcn + (nI 1)), .ref d, .int (nI (n - 1))])) t) d (.inl (K 4, gcap j, .inr (.inr (.inr (.inr (va_up f (n - 1) none)))))) t) H := hH
    have e5 : (hset (hset (hset h a (.inr (20, [.int (mcn + (nI 1)), .ref d, .int (nI n)])) t) a (.inr (20, [.int (mcn + (nI 1)), .ref d, .int (nI (n - 1))])) t) d (.inl (K 4, gcap j, .inr (.inr (.inr (.inr (va_up f (n - 1) none)))))) t) a = some (.inr (20, [.int (mcn + (nI 1)), .ref d, .int (nI (n - 1))]), t) := (hset_ne _ _ _ (ne_oa e4 e3)).trans e4
    have e6 : (hset (hset (hset h a (.inr (20, [.int (mcn + (nI 1)), .ref d, .int (nI n)])) t) a (.inr (20, [.int (mcn + (nI 1)), .ref d, .int (nI (n - 1))])) t) d (.inl (K 4, gcap j, .inr (.inr (.inr (.inr (va_up f (n - 1) none)))))) t) d = some (.inl (K 4, gcap j, .inr (.inr (.inr (.inr (va_up f (n - 1) none))))), t) := hset_self _ _ _ _
    exact hp_vret hx hb hr hlocks hH hS (by decide) (by decide) dJ2_fastRemove_43 (⟨rfl, by rw [if_neg (by omega)]; exact pw_r1 (ne_ao hf he)⟩)
  · refine lv_aload_n hx hb dJ2_fastRemove_22 rfl (lv_at hl 2 rfl) ?_
    refine lv_iload_n hx hb dJ2_fastRemove_23 rfl (lv_at hl 3 rfl) ?_
    refine lv_iconst (v := nI 1) hx hb dJ2_fastRemove_24 (by decide) ?_
    refine lv_iadd hx hb dJ2_fastRemove_25 ?_
    refine lv_top (y := nI (k + 1)) (nI_add _ _) ?_
    refine lv_aload_n hx hb dJ2_fastRemove_26 rfl (lv_at hl 2 rfl) ?_
    refine lv_iload_n hx hb dJ2_fastRemove_27 rfl (lv_at hl 3 rfl) ?_
    refine lv_iload_n hx hb dJ2_fastRemove_28 rfl (lv_at hl 0 rfl) ?_
    refine lv_iload_n hx hb dJ2_fastRemove_29 rfl (lv_at hl 3 rfl) ?_
    refine lv_isub hx hb dJ2_fastRemove_30 ?_
    refine lv_top (y := nI ((n - 1) - k)) (pk_sub (by first | omega | (refine Nat.lt_of_lt_of_le (Nat.mod_lt _ ?_) ?_ <;> omega))) ?_
    refine hp_copyq (n0 := gcap j) (n1 := gcap j) (n := nI ((n - 1) - k)) (dp := nI k) (sp := nI (k + 1)) hx hb (hml.trans hl.1.symm) hown (hts _ q1157) (hts _ q533) (hts _ q532) (hts _ q121) hK hH hS 4 4 e1 e1 rfl rfl (nI_pos (by first | omega | (refine Nat.lt_of_lt_of_le (Nat.mod_lt _ ?_) ?_ <;> omega))) (nI_pos (by first | omega | (refine Nat.lt_of_lt_of_le (Nat.mod_lt _ ?_) ?_ <;> omega))) (nI_pos (by first | omega | (refine Nat.lt_of_lt_of_le (Nat.mod_lt _ ?_) ?_ <;> omega))) (by rw [nI_clamp (by first | omega | (refine Nat.lt_of_lt_of_le (Nat.mod_lt _ ?_) ?_ <;> omega)), nI_clamp (by first | omega | (refine Nat.lt_of_lt_of_le (Nat.mod_lt _ ?_) ?_ <;> omega))]; omega) (by rw [nI_clamp (by first | omega | (refine Nat.lt_of_lt_of_le (Nat.mod_lt _ ?_) ?_ <;> omega)), nI_clamp (by first | omega | (refine Nat.lt_of_lt_of_le (Nat.mod_lt _ ?_) ?_ <;> omega))]; omega) (fun i hi y hy => any_obj hG hPB hK hH (OBJ.set (hob (k + 1 + i) (by rw [nI_clamp (by omega)] at hi; omega) y (by rw [nI_clamp (by omega)] at hy; exact hy)) (fun _ => ⟨_, _, rfl⟩))) (by decide) (Nat.le_of_ble_eq_true rfl) dJ2_fastRemove_31 (fun H locs _ hH hS => ?_)
    rw [nI_clamp (show k + 1 < 2 ^ 31 by omega), nI_clamp (show k < 2 ^ 31 by omega), nI_clamp (show (n - 1) - k < 2 ^ 31 by omega)] at hH
    have hH : HP D CL (zA s0) (hset (hset h a (.inr (20, [.int (mcn + (nI 1)), .ref d, .int (nI n)])) t) d (.inl (K 4, gcap j, .inr (.inr (.inr (.inr (va_cpy f f (k + 1) k ((n - 1) - k))))))) t) H := hH
    have e7 : (hset (hset h a (.inr (20, [.int (mcn + (nI 1)), .ref d, .int (nI n)])) t) d (.inl (K 4, gcap j, .inr (.inr (.inr (.inr (va_cpy f f (k + 1) k ((n - 1) - k))))))) t) a = some (.inr (20, [.int (mcn + (nI 1)), .ref d, .int (nI n)]), t) := (hset_ne _ _ _ (ne_oa e2 e1)).trans e2
    have e8 : (hset (hset h a (.inr (20, [.int (mcn + (nI 1)), .ref d, .int (nI n)])) t) d (.inl (K 4, gcap j, .inr (.inr (.inr (.inr (va_cpy f f (k + 1) k ((n - 1) - k))))))) t) d = some (.inl (K 4, gcap j, .inr (.inr (.inr (.inr (va_cpy f f (k + 1) k ((n - 1) - k)))))), t) := hset_self _ _ _ _
    refine lv_aload_n hx hb dJ2_fastRemove_34 rfl (lv_at hl 2 rfl) ?_
    refine lv_aload_n hx hb dJ2_fastRemove_35 rfl (lv_at hl 1 rfl) ?_
    refine lv_iload_n hx hb dJ2_fastRemove_36 rfl (lv_at hl 0 rfl) ?_
    refine lv_dup_x1 hx hb dJ2_fastRemove_37 rfl rfl ?_
    refine hp_put (C := RJ2) (T := TJ2) (N := 3) (v := .int (nI (n - 1))) (ty := .int) hx hb hts in_J2 tyJ2 tyJ2_ok nmJ2 hown hK hH hS e7 rfl 2 (by decide) (hts _ q173) (fun _ z => z) rfl (by decide +kernel) rfl rfl (Nat.le_of_ble_eq_true rfl) dJ2_fastRemove_38 (fun H locs _ hH hS => ?_)
    have hH : HP D CL (zA s0) (hset (hset (hset h a (.inr (20, [.int (mcn + (nI 1)), .ref d, .int (nI n)])) t) d (.inl (K 4, gcap j, .inr (.inr (.inr (.inr (va_cpy f f (k + 1) k ((n - 1) - k))))))) t) a (.inr (20, [.int (mcn + (nI 1)), .ref d, .int (nI (n - 1))])) t) H := hH
    have e9 : (hset (hset (hset h a (.inr (20, [.int (mcn + (nI 1)), .ref d, .int (nI n)])) t) d (.inl (K 4, gcap j, .inr (.inr (.inr (.inr (va_cpy f f (k + 1) k ((n - 1) - k))))))) t) a (.inr (20, [.int (mcn + (nI 1)), .ref d, .int (nI (n - 1))])) t) d = some (.inl (K 4, gcap j, .inr (.inr (.inr (.inr (va_cpy f f (k + 1) k ((n - 1) - k)))))), t) := (hset_ne _ _ _ (ne_ao e8 e7)).trans e8
    have e10 : (hset (hset (hset h a (.inr (20, [.int (mcn + (nI 1)), .ref d, .int (nI n)])) t) d (.inl (K 4, gcap j, .inr (.inr (.inr (.inr (va_cpy f f (k + 1) k ((n - 1) - k))))))) t) a (.inr (20, [.int (mcn + (nI 1)), .ref d, .int (nI (n - 1))])) t) a = some (.inr (20, [.int (mcn + (nI 1)), .ref d, .int (nI (n - 1))]), t) := hset_self _ _ _ _
    refine lv_null hx hb dJ2_fastRemove_41 ?_
    refine hp_astN (n := gcap j) (j := n - 1) hx hb hK hH hS 4 e9 rfl (by first | omega | (refine Nat.lt_of_lt_of_le (Nat.mod_lt _ ?_) ?_ <;> omega)) (by first | omega | (refine Nat.lt_of_lt_of_le (Nat.mod_lt _ ?_) ?_ <;> omega)) dJ2_fastRemove_42 (fun H locs _ hH hS => ?_)
    have hH : HP D CL (zA s0) (hset (hset (hset (hset h a (.inr (20, [.int (mcn + (nI 1)), .ref d, .int (nI n)])) t) d (.inl (K 4, gcap j, .inr (.inr (.inr (.inr (va_cpy f f (k + 1) k ((n - 1) - k))))))) t) a (.inr (20, [.int (mcn + (nI 1)), .ref d, .int (nI (n - 1))])) t) d (.inl (K 4, gcap j, .inr (.inr (.inr (.inr (va_up (va_cpy f f (k + 1) k ((n - 1) - k)) (n - 1) none)))))) t) H := hH
    have e11 : (hset (hset (hset (hset h a (.inr (20, [.int (mcn + (nI 1)), .ref d, .int (nI n)])) t) d (.inl (K 4, gcap j, .inr (.inr (.inr (.inr (va_cpy f f (k + 1) k ((n - 1) - k))))))) t) a (.inr (20, [.int (mcn + (nI 1)), .ref d, .int (nI (n - 1))])) t) d (.inl (K 4, gcap j, .inr (.inr (.inr (.inr (va_up (va_cpy f f (k + 1) k ((n - 1) - k)) (n - 1) none)))))) t) a = some (.inr (20, [.int (mcn + (nI 1)), .ref d, .int (nI (n - 1))]), t) := (hset_ne _ _ _ (ne_oa e10 e9)).trans e10
    have e12 : (hset (hset (hset (hset h a (.inr (20, [.int (mcn + (nI 1)), .ref d, .int (nI n)])) t) d (.inl (K 4, gcap j, .inr (.inr (.inr (.inr (va_cpy f f (k + 1) k ((n - 1) - k))))))) t) a (.inr (20, [.int (mcn + (nI 1)), .ref d, .int (nI (n - 1))])) t) d (.inl (K 4, gcap j, .inr (.inr (.inr (.inr (va_up (va_cpy f f (k + 1) k ((n - 1) - k)) (n - 1) none)))))) t) d = some (.inl (K 4, gcap j, .inr (.inr (.inr (.inr (va_up (va_cpy f f (k + 1) k ((n - 1) - k)) (n - 1) none))))), t) := hset_self _ _ _ _
    exact hp_vret hx hb hr hlocks hH hS (by decide) (by decide) dJ2_fastRemove_43 (⟨rfl, by rw [if_pos (by omega)]; exact pw_r2 (ne_ao hf he)⟩)
set_option maxHeartbeats 4000000 in
theorem mj_rem (hK0 : va_K D CL (TYS K) s0) {av : Nat → Nat} {ed mi : Nat} (hG : GX s0 wd av ed mi) {a t j : Nat} {L : List Nat} (hA0 : AL (K 4) ed h a t L j) {k : Nat} (hk : k < L.length) : Met l yJ2_remove (ws_ yJ2_remove cJ2_remove 4 ((Option.some (Jvm.ClassFile.FieldType.object "java/lang/Object")))) (rmk 3 0 0) (va_Pc [.ref a, .int (nI k)] (PB s0 D CL (h))) (QR s0 D CL (fun v h1 => v = some (.ref (L.getD k 0)) ∧ AL (K 4) ed h1 a t (L.eraseIdx k) j ∧ frT t h h1 ∧ obK h h1)) 0 0 (zA s0) := by
  refine hp_met (by decide) (Nat.le_of_ble_eq_true rfl) hK0 ?_
  intro p e s m below meth cd ls hx hb hr hlocks hml hown hnm hts hK hPB hl hS hH hA
  have hl : lv_has ls 4 [(0, .ref a), (1, .int (nI k))] := hl
  have hown : s.vm.findClass RJ2 = some m.cls := hown
  obtain ⟨mcn, d, he, hob, hlen, hdd⟩ := hA0
  have hl13 := gcap_lt j hlen.2
  have hll := hlen.1
  rcases hdd with ⟨q1, -⟩ | ⟨q1, f, hf, hfi⟩
  · exfalso; subst q1; have : gcap 0 = 0 := rfl; omega
  have hob2 : ∀ i, i < L.length → ∀ y, f i = some y → OBJ h y := fun i hi y hy => by have z := hfi i hi; rw [hy] at z; cases z; exact hob _ (getD_mem hi)
  refine lv_iload_n hx hb dJ2_remove_0 rfl (lv_at hl 1 rfl) ?_
  refine lv_aload_n hx hb dJ2_remove_1 rfl (lv_at hl 0 rfl) ?_
  refine hp_get (C := RJ2) (T := TJ2) (N := 3) (v := .int (nI L.length)) hx hb hts in_J2 hown hK hH he rfl 2 (by decide) (hts _ q173) (fun _ z => z) rfl dJ2_remove_2 ?_
  refine hp_callS (As := [.int (nI k), .int (nI L.length)]) (rest := []) hx hb hml hown hts hPB hH hS (mj_ock hK0 (k := k) (n := L.length) (by omega) (by omega)) 2 (lw_S q509 q510 q120 q511) (by decide +kernel) ⟨rfl, rfl⟩ (by decide) rfl hl.1 rfl (Nat.le_of_ble_eq_true rfl) (by decide) dJ2_remove_5 (fun v1 h3 H locs hp2 _ hH hS => ?_)
  obtain ⟨rfl, hq⟩ := hp2
  rw [hq] at hH
  refine lv_pop hx hb dJ2_remove_8 rfl ?_
  refine lv_aload_n hx hb dJ2_remove_9 rfl (lv_at hl 0 rfl) ?_
  refine hp_get (C := RJ2) (T := TJ2) (N := 3) (v := .ref d) hx hb hts in_J2 hown hK hH he rfl 1 (by decide) (hts _ q172) (fun _ z => z) rfl dJ2_remove_10 ?_
  refine lv_astore_n (lv' := [(2, .ref d), (0, .ref a), (1, .int (nI k))]) hx hb dJ2_remove_13 rfl hl (by decide) rfl (fun ls hl => ?_)
  refine lv_aload_n hx hb dJ2_remove_14 rfl (lv_at hl 0 rfl) ?_
  refine lv_iload_n hx hb dJ2_remove_15 rfl (lv_at hl 2 rfl) ?_
  refine hp_ald (n := gcap j) (j := k) (v := L.getD k 0) hx hb hK hH 4 hf rfl rfl (by first | omega | (refine Nat.lt_of_lt_of_le (Nat.mod_lt _ ?_) ?_ <;> omega)) (by first | omega | (refine Nat.lt_of_lt_of_le (Nat.mod_lt _ ?_) ?_ <;> omega)) (hfi k hk) dJ2_remove_16 ?_
  refine lv_astore_n (lv' := [(3, .ref (L.getD k 0)), (2, .ref d), (0, .ref a), (1, .int (nI k))]) hx hb dJ2_remove_17 rfl hl (by decide) rfl (fun ls hl => ?_)
  refine lv_aload_n hx hb dJ2_remove_18 rfl (lv_at hl 2 rfl) ?_
  refine lv_aload_n hx hb dJ2_remove_19 rfl (lv_at hl 1 rfl) ?_
  refine lv_iload_n hx hb dJ2_remove_20 rfl (lv_at hl 3 rfl) ?_
  refine hp_callV (As := [.ref d, .int (nI k)]) (rest := []) hx hb hml hown hts hPB hK hH hS (mj_frem hK0 hG he hf hob2 hlen.2 hll hk) he rfl rfl 2 (lw_V q1153 q1155 qs39 q106 q1156) (by decide +kernel) ⟨rfl, rfl⟩ (by decide) rfl hl.1 rfl (Nat.le_of_ble_eq_true rfl) (by decide) dJ2_remove_21 (fun v4 h6 H locs hp5 _ hH hS => ?_)
  obtain ⟨rfl, hpw⟩ := hp5
  refine lv_aload_n hx hb dJ2_remove_24 rfl (lv_at hl 0 rfl) ?_
  exact hp_aret hx hb hr (Or.inl ⟨_, rfl⟩) (Or.inr ⟨_, rfl⟩) hlocks hH hS (by decide) (by decide) dJ2_remove_25 (rem_fin hpw he hf hob ⟨q1, hlen.2⟩ hll hk hfi)
end MODEL
