/-! by gen/mspec.py -/
set_option maxRecDepth 100000
section MODEL
variable {l : Launch} {s0 : State} {D : va_G} {K : Nat → ClassId} {wd : Nat → Nat} {o : Nat} {h : Hp} {I : Nat → Int32} {V : Nat → Nat → Int32} {J : Nat → Nat → Int64}
set_option maxHeartbeats 4000000 in
theorem mc_ruleN_X8 (hK0 : va_K D CL (TYS K) s0) {av : Nat → Nat} {ed mi : Nat} (hG : GX s0 wd av ed mi) {a t tl tc s1 s2 w1 w2 b1 b2 wt : Nat} {rm : Int32} {bu : Option Nat} (he : h a = some (.inr (6, [.null, .null, .int 0, .int 0, .null, .int 0, .null]), t)) (hsd1 : SIDE h s1 w1 b1) (hsd2 : SIDE h s2 w2 b2) (hb1 : b1 < 1024) (hb2 : b2 < 1024) (hun : UNL h .null bu) (haw : awy t tl h s1 s2 .null) (htt : t ≠ tl) (htc : tc ≠ tl) : Met l yX7_init (ws_ yX7_init cX7_init 8 ((Option.none : Option Jvm.ClassFile.FieldType))) (rmk 7 110 700) (va_Pc [.ref a, .ref s1, .ref s2, .int (nI wt), .int rm, .null] (PB s0 D CL (h))) (QR s0 D CL (fun v h1 => v = none ∧ ∃ la L j, h1 a = some (.inr (6, [.ref s1, .ref s2, .int (nI wt), .int rm, .null, .int 0, .ref la]), t) ∧ AL (K 4) ed h1 la tl L j ∧ CPL tc h1 L (cpP 0 b1 b2 bu 10 0) ∧ frO t tl h h1 ∧ obK h h1)) 110 700 (zA s0) := by
  refine hp_met (by decide) (Nat.le_of_ble_eq_true rfl) hK0 ?_
  intro p e s m below meth cd ls hx hb hr hlocks hml hown hnm hts hK hPB hl hS hH hA
  have hl : lv_has ls 8 [(0, .ref a), (1, .ref s1), (2, .ref s2), (3, .int (nI wt)), (4, .int rm), (5, .null)] := hl
  have hown : s.vm.findClass RX7 = some m.cls := hown
  refine lv_aload_n hx hb dX7_init_0 rfl (lv_at hl 0 rfl) ?_
  refine hp_oinit hx hb hown hts q684 q150 q151 (hl.1.trans hml.symm) (by decide) (Nat.le_of_ble_eq_true rfl) dX7_init_1 ?_
  refine lv_aload_n hx hb dX7_init_4 rfl (lv_at hl 0 rfl) ?_
  obtain ⟨la, hla, nla⟩ := hH.fr
  refine hp_new (ci := 20) (C := RJ2) (T := TJ2) (N := 3) (fs := [.int 0, .null, .int 0]) hx hb hts in_J2 tyJ2 tyJ2_ok hown (hts _ q685) (hts _ q159) (hts _ q106) hK hH hS hA rfl (by decide) (by first | decide | omega | (simp only [rmk]; omega)) (by first | decide | omega | (simp only [rmk]; omega)) tl dX7_init_5 (fun H _ hH hS => ?_)
  rw [← hla] at hH ⊢
  have hH : HP D CL (zA s0) (hset h la (.inr (20, [.int 0, .null, .int 0])) tl) H := hH
  have x1 : a ≠ la := ne_new he nla
  have e2 : (hset h la (.inr (20, [.int 0, .null, .int 0])) tl) a = some (.inr (6, [.null, .null, .int 0, .int 0, .null, .int 0, .null]), t) := (hset_ne _ _ _ (x1)).trans he
  have e3 : (hset h la (.inr (20, [.int 0, .null, .int 0])) tl) la = some (.inr (20, [.int 0, .null, .int 0]), tl) := hset_self _ _ _ _
  refine lv_dup hx hb dX7_init_8 rfl ?_
  refine hp_callI (As := []) (rest := [.ref la, .ref a]) hx hb hml hown hts hPB hH hS (mj_ainit hK0 hG e3) 0 q686 q161 q106 q162 rfl (by decide +kernel) ⟨rfl, rfl⟩ (by first | decide | omega | (simp only [rmk]; omega)) rfl hl.1 rfl (Nat.le_of_ble_eq_true rfl) (by first | decide | omega | (simp only [rmk]; omega)) dX7_init_9 (fun v4 h6 H locs hp5 _ hH hS => ?_)
  obtain ⟨rfl, hq⟩ := hp5
  rw [hq, hset_hset] at hH
  have hel : (hset h la (.inr (20, [.int 0, .ref ed, .int 0])) tl) la = some (.inr (20, [.int 0, .ref ed, .int 0]), tl) := hset_self _ _ _ _
  have hea : (hset h la (.inr (20, [.int 0, .ref ed, .int 0])) tl) a = some (.inr (6, [.null, .null, .int 0, .int 0, .null, .int 0, .null]), t) := (hset_ne _ _ _ x1).trans he
  refine hp_putF (C := RX8) (T := TX8) (N := 7) (v := .ref la) (ty := (.object "java/util/ArrayList")) hx hb hts in_X8 tyX8 tyX8_ok nmX8 hown hK hH hS hea rfl 6 (by decide) (hts _ q745) (fun _ z => z) rfl hnm rfl (by decide +kernel) rfl rfl (Nat.le_of_ble_eq_true rfl) dX7_init_12 (fun H locs _ hH hS => ?_)
  have hH : HP D CL (zA s0) (hset (hset h la (.inr (20, [.int 0, .ref ed, .int 0])) tl) a (.inr (6, [.null, .null, .int 0, .int 0, .null, .int 0, .ref la])) t) H := hH
  have e7 : (hset (hset h la (.inr (20, [.int 0, .ref ed, .int 0])) tl) a (.inr (6, [.null, .null, .int 0, .int 0, .null, .int 0, .ref la])) t) la = some (.inr (20, [.int 0, .ref ed, .int 0]), tl) := (hset_ne _ _ _ ((Ne.symm x1))).trans hel
  have e8 : (hset (hset h la (.inr (20, [.int 0, .ref ed, .int 0])) tl) a (.inr (6, [.null, .null, .int 0, .int 0, .null, .int 0, .ref la])) t) a = some (.inr (6, [.null, .null, .int 0, .int 0, .null, .int 0, .ref la]), t) := hset_self _ _ _ _
  refine lv_aload_n hx hb dX7_init_15 rfl (lv_at hl 0 rfl) ?_
  refine lv_aload_n hx hb dX7_init_16 rfl (lv_at hl 1 rfl) ?_
  refine hp_putF (C := RX8) (T := TX8) (N := 7) (v := .ref s1) (ty := (.object "FirstIn$Side")) hx hb hts in_X8 tyX8 tyX8_ok nmX8 hown hK hH hS e8 rfl 0 (by decide) (hts _ q732) (fun _ z => z) rfl hnm rfl (by decide +kernel) rfl rfl (Nat.le_of_ble_eq_true rfl) dX7_init_17 (fun H locs _ hH hS => ?_)
  have hH : HP D CL (zA s0) (hset (hset (hset h la (.inr (20, [.int 0, .ref ed, .int 0])) tl) a (.inr (6, [.null, .null, .int 0, .int 0, .null, .int 0, .ref la])) t) a (.inr (6, [.ref s1, .null, .int 0, .int 0, .null, .int 0, .ref la])) t) H := hH
  have e9 : (hset (hset (hset h la (.inr (20, [.int 0, .ref ed, .int 0])) tl) a (.inr (6, [.null, .null, .int 0, .int 0, .null, .int 0, .ref la])) t) a (.inr (6, [.ref s1, .null, .int 0, .int 0, .null, .int 0, .ref la])) t) la = some (.inr (20, [.int 0, .ref ed, .int 0]), tl) := (hset_ne _ _ _ ((Ne.symm x1))).trans e7
  have e10 : (hset (hset (hset h la (.inr (20, [.int 0, .ref ed, .int 0])) tl) a (.inr (6, [.null, .null, .int 0, .int 0, .null, .int 0, .ref la])) t) a (.inr (6, [.ref s1, .null, .int 0, .int 0, .null, .int 0, .ref la])) t) a = some (.inr (6, [.ref s1, .null, .int 0, .int 0, .null, .int 0, .ref la]), t) := hset_self _ _ _ _
  refine lv_aload_n hx hb dX7_init_20 rfl (lv_at hl 0 rfl) ?_
  refine lv_aload_n hx hb dX7_init_21 rfl (lv_at hl 2 rfl) ?_
  refine hp_putF (C := RX8) (T := TX8) (N := 7) (v := .ref s2) (ty := (.object "FirstIn$Side")) hx hb hts in_X8 tyX8 tyX8_ok nmX8 hown hK hH hS e10 rfl 1 (by decide) (hts _ q734) (fun _ z => z) rfl hnm rfl (by decide +kernel) rfl rfl (Nat.le_of_ble_eq_true rfl) dX7_init_22 (fun H locs _ hH hS => ?_)
  have hH : HP D CL (zA s0) (hset (hset (hset (hset h la (.inr (20, [.int 0, .ref ed, .int 0])) tl) a (.inr (6, [.null, .null, .int 0, .int 0, .null, .int 0, .ref la])) t) a (.inr (6, [.ref s1, .null, .int 0, .int 0, .null, .int 0, .ref la])) t) a (.inr (6, [.ref s1, .ref s2, .int 0, .int 0, .null, .int 0, .ref la])) t) H := hH
  have e11 : (hset (hset (hset (hset h la (.inr (20, [.int 0, .ref ed, .int 0])) tl) a (.inr (6, [.null, .null, .int 0, .int 0, .null, .int 0, .ref la])) t) a (.inr (6, [.ref s1, .null, .int 0, .int 0, .null, .int 0, .ref la])) t) a (.inr (6, [.ref s1, .ref s2, .int 0, .int 0, .null, .int 0, .ref la])) t) la = some (.inr (20, [.int 0, .ref ed, .int 0]), tl) := (hset_ne _ _ _ ((Ne.symm x1))).trans e9
  have e12 : (hset (hset (hset (hset h la (.inr (20, [.int 0, .ref ed, .int 0])) tl) a (.inr (6, [.null, .null, .int 0, .int 0, .null, .int 0, .ref la])) t) a (.inr (6, [.ref s1, .null, .int 0, .int 0, .null, .int 0, .ref la])) t) a (.inr (6, [.ref s1, .ref s2, .int 0, .int 0, .null, .int 0, .ref la])) t) a = some (.inr (6, [.ref s1, .ref s2, .int 0, .int 0, .null, .int 0, .ref la]), t) := hset_self _ _ _ _
  refine lv_aload_n hx hb dX7_init_25 rfl (lv_at hl 0 rfl) ?_
  refine lv_iload_n hx hb dX7_init_26 rfl (lv_at hl 3 rfl) ?_
  refine hp_putF (C := RX8) (T := TX8) (N := 7) (v := .int (nI wt)) (ty := .int) hx hb hts in_X8 tyX8 tyX8_ok nmX8 hown hK hH hS e12 rfl 2 (by decide) (hts _ q736) (fun _ z => z) rfl hnm rfl (by decide +kernel) rfl rfl (Nat.le_of_ble_eq_true rfl) dX7_init_27 (fun H locs _ hH hS => ?_)
  have hH : HP D CL (zA s0) (hset (hset (hset (hset (hset h la (.inr (20, [.int 0, .ref ed, .int 0])) tl) a (.inr (6, [.null, .null, .int 0, .int 0, .null, .int 0, .ref la])) t) a (.inr (6, [.ref s1, .null, .int 0, .int 0, .null, .int 0, .ref la])) t) a (.inr (6, [.ref s1, .ref s2, .int 0, .int 0, .null, .int 0, .ref la])) t) a (.inr (6, [.ref s1, .ref s2, .int (nI wt), .int 0, .null, .int 0, .ref la])) t) H := hH
  have e13 : (hset (hset (hset (hset (hset h la (.inr (20, [.int 0, .ref ed, .int 0])) tl) a (.inr (6, [.null, .null, .int 0, .int 0, .null, .int 0, .ref la])) t) a (.inr (6, [.ref s1, .null, .int 0, .int 0, .null, .int 0, .ref la])) t) a (.inr (6, [.ref s1, .ref s2, .int 0, .int 0, .null, .int 0, .ref la])) t) a (.inr (6, [.ref s1, .ref s2, .int (nI wt), .int 0, .null, .int 0, .ref la])) t) la = some (.inr (20, [.int 0, .ref ed, .int 0]), tl) := (hset_ne _ _ _ ((Ne.symm x1))).trans e11
  have e14 : (hset (hset (hset (hset (hset h la (.inr (20, [.int 0, .ref ed, .int 0])) tl) a (.inr (6, [.null, .null, .int 0, .int 0, .null, .int 0, .ref la])) t) a (.inr (6, [.ref s1, .null, .int 0, .int 0, .null, .int 0, .ref la])) t) a (.inr (6, [.ref s1, .ref s2, .int 0, .int 0, .null, .int 0, .ref la])) t) a (.inr (6, [.ref s1, .ref s2, .int (nI wt), .int 0, .null, .int 0, .ref la])) t) a = some (.inr (6, [.ref s1, .ref s2, .int (nI wt), .int 0, .null, .int 0, .ref la]), t) := hset_self _ _ _ _
  refine lv_aload_n hx hb dX7_init_30 rfl (lv_at hl 0 rfl) ?_
  refine lv_iload hx hb dX7_init_31 (lv_at hl 4 rfl) ?_
  refine hp_putF (C := RX8) (T := TX8) (N := 7) (v := .int rm) (ty := .int) hx hb hts in_X8 tyX8 tyX8_ok nmX8 hown hK hH hS e14 rfl 3 (by decide) (hts _ q739) (fun _ z => z) rfl hnm rfl (by decide +kernel) rfl rfl (Nat.le_of_ble_eq_true rfl) dX7_init_33 (fun H locs _ hH hS => ?_)
  have hH : HP D CL (zA s0) (hset (hset (hset (hset (hset (hset h la (.inr (20, [.int 0, .ref ed, .int 0])) tl) a (.inr (6, [.null, .null, .int 0, .int 0, .null, .int 0, .ref la])) t) a (.inr (6, [.ref s1, .null, .int 0, .int 0, .null, .int 0, .ref la])) t) a (.inr (6, [.ref s1, .ref s2, .int 0, .int 0, .null, .int 0, .ref la])) t) a (.inr (6, [.ref s1, .ref s2, .int (nI wt), .int 0, .null, .int 0, .ref la])) t) a (.inr (6, [.ref s1, .ref s2, .int (nI wt), .int rm, .null, .int 0, .ref la])) t) H := hH
  have e15 : (hset (hset (hset (hset (hset (hset h la (.inr (20, [.int 0, .ref ed, .int 0])) tl) a (.inr (6, [.null, .null, .int 0, .int 0, .null, .int 0, .ref la])) t) a (.inr (6, [.ref s1, .null, .int 0, .int 0, .null, .int 0, .ref la])) t) a (.inr (6, [.ref s1, .ref s2, .int 0, .int 0, .null, .int 0, .ref la])) t) a (.inr (6, [.ref s1, .ref s2, .int (nI wt), .int 0, .null, .int 0, .ref la])) t) a (.inr (6, [.ref s1, .ref s2, .int (nI wt), .int rm, .null, .int 0, .ref la])) t) la = some (.inr (20, [.int 0, .ref ed, .int 0]), tl) := (hset_ne _ _ _ ((Ne.symm x1))).trans e13
  have e16 : (hset (hset (hset (hset (hset (hset h la (.inr (20, [.int 0, .ref ed, .int 0])) tl) a (.inr (6, [.null, .null, .int 0, .int 0, .null, .int 0, .ref la])) t) a (.inr (6, [.ref s1, .null, .int 0, .int 0, .null, .int 0, .ref la])) t) a (.inr (6, [.ref s1, .ref s2, .int 0, .int 0, .null, .int 0, .ref la])) t) a (.inr (6, [.ref s1, .ref s2, .int (nI wt), .int 0, .null, .int 0, .ref la])) t) a (.inr (6, [.ref s1, .ref s2, .int (nI wt), .int rm, .null, .int 0, .ref la])) t) a = some (.inr (6, [.ref s1, .ref s2, .int (nI wt), .int rm, .null, .int 0, .ref la]), t) := hset_self _ _ _ _
  refine lv_aload_n hx hb dX7_init_36 rfl (lv_at hl 0 rfl) ?_
  refine lv_aloadN hx hb dX7_init_37 (lv_at hl 5 rfl) ?_
  refine hp_putF (C := RX8) (T := TX8) (N := 7) (v := .null) (ty := (.object "FirstIn$Mark")) hx hb hts in_X8 tyX8 tyX8_ok nmX8 hown hK hH hS e16 rfl 4 (by decide) (hts _ q741) (fun _ z => z) rfl hnm rfl (by decide +kernel) rfl rfl (Nat.le_of_ble_eq_true rfl) dX7_init_39 (fun H locs _ hH hS => ?_)
  have hH : HP D CL (zA s0) (hset (hset (hset (hset (hset (hset (hset h la (.inr (20, [.int 0, .ref ed, .int 0])) tl) a (.inr (6, [.null, .null, .int 0, .int 0, .null, .int 0, .ref la])) t) a (.inr (6, [.ref s1, .null, .int 0, .int 0, .null, .int 0, .ref la])) t) a (.inr (6, [.ref s1, .ref s2, .int 0, .int 0, .null, .int 0, .ref la])) t) a (.inr (6, [.ref s1, .ref s2, .int (nI wt), .int 0, .null, .int 0, .ref la])) t) a (.inr (6, [.ref s1, .ref s2, .int (nI wt), .int rm, .null, .int 0, .ref la])) t) a (.inr (6, [.ref s1, .ref s2, .int (nI wt), .int rm, .null, .int 0, .ref la])) t) H := hH
  have e17 : (hset (hset (hset (hset (hset (hset (hset h la (.inr (20, [.int 0, .ref ed, .int 0])) tl) a (.inr (6, [.null, .null, .int 0, .int 0, .null, .int 0, .ref la])) t) a (.inr (6, [.ref s1, .null, .int 0, .int 0, .null, .int 0, .ref la])) t) a (.inr (6, [.ref s1, .ref s2, .int 0, .int 0, .null, .int 0, .ref la])) t) a (.inr (6, [.ref s1, .ref s2, .int (nI wt), .int 0, .null, .int 0, .ref la])) t) a (.inr (6, [.ref s1, .ref s2, .int (nI wt), .int rm, .null, .int 0, .ref la])) t) a (.inr (6, [.ref s1, .ref s2, .int (nI wt), .int rm, .null, .int 0, .ref la])) t) la = some (.inr (20, [.int 0, .ref ed, .int 0]), tl) := (hset_ne _ _ _ ((Ne.symm x1))).trans e15
  have e18 : (hset (hset (hset (hset (hset (hset (hset h la (.inr (20, [.int 0, .ref ed, .int 0])) tl) a (.inr (6, [.null, .null, .int 0, .int 0, .null, .int 0, .ref la])) t) a (.inr (6, [.ref s1, .null, .int 0, .int 0, .null, .int 0, .ref la])) t) a (.inr (6, [.ref s1, .ref s2, .int 0, .int 0, .null, .int 0, .ref la])) t) a (.inr (6, [.ref s1, .ref s2, .int (nI wt), .int 0, .null, .int 0, .ref la])) t) a (.inr (6, [.ref s1, .ref s2, .int (nI wt), .int rm, .null, .int 0, .ref la])) t) a (.inr (6, [.ref s1, .ref s2, .int (nI wt), .int rm, .null, .int 0, .ref la])) t) a = some (.inr (6, [.ref s1, .ref s2, .int (nI wt), .int rm, .null, .int 0, .ref la]), t) := hset_self _ _ _ _
  refine lv_iconst (v := nI 0) hx hb dX7_init_42 (by decide) ?_
  refine lv_istore (lv' := [(6, .int (nI 0)), (0, .ref a), (1, .ref s1), (2, .ref s2), (3, .int (nI wt)), (4, .int rm), (5, .null)]) hx hb dX7_init_43 hl (by decide) rfl (fun ls hl => ?_)
  refine w_loopC4 (fun (x : Nat) (L : List Nat) (j : Nat) (hh : Hp) => 10 - x) (fun (x : Nat) (L : List Nat) (j : Nat) (hh : Hp) H locs ls cells slots => (x ≤ 10) ∧ (hh a = some (.inr (6, [.ref s1, .ref s2, .int (nI wt), .int rm, .null, .int 0, .ref la]), t)) ∧ (AL (K 4) ed hh la tl L j) ∧ (CPL tc hh L (cpP 0 b1 b2 bu x 0)) ∧ (frO t tl h hh) ∧ (obK h hh) ∧ (j = 0 ∨ gcap (j - 1) + 1 ≤ L.length) ∧ (cells ≤ 1 + L.length + j ∧ slots ≤ 3 + 2 * L.length + gsum j) ∧ HP D CL (zA s0) hh H ∧ va_S (zA s0) s.heap H locs ∧ lv_has ls 8 [(0, .ref a), (6, .int (nI x))]) ?_ 0 ([]) 0 (hset (hset (hset (hset (hset (hset (hset h la (.inr (20, [.int 0, .ref ed, .int 0])) tl) a (.inr (6, [.null, .null, .int 0, .int 0, .null, .int 0, .ref la])) t) a (.inr (6, [.ref s1, .null, .int 0, .int 0, .null, .int 0, .ref la])) t) a (.inr (6, [.ref s1, .ref s2, .int 0, .int 0, .null, .int 0, .ref la])) t) a (.inr (6, [.ref s1, .ref s2, .int (nI wt), .int 0, .null, .int 0, .ref la])) t) a (.inr (6, [.ref s1, .ref s2, .int (nI wt), .int rm, .null, .int 0, .ref la])) t) a (.inr (6, [.ref s1, .ref s2, .int (nI wt), .int rm, .null, .int 0, .ref la])) t) ⟨Nat.zero_le _, e18, al_nil (mcn := 0) (d := ed) e17 (by decide) (Or.inl ⟨rfl, rfl⟩), by rw [cpP_0]; exact ⟨rfl, fun i hi => absurd hi (Nat.not_lt_zero _)⟩, ru_fr he nla, ru_ob he nla, Or.inl rfl, by decide, hH, hS, lv_sub hl [1, 0] rfl⟩
  intro x L j hh ih45 H locs ls cells slots hP
  obtain ⟨hxx, ha, hAl, hcp, hfr, hok, hjl, hcs, hH, hS, hl⟩ := hP
  have hsa := side_fr hfr haw (Or.inl rfl) hsd1
  have hsb := side_fr hfr haw (Or.inr rfl) hsd2
  have hu9 := unl_fr hfr haw hun
  have hcl := cpP_len (kd := 0) (b1 := b1) (b2 := b2) (bu := bu) (x := x) (y := 0)
  have hc1 := hcp.1
  have hj13 := (AL.j13 hAl)
  have hj7 : j ≤ 7 := by rcases hjl with q | q; omega; exact gcap_7 j hj13 (by omega)
  have hg9 := gsum_7 j hj7
  have hg8 := gcap_8 j hj7
  refine lv_iload hx hb dX7_init_45 (lv_at hl 1 rfl) ?_
  refine lv_bipush (v := nI 10) hx hb dX7_init_47 (by decide) ?_
  refine lvN_ge (tgt := 104) hx hb (by first | omega | (refine Nat.lt_of_lt_of_le (Nat.mod_lt _ ?_) ?_ <;> omega)) (by first | omega | (refine Nat.lt_of_lt_of_le (Nat.mod_lt _ ?_) ?_ <;> omega)) dX7_init_49 (by decide) (fun c19 => ?_) (fun c19 => ?_)
  · exact hp_vret hx hb hr hlocks hH hS (by first | decide | omega | (simp only [rmk]; omega)) (by first | decide | omega | (simp only [rmk]; omega)) dX7_init_104 (⟨rfl, _, L, j, ha, hAl, by rw [show (10 : Nat) = x by omega]; exact hcp, hfr, hok⟩)
  · refine lv_iconst (v := nI 0) hx hb dX7_init_52 (by decide) ?_
    refine lv_istore (lv' := [(7, .int (nI 0)), (0, .ref a), (6, .int (nI x))]) hx hb dX7_init_53 hl (by decide) rfl (fun ls hl => ?_)
    refine w_loopC4 (fun (y : Nat) (L : List Nat) (j : Nat) (hh : Hp) => 10 - y) (fun (y : Nat) (L : List Nat) (j : Nat) (hh : Hp) H locs ls cells slots => (y ≤ 10) ∧ (hh a = some (.inr (6, [.ref s1, .ref s2, .int (nI wt), .int rm, .null, .int 0, .ref la]), t)) ∧ (AL (K 4) ed hh la tl L j) ∧ (CPL tc hh L (cpP 0 b1 b2 bu x y)) ∧ (frO t tl h hh) ∧ (obK h hh) ∧ (j = 0 ∨ gcap (j - 1) + 1 ≤ L.length) ∧ (cells ≤ 1 + L.length + j ∧ slots ≤ 3 + 2 * L.length + gsum j) ∧ HP D CL (zA s0) hh H ∧ va_S (zA s0) s.heap H locs ∧ lv_has ls 8 [(0, .ref a), (6, .int (nI x)), (7, .int (nI y))]) ?_ 0 L j hh ⟨Nat.zero_le _, ha, hAl, hcp, hfr, hok, hjl, hcs, hH, hS, lv_sub hl [1, 2, 0] rfl⟩
    intro y L j hh ih55 H locs ls cells slots hP
    obtain ⟨hyy, ha, hAl, hcp, hfr, hok, hjl, hcs, hH, hS, hl⟩ := hP
    have hsa := side_fr hfr haw (Or.inl rfl) hsd1
    have hsb := side_fr hfr haw (Or.inr rfl) hsd2
    have hu9 := unl_fr hfr haw hun
    have hcl := cpP_len (kd := 0) (b1 := b1) (b2 := b2) (bu := bu) (x := x) (y := y)
    have hc1 := hcp.1
    have hj13 := (AL.j13 hAl)
    have hj7 : j ≤ 7 := by rcases hjl with q | q; omega; exact gcap_7 j hj13 (by omega)
    have hg9 := gsum_7 j hj7
    have hg8 := gcap_8 j hj7
    refine lv_iload hx hb dX7_init_55 (lv_at hl 2 rfl) ?_
    refine lv_bipush (v := nI 10) hx hb dX7_init_57 (by decide) ?_
    refine lvN_ge (tgt := 98) hx hb (by first | omega | (refine Nat.lt_of_lt_of_le (Nat.mod_lt _ ?_) ?_ <;> omega)) (by first | omega | (refine Nat.lt_of_lt_of_le (Nat.mod_lt _ ?_) ?_ <;> omega)) dX7_init_59 (by decide) (fun c20 => ?_) (fun c20 => ?_)
    · refine lv_iinc (v := nI (x + 1)) (lv' := [(6, .int (nI (x + 1))), (0, .ref a), (7, .int (nI y))]) hx hb dX7_init_98 hl (k := 1) rfl (nI_add x 1) (by decide) rfl (fun ls hl => ?_)
      refine lv_goto (tgt := 45) hx hb dX7_init_101 (by decide) ?_
      exact ih45 (x + 1) L j hh (by omega) H locs ls _ _ ⟨by omega, ha, hAl, by rw [cpP_x, ← show y = 10 by omega]; exact hcp, hfr, hok, hjl, hcs, hH, hS, lv_sub hl [1, 0] rfl⟩
    · refine lv_aload_n hx hb dX7_init_62 rfl (lv_at hl 0 rfl) ?_
      refine lv_iload hx hb dX7_init_63 (lv_at hl 1 rfl) ?_
      refine lv_iload hx hb dX7_init_65 (lv_at hl 2 rfl) ?_
      refine hp_callU (As := [.int (nI x), .int (nI y)]) (rest := []) (owner := "FirstIn$Rule") (x := ⟨"FirstIn$Rule", "holds", "(II)Z"⟩) hx hb hml hown hts hPB hK hH hS (mc_hld_X8 hK0 hG (rs := false) ha hsa hsb hb1 hb2 (x := x) (y := y) (by omega) (by omega) hu9) ha rfl rfl 2 (va_cwU 2 hts (lw_U q687 q689 q690 q688 q125 q712) rfl rfl rfl rfl (by decide +kernel) (by first | decide | omega | (simp only [rmk]; omega))) rfl hl.1 rfl (Nat.le_of_ble_eq_true rfl) (by first | decide | omega | (simp only [rmk]; omega)) dX7_init_67 (fun v21 h23 H locs hp22 _ hH hS => ?_)
      obtain ⟨rfl, hq⟩ := hp22
      rw [hq] at hH
      refine lvB_eq (tgt := 92) hx hb dX7_init_70 (by decide) (fun ch => ?_) (fun ch => ?_)
      · refine lv_iinc (v := nI (y + 1)) (lv' := [(7, .int (nI (y + 1))), (0, .ref a), (6, .int (nI x))]) hx hb dX7_init_92 hl (k := 2) rfl (nI_add y 1) (by decide) rfl (fun ls hl => ?_)
        refine lv_goto (tgt := 55) hx hb dX7_init_95 (by decide) ?_
        exact ih55 (y + 1) L j hh (by omega) H locs ls _ _ ⟨by omega, ha, hAl, by rw [cpP_f ch]; exact hcp, hfr, hok, hjl, hcs, hH, hS, lv_sub hl [1, 2, 0] rfl⟩
      · refine lv_aload_n hx hb dX7_init_73 rfl (lv_at hl 0 rfl) ?_
        refine hp_get (C := RX8) (T := TX8) (N := 7) (v := .ref la) hx hb hts in_X8 hown hK hH ha rfl 6 (by decide) (hts _ q745) (fun _ z => z) rfl dX7_init_74 ?_
        obtain ⟨nw24, hnw24, nnw24⟩ := hH.fr
        refine hp_new (ci := 7) (C := RX9) (T := TX9) (N := 2) (fs := [.int 0, .int 0]) hx hb hts in_X9 tyX9 tyX9_ok hown (hts _ q714) (hts _ q715) (hts _ q127) hK hH hS hA rfl (by decide) (by first | decide | omega | (simp only [rmk]; omega)) (by first | decide | omega | (simp only [rmk]; omega)) tc dX7_init_77 (fun H _ hH hS => ?_)
        rw [← hnw24] at hH ⊢
        have hH : HP D CL (zA s0) (hset hh nw24 (.inr (7, [.int 0, .int 0])) tc) H := hH
        have x25 : a ≠ nw24 := ne_new ha nnw24
        have e26 : (hset hh nw24 (.inr (7, [.int 0, .int 0])) tc) a = some (.inr (6, [.ref s1, .ref s2, .int (nI wt), .int rm, .null, .int 0, .ref la]), t) := (hset_ne _ _ _ (x25)).trans ha
        have e27 : (hset hh nw24 (.inr (7, [.int 0, .int 0])) tc) nw24 = some (.inr (7, [.int 0, .int 0]), tc) := hset_self _ _ _ _
        refine lv_dup hx hb dX7_init_80 rfl ?_
        refine lv_iload hx hb dX7_init_81 (lv_at hl 1 rfl) ?_
        refine lv_iload hx hb dX7_init_83 (lv_at hl 2 rfl) ?_
        refine hp_callI (As := [.int (nI x), .int (nI y)]) (rest := [.ref nw24, .ref la]) hx hb hml hown hts hPB hH hS (mc_couple hK0 hG (x := x) (y := y) e27) 2 q716 q717 q127 q718 rfl (by decide +kernel) ⟨rfl, rfl⟩ (by first | decide | omega | (simp only [rmk]; omega)) rfl hl.1 rfl (Nat.le_of_ble_eq_true rfl) (by first | decide | omega | (simp only [rmk]; omega)) dX7_init_85 (fun v28 h30 H locs hp29 _ hH hS => ?_)
        obtain ⟨rfl, hq⟩ := hp29
        rw [hq, hset_hset] at hH
        have hec : (hset hh nw24 (.inr (7, [.int (nI x), .int (nI y)])) tc) nw24 = some (.inr (7, [.int (nI x), .int (nI y)]), tc) := hset_self _ _ _ _
        have hx9 : exH hh (hset hh nw24 (.inr (7, [.int (nI x), .int (nI y)])) tc) := exH.new nnw24
        refine hp_add hx hb hml hown hts hPB hK0 hK hH hS hG (x := nw24) (hAl.X hx9) ⟨_, _, _, hec⟩ (by have := gcap_13; omega) q731 (by first | decide | omega | (simp only [rmk]; omega)) hl.1 rfl (Nat.le_of_ble_eq_true rfl) (by first | decide | omega | (simp only [rmk]; omega)) dX7_init_88 (fun j2 h4 H locs hA4 hf4 hk4 hj4 hH hS => ?_)
        refine lv_pop hx hb dX7_init_91 rfl ?_
        refine lv_iinc (v := nI (y + 1)) (lv' := [(7, .int (nI (y + 1))), (0, .ref a), (6, .int (nI x))]) hx hb dX7_init_92 hl (k := 2) rfl (nI_add y 1) (by decide) rfl (fun ls hl => ?_)
        refine lv_goto (tgt := 55) hx hb dX7_init_95 (by decide) ?_
        exact ih55 (y + 1) (L ++ [nw24]) j2 h4 (by omega) H locs ls _ _ ⟨by omega, hf4 _ _ _ (hx9 _ _ _ ha) htt, hA4, by rw [cpP_t ch]; exact cpl_push (cpl_keep hcp (fun b e q => hf4 _ _ _ (hx9 _ _ _ q) htc)) (hf4 _ _ _ hec htc), (hfr.X hx9).T hf4, fun q z => hk4 q (by obtain ⟨c1, f1, u1, z1⟩ := hok q z; exact ⟨c1, f1, u1, hx9 _ _ _ z1⟩), j_next hjl hj4, by rw [len_push]; exact c_next hcs hj4, hH, hS, lv_sub hl [1, 2, 0] rfl⟩
set_option maxHeartbeats 4000000 in
theorem mc_ruleR_X8 (hK0 : va_K D CL (TYS K) s0) {av : Nat → Nat} {ed mi : Nat} (hG : GX s0 wd av ed mi) {a t z9 tl tc s1 s2 w1 w2 b1 b2 wt : Nat} {rm : Int32} {bu : Option Nat} (he : h a = some (.inr (6, [.null, .null, .int 0, .int 0, .null, .int 0, .null]), t)) (hsd1 : SIDE h s1 w1 b1) (hsd2 : SIDE h s2 w2 b2) (hb1 : b1 < 1024) (hb2 : b2 < 1024) (hun : UNL h (.ref z9) bu) (haw : awy t tl h s1 s2 (.ref z9)) (htt : t ≠ tl) (htc : tc ≠ tl) : Met l yX7_init (ws_ yX7_init cX7_init 8 ((Option.none : Option Jvm.ClassFile.FieldType))) (rmk 7 110 700) (va_Pc [.ref a, .ref s1, .ref s2, .int (nI wt), .int rm, .ref z9] (PB s0 D CL (h))) (QR s0 D CL (fun v h1 => v = none ∧ ∃ la L j, h1 a = some (.inr (6, [.ref s1, .ref s2, .int (nI wt), .int rm, .ref z9, .int 0, .ref la]), t) ∧ AL (K 4) ed h1 la tl L j ∧ CPL tc h1 L (cpP 0 b1 b2 bu 10 0) ∧ frO t tl h h1 ∧ obK h h1)) 110 700 (zA s0) := by
  refine hp_met (by decide) (Nat.le_of_ble_eq_true rfl) hK0 ?_
  intro p e s m below meth cd ls hx hb hr hlocks hml hown hnm hts hK hPB hl hS hH hA
  have hl : lv_has ls 8 [(0, .ref a), (1, .ref s1), (2, .ref s2), (3, .int (nI wt)), (4, .int rm), (5, .ref z9)] := hl
  have hown : s.vm.findClass RX7 = some m.cls := hown
  refine lv_aload_n hx hb dX7_init_0 rfl (lv_at hl 0 rfl) ?_
  refine hp_oinit hx hb hown hts q684 q150 q151 (hl.1.trans hml.symm) (by decide) (Nat.le_of_ble_eq_true rfl) dX7_init_1 ?_
  refine lv_aload_n hx hb dX7_init_4 rfl (lv_at hl 0 rfl) ?_
  obtain ⟨la, hla, nla⟩ := hH.fr
  refine hp_new (ci := 20) (C := RJ2) (T := TJ2) (N := 3) (fs := [.int 0, .null, .int 0]) hx hb hts in_J2 tyJ2 tyJ2_ok hown (hts _ q685) (hts _ q159) (hts _ q106) hK hH hS hA rfl (by decide) (by first | decide | omega | (simp only [rmk]; omega)) (by first | decide | omega | (simp only [rmk]; omega)) tl dX7_init_5 (fun H _ hH hS => ?_)
  rw [← hla] at hH ⊢
  have hH : HP D CL (zA s0) (hset h la (.inr (20, [.int 0, .null, .int 0])) tl) H := hH
  have x1 : a ≠ la := ne_new he nla
  have e2 : (hset h la (.inr (20, [.int 0, .null, .int 0])) tl) a = some (.inr (6, [.null, .null, .int 0, .int 0, .null, .int 0, .null]), t) := (hset_ne _ _ _ (x1)).trans he
  have e3 : (hset h la (.inr (20, [.int 0, .null, .int 0])) tl) la = some (.inr (20, [.int 0, .null, .int 0]), tl) := hset_self _ _ _ _
  refine lv_dup hx hb dX7_init_8 rfl ?_
  refine hp_callI (As := []) (rest := [.ref la, .ref a]) hx hb hml hown hts hPB hH hS (mj_ainit hK0 hG e3) 0 q686 q161 q106 q162 rfl (by decide +kernel) ⟨rfl, rfl⟩ (by first | decide | omega | (simp only [rmk]; omega)) rfl hl.1 rfl (Nat.le_of_ble_eq_true rfl) (by first | decide | omega | (simp only [rmk]; omega)) dX7_init_9 (fun v4 h6 H locs hp5 _ hH hS => ?_)
  obtain ⟨rfl, hq⟩ := hp5
  rw [hq, hset_hset] at hH
  have hel : (hset h la (.inr (20, [.int 0, .ref ed, .int 0])) tl) la = some (.inr (20, [.int 0, .ref ed, .int 0]), tl) := hset_self _ _ _ _
  have hea : (hset h la (.inr (20, [.int 0, .ref ed, .int 0])) tl) a = some (.inr (6, [.null, .null, .int 0, .int 0, .null, .int 0, .null]), t) := (hset_ne _ _ _ x1).trans he
  refine hp_putF (C := RX8) (T := TX8) (N := 7) (v := .ref la) (ty := (.object "java/util/ArrayList")) hx hb hts in_X8 tyX8 tyX8_ok nmX8 hown hK hH hS hea rfl 6 (by decide) (hts _ q745) (fun _ z => z) rfl hnm rfl (by decide +kernel) rfl rfl (Nat.le_of_ble_eq_true rfl) dX7_init_12 (fun H locs _ hH hS => ?_)
  have hH : HP D CL (zA s0) (hset (hset h la (.inr (20, [.int 0, .ref ed, .int 0])) tl) a (.inr (6, [.null, .null, .int 0, .int 0, .null, .int 0, .ref la])) t) H := hH
  have e7 : (hset (hset h la (.inr (20, [.int 0, .ref ed, .int 0])) tl) a (.inr (6, [.null, .null, .int 0, .int 0, .null, .int 0, .ref la])) t) la = some (.inr (20, [.int 0, .ref ed, .int 0]), tl) := (hset_ne _ _ _ ((Ne.symm x1))).trans hel
  have e8 : (hset (hset h la (.inr (20, [.int 0, .ref ed, .int 0])) tl) a (.inr (6, [.null, .null, .int 0, .int 0, .null, .int 0, .ref la])) t) a = some (.inr (6, [.null, .null, .int 0, .int 0, .null, .int 0, .ref la]), t) := hset_self _ _ _ _
  refine lv_aload_n hx hb dX7_init_15 rfl (lv_at hl 0 rfl) ?_
  refine lv_aload_n hx hb dX7_init_16 rfl (lv_at hl 1 rfl) ?_
  refine hp_putF (C := RX8) (T := TX8) (N := 7) (v := .ref s1) (ty := (.object "FirstIn$Side")) hx hb hts in_X8 tyX8 tyX8_ok nmX8 hown hK hH hS e8 rfl 0 (by decide) (hts _ q732) (fun _ z => z) rfl hnm rfl (by decide +kernel) rfl rfl (Nat.le_of_ble_eq_true rfl) dX7_init_17 (fun H locs _ hH hS => ?_)
  have hH : HP D CL (zA s0) (hset (hset (hset h la (.inr (20, [.int 0, .ref ed, .int 0])) tl) a (.inr (6, [.null, .null, .int 0, .int 0, .null, .int 0, .ref la])) t) a (.inr (6, [.ref s1, .null, .int 0, .int 0, .null, .int 0, .ref la])) t) H := hH
  have e9 : (hset (hset (hset h la (.inr (20, [.int 0, .ref ed, .int 0])) tl) a (.inr (6, [.null, .null, .int 0, .int 0, .null, .int 0, .ref la])) t) a (.inr (6, [.ref s1, .null, .int 0, .int 0, .null, .int 0, .ref la])) t) la = some (.inr (20, [.int 0, .ref ed, .int 0]), tl) := (hset_ne _ _ _ ((Ne.symm x1))).trans e7
  have e10 : (hset (hset (hset h la (.inr (20, [.int 0, .ref ed, .int 0])) tl) a (.inr (6, [.null, .null, .int 0, .int 0, .null, .int 0, .ref la])) t) a (.inr (6, [.ref s1, .null, .int 0, .int 0, .null, .int 0, .ref la])) t) a = some (.inr (6, [.ref s1, .null, .int 0, .int 0, .null, .int 0, .ref la]), t) := hset_self _ _ _ _
  refine lv_aload_n hx hb dX7_init_20 rfl (lv_at hl 0 rfl) ?_
  refine lv_aload_n hx hb dX7_init_21 rfl (lv_at hl 2 rfl) ?_
  refine hp_putF (C := RX8) (T := TX8) (N := 7) (v := .ref s2) (ty := (.object "FirstIn$Side")) hx hb hts in_X8 tyX8 tyX8_ok nmX8 hown hK hH hS e10 rfl 1 (by decide) (hts _ q734) (fun _ z => z) rfl hnm rfl (by decide +kernel) rfl rfl (Nat.le_of_ble_eq_true rfl) dX7_init_22 (fun H locs _ hH hS => ?_)
  have hH : HP D CL (zA s0) (hset (hset (hset (hset h la (.inr (20, [.int 0, .ref ed, .int 0])) tl) a (.inr (6, [.null, .null, .int 0, .int 0, .null, .int 0, .ref la])) t) a (.inr (6, [.ref s1, .null, .int 0, .int 0, .null, .int 0, .ref la])) t) a (.inr (6, [.ref s1, .ref s2, .int 0, .int 0, .null, .int 0, .ref la])) t) H := hH
  have e11 : (hset (hset (hset (hset h la (.inr (20, [.int 0, .ref ed, .int 0])) tl) a (.inr (6, [.null, .null, .int 0, .int 0, .null, .int 0, .ref la])) t) a (.inr (6, [.ref s1, .null, .int 0, .int 0, .null, .int 0, .ref la])) t) a (.inr (6, [.ref s1, .ref s2, .int 0, .int 0, .null, .int 0, .ref la])) t) la = some (.inr (20, [.int 0, .ref ed, .int 0]), tl) := (hset_ne _ _ _ ((Ne.symm x1))).trans e9
  have e12 : (hset (hset (hset (hset h la (.inr (20, [.int 0, .ref ed, .int 0])) tl) a (.inr (6, [.null, .null, .int 0, .int 0, .null, .int 0, .ref la])) t) a (.inr (6, [.ref s1, .null, .int 0, .int 0, .null, .int 0, .ref la])) t) a (.inr (6, [.ref s1, .ref s2, .int 0, .int 0, .null, .int 0, .ref la])) t) a = some (.inr (6, [.ref s1, .ref s2, .int 0, .int 0, .null, .int 0, .ref la]), t) := hset_self _ _ _ _
  refine lv_aload_n hx hb dX7_init_25 rfl (lv_at hl 0 rfl) ?_
  refine lv_iload_n hx hb dX7_init_26 rfl (lv_at hl 3 rfl) ?_
  refine hp_putF (C := RX8) (T := TX8) (N := 7) (v := .int (nI wt)) (ty := .int) hx hb hts in_X8 tyX8 tyX8_ok nmX8 hown hK hH hS e12 rfl 2 (by decide) (hts _ q736) (fun _ z => z) rfl hnm rfl (by decide +kernel) rfl rfl (Nat.le_of_ble_eq_true rfl) dX7_init_27 (fun H locs _ hH hS => ?_)
  have hH : HP D CL (zA s0) (hset (hset (hset (hset (hset h la (.inr (20, [.int 0, .ref ed, .int 0])) tl) a (.inr (6, [.null, .null, .int 0, .int 0, .null, .int 0, .ref la])) t) a (.inr (6, [.ref s1, .null, .int 0, .int 0, .null, .int 0, .ref la])) t) a (.inr (6, [.ref s1, .ref s2, .int 0, .int 0, .null, .int 0, .ref la])) t) a (.inr (6, [.ref s1, .ref s2, .int (nI wt), .int 0, .null, .int 0, .ref la])) t) H := hH
  have e13 : (hset (hset (hset (hset (hset h la (.inr (20, [.int 0, .ref ed, .int 0])) tl) a (.inr (6, [.null, .null, .int 0, .int 0, .null, .int 0, .ref la])) t) a (.inr (6, [.ref s1, .null, .int 0, .int 0, .null, .int 0, .ref la])) t) a (.inr (6, [.ref s1, .ref s2, .int 0, .int 0, .null, .int 0, .ref la])) t) a (.inr (6, [.ref s1, .ref s2, .int (nI wt), .int 0, .null, .int 0, .ref la])) t) la = some (.inr (20, [.int 0, .ref ed, .int 0]), tl) := (hset_ne _ _ _ ((Ne.symm x1))).trans e11
  have e14 : (hset (hset (hset (hset (hset h la (.inr (20, [.int 0, .ref ed, .int 0])) tl) a (.inr (6, [.null, .null, .int 0, .int 0, .null, .int 0, .ref la])) t) a (.inr (6, [.ref s1, .null, .int 0, .int 0, .null, .int 0, .ref la])) t) a (.inr (6, [.ref s1, .ref s2, .int 0, .int 0, .null, .int 0, .ref la])) t) a (.inr (6, [.ref s1, .ref s2, .int (nI wt), .int 0, .null, .int 0, .ref la])) t) a = some (.inr (6, [.ref s1, .ref s2, .int (nI wt), .int 0, .null, .int 0, .ref la]), t) := hset_self _ _ _ _
  refine lv_aload_n hx hb dX7_init_30 rfl (lv_at hl 0 rfl) ?_
  refine lv_iload hx hb dX7_init_31 (lv_at hl 4 rfl) ?_
  refine hp_putF (C := RX8) (T := TX8) (N := 7) (v := .int rm) (ty := .int) hx hb hts in_X8 tyX8 tyX8_ok nmX8 hown hK hH hS e14 rfl 3 (by decide) (hts _ q739) (fun _ z => z) rfl hnm rfl (by decide +kernel) rfl rfl (Nat.le_of_ble_eq_true rfl) dX7_init_33 (fun H locs _ hH hS => ?_)
  have hH : HP D CL (zA s0) (hset (hset (hset (hset (hset (hset h la (.inr (20, [.int 0, .ref ed, .int 0])) tl) a (.inr (6, [.null, .null, .int 0, .int 0, .null, .int 0, .ref la])) t) a (.inr (6, [.ref s1, .null, .int 0, .int 0, .null, .int 0, .ref la])) t) a (.inr (6, [.ref s1, .ref s2, .int 0, .int 0, .null, .int 0, .ref la])) t) a (.inr (6, [.ref s1, .ref s2, .int (nI wt), .int 0, .null, .int 0, .ref la])) t) a (.inr (6, [.ref s1, .ref s2, .int (nI wt), .int rm, .null, .int 0, .ref la])) t) H := hH
  have e15 : (hset (hset (hset (hset (hset (hset h la (.inr (20, [.int 0, .ref ed, .int 0])) tl) a (.inr (6, [.null, .null, .int 0, .int 0, .null, .int 0, .ref la])) t) a (.inr (6, [.ref s1, .null, .int 0, .int 0, .null, .int 0, .ref la])) t) a (.inr (6, [.ref s1, .ref s2, .int 0, .int 0, .null, .int 0, .ref la])) t) a (.inr (6, [.ref s1, .ref s2, .int (nI wt), .int 0, .null, .int 0, .ref la])) t) a (.inr (6, [.ref s1, .ref s2, .int (nI wt), .int rm, .null, .int 0, .ref la])) t) la = some (.inr (20, [.int 0, .ref ed, .int 0]), tl) := (hset_ne _ _ _ ((Ne.symm x1))).trans e13
  have e16 : (hset (hset (hset (hset (hset (hset h la (.inr (20, [.int 0, .ref ed, .int 0])) tl) a (.inr (6, [.null, .null, .int 0, .int 0, .null, .int 0, .ref la])) t) a (.inr (6, [.ref s1, .null, .int 0, .int 0, .null, .int 0, .ref la])) t) a (.inr (6, [.ref s1, .ref s2, .int 0, .int 0, .null, .int 0, .ref la])) t) a (.inr (6, [.ref s1, .ref s2, .int (nI wt), .int 0, .null, .int 0, .ref la])) t) a (.inr (6, [.ref s1, .ref s2, .int (nI wt), .int rm, .null, .int 0, .ref la])) t) a = some (.inr (6, [.ref s1, .ref s2, .int (nI wt), .int rm, .null, .int 0, .ref la]), t) := hset_self _ _ _ _
  refine lv_aload_n hx hb dX7_init_36 rfl (lv_at hl 0 rfl) ?_
  refine lv_aload hx hb dX7_init_37 (lv_at hl 5 rfl) ?_
  refine hp_putF (C := RX8) (T := TX8) (N := 7) (v := .ref z9) (ty := (.object "FirstIn$Mark")) hx hb hts in_X8 tyX8 tyX8_ok nmX8 hown hK hH hS e16 rfl 4 (by decide) (hts _ q741) (fun _ z => z) rfl hnm rfl (by decide +kernel) rfl rfl (Nat.le_of_ble_eq_true rfl) dX7_init_39 (fun H locs _ hH hS => ?_)
  have hH : HP D CL (zA s0) (hset (hset (hset (hset (hset (hset (hset h la (.inr (20, [.int 0, .ref ed, .int 0])) tl) a (.inr (6, [.null, .null, .int 0, .int 0, .null, .int 0, .ref la])) t) a (.inr (6, [.ref s1, .null, .int 0, .int 0, .null, .int 0, .ref la])) t) a (.inr (6, [.ref s1, .ref s2, .int 0, .int 0, .null, .int 0, .ref la])) t) a (.inr (6, [.ref s1, .ref s2, .int (nI wt), .int 0, .null, .int 0, .ref la])) t) a (.inr (6, [.ref s1, .ref s2, .int (nI wt), .int rm, .null, .int 0, .ref la])) t) a (.inr (6, [.ref s1, .ref s2, .int (nI wt), .int rm, .ref z9, .int 0, .ref la])) t) H := hH
  have e17 : (hset (hset (hset (hset (hset (hset (hset h la (.inr (20, [.int 0, .ref ed, .int 0])) tl) a (.inr (6, [.null, .null, .int 0, .int 0, .null, .int 0, .ref la])) t) a (.inr (6, [.ref s1, .null, .int 0, .int 0, .null, .int 0, .ref la])) t) a (.inr (6, [.ref s1, .ref s2, .int 0, .int 0, .null, .int 0, .ref la])) t) a (.inr (6, [.ref s1, .ref s2, .int (nI wt), .int 0, .null, .int 0, .ref la])) t) a (.inr (6, [.ref s1, .ref s2, .int (nI wt), .int rm, .null, .int 0, .ref la])) t) a (.inr (6, [.ref s1, .ref s2, .int (nI wt), .int rm, .ref z9, .int 0, .ref la])) t) la = some (.inr (20, [.int 0, .ref ed, .int 0]), tl) := (hset_ne _ _ _ ((Ne.symm x1))).trans e15
  have e18 : (hset (hset (hset (hset (hset (hset (hset h la (.inr (20, [.int 0, .ref ed, .int 0])) tl) a (.inr (6, [.null, .null, .int 0, .int 0, .null, .int 0, .ref la])) t) a (.inr (6, [.ref s1, .null, .int 0, .int 0, .null, .int 0, .ref la])) t) a (.inr (6, [.ref s1, .ref s2, .int 0, .int 0, .null, .int 0, .ref la])) t) a (.inr (6, [.ref s1, .ref s2, .int (nI wt), .int 0, .null, .int 0, .ref la])) t) a (.inr (6, [.ref s1, .ref s2, .int (nI wt), .int rm, .null, .int 0, .ref la])) t) a (.inr (6, [.ref s1, .ref s2, .int (nI wt), .int rm, .ref z9, .int 0, .ref la])) t) a = some (.inr (6, [.ref s1, .ref s2, .int (nI wt), .int rm, .ref z9, .int 0, .ref la]), t) := hset_self _ _ _ _
  refine lv_iconst (v := nI 0) hx hb dX7_init_42 (by decide) ?_
  refine lv_istore (lv' := [(6, .int (nI 0)), (0, .ref a), (1, .ref s1), (2, .ref s2), (3, .int (nI wt)), (4, .int rm), (5, .ref z9)]) hx hb dX7_init_43 hl (by decide) rfl (fun ls hl => ?_)
  refine w_loopC4 (fun (x : Nat) (L : List Nat) (j : Nat) (hh : Hp) => 10 - x) (fun (x : Nat) (L : List Nat) (j : Nat) (hh : Hp) H locs ls cells slots => (x ≤ 10) ∧ (hh a = some (.inr (6, [.ref s1, .ref s2, .int (nI wt), .int rm, .ref z9, .int 0, .ref la]), t)) ∧ (AL (K 4) ed hh la tl L j) ∧ (CPL tc hh L (cpP 0 b1 b2 bu x 0)) ∧ (frO t tl h hh) ∧ (obK h hh) ∧ (j = 0 ∨ gcap (j - 1) + 1 ≤ L.length) ∧ (cells ≤ 1 + L.length + j ∧ slots ≤ 3 + 2 * L.length + gsum j) ∧ HP D CL (zA s0) hh H ∧ va_S (zA s0) s.heap H locs ∧ lv_has ls 8 [(0, .ref a), (6, .int (nI x))]) ?_ 0 ([]) 0 (hset (hset (hset (hset (hset (hset (hset h la (.inr (20, [.int 0, .ref ed, .int 0])) tl) a (.inr (6, [.null, .null, .int 0, .int 0, .null, .int 0, .ref la])) t) a (.inr (6, [.ref s1, .null, .int 0, .int 0, .null, .int 0, .ref la])) t) a (.inr (6, [.ref s1, .ref s2, .int 0, .int 0, .null, .int 0, .ref la])) t) a (.inr (6, [.ref s1, .ref s2, .int (nI wt), .int 0, .null, .int 0, .ref la])) t) a (.inr (6, [.ref s1, .ref s2, .int (nI wt), .int rm, .null, .int 0, .ref la])) t) a (.inr (6, [.ref s1, .ref s2, .int (nI wt), .int rm, .ref z9, .int 0, .ref la])) t) ⟨Nat.zero_le _, e18, al_nil (mcn := 0) (d := ed) e17 (by decide) (Or.inl ⟨rfl, rfl⟩), by rw [cpP_0]; exact ⟨rfl, fun i hi => absurd hi (Nat.not_lt_zero _)⟩, ru_fr he nla, ru_ob he nla, Or.inl rfl, by decide, hH, hS, lv_sub hl [1, 0] rfl⟩
  intro x L j hh ih45 H locs ls cells slots hP
  obtain ⟨hxx, ha, hAl, hcp, hfr, hok, hjl, hcs, hH, hS, hl⟩ := hP
  have hsa := side_fr hfr haw (Or.inl rfl) hsd1
  have hsb := side_fr hfr haw (Or.inr rfl) hsd2
  have hu9 := unl_fr hfr haw hun
  have hcl := cpP_len (kd := 0) (b1 := b1) (b2 := b2) (bu := bu) (x := x) (y := 0)
  have hc1 := hcp.1
  have hj13 := (AL.j13 hAl)
  have hj7 : j ≤ 7 := by rcases hjl with q | q; omega; exact gcap_7 j hj13 (by omega)
  have hg9 := gsum_7 j hj7
  have hg8 := gcap_8 j hj7
  refine lv_iload hx hb dX7_init_45 (lv_at hl 1 rfl) ?_
  refine lv_bipush (v := nI 10) hx hb dX7_init_47 (by decide) ?_
  refine lvN_ge (tgt := 104) hx hb (by first | omega | (refine Nat.lt_of_lt_of_le (Nat.mod_lt _ ?_) ?_ <;> omega)) (by first | omega | (refine Nat.lt_of_lt_of_le (Nat.mod_lt _ ?_) ?_ <;> omega)) dX7_init_49 (by decide) (fun c19 => ?_) (fun c19 => ?_)
  · exact hp_vret hx hb hr hlocks hH hS (by first | decide | omega | (simp only [rmk]; omega)) (by first | decide | omega | (simp only [rmk]; omega)) dX7_init_104 (⟨rfl, _, L, j, ha, hAl, by rw [show (10 : Nat) = x by omega]; exact hcp, hfr, hok⟩)
  · refine lv_iconst (v := nI 0) hx hb dX7_init_52 (by decide) ?_
    refine lv_istore (lv' := [(7, .int (nI 0)), (0, .ref a), (6, .int (nI x))]) hx hb dX7_init_53 hl (by decide) rfl (fun ls hl => ?_)
    refine w_loopC4 (fun (y : Nat) (L : List Nat) (j : Nat) (hh : Hp) => 10 - y) (fun (y : Nat) (L : List Nat) (j : Nat) (hh : Hp) H locs ls cells slots => (y ≤ 10) ∧ (hh a = some (.inr (6, [.ref s1, .ref s2, .int (nI wt), .int rm, .ref z9, .int 0, .ref la]), t)) ∧ (AL (K 4) ed hh la tl L j) ∧ (CPL tc hh L (cpP 0 b1 b2 bu x y)) ∧ (frO t tl h hh) ∧ (obK h hh) ∧ (j = 0 ∨ gcap (j - 1) + 1 ≤ L.length) ∧ (cells ≤ 1 + L.length + j ∧ slots ≤ 3 + 2 * L.length + gsum j) ∧ HP D CL (zA s0) hh H ∧ va_S (zA s0) s.heap H locs ∧ lv_has ls 8 [(0, .ref a), (6, .int (nI x)), (7, .int (nI y))]) ?_ 0 L j hh ⟨Nat.zero_le _, ha, hAl, hcp, hfr, hok, hjl, hcs, hH, hS, lv_sub hl [1, 2, 0] rfl⟩
    intro y L j hh ih55 H locs ls cells slots hP
    obtain ⟨hyy, ha, hAl, hcp, hfr, hok, hjl, hcs, hH, hS, hl⟩ := hP
    have hsa := side_fr hfr haw (Or.inl rfl) hsd1
    have hsb := side_fr hfr haw (Or.inr rfl) hsd2
    have hu9 := unl_fr hfr haw hun
    have hcl := cpP_len (kd := 0) (b1 := b1) (b2 := b2) (bu := bu) (x := x) (y := y)
    have hc1 := hcp.1
    have hj13 := (AL.j13 hAl)
    have hj7 : j ≤ 7 := by rcases hjl with q | q; omega; exact gcap_7 j hj13 (by omega)
    have hg9 := gsum_7 j hj7
    have hg8 := gcap_8 j hj7
    refine lv_iload hx hb dX7_init_55 (lv_at hl 2 rfl) ?_
    refine lv_bipush (v := nI 10) hx hb dX7_init_57 (by decide) ?_
    refine lvN_ge (tgt := 98) hx hb (by first | omega | (refine Nat.lt_of_lt_of_le (Nat.mod_lt _ ?_) ?_ <;> omega)) (by first | omega | (refine Nat.lt_of_lt_of_le (Nat.mod_lt _ ?_) ?_ <;> omega)) dX7_init_59 (by decide) (fun c20 => ?_) (fun c20 => ?_)
    · refine lv_iinc (v := nI (x + 1)) (lv' := [(6, .int (nI (x + 1))), (0, .ref a), (7, .int (nI y))]) hx hb dX7_init_98 hl (k := 1) rfl (nI_add x 1) (by decide) rfl (fun ls hl => ?_)
      refine lv_goto (tgt := 45) hx hb dX7_init_101 (by decide) ?_
      exact ih45 (x + 1) L j hh (by omega) H locs ls _ _ ⟨by omega, ha, hAl, by rw [cpP_x, ← show y = 10 by omega]; exact hcp, hfr, hok, hjl, hcs, hH, hS, lv_sub hl [1, 0] rfl⟩
    · refine lv_aload_n hx hb dX7_init_62 rfl (lv_at hl 0 rfl) ?_
      refine lv_iload hx hb dX7_init_63 (lv_at hl 1 rfl) ?_
      refine lv_iload hx hb dX7_init_65 (lv_at hl 2 rfl) ?_
      refine hp_callU (As := [.int (nI x), .int (nI y)]) (rest := []) (owner := "FirstIn$Rule") (x := ⟨"FirstIn$Rule", "holds", "(II)Z"⟩) hx hb hml hown hts hPB hK hH hS (mc_hld_X8 hK0 hG (rs := false) ha hsa hsb hb1 hb2 (x := x) (y := y) (by omega) (by omega) hu9) ha rfl rfl 2 (va_cwU 2 hts (lw_U q687 q689 q690 q688 q125 q712) rfl rfl rfl rfl (by decide +kernel) (by first | decide | omega | (simp only [rmk]; omega))) rfl hl.1 rfl (Nat.le_of_ble_eq_true rfl) (by first | decide | omega | (simp only [rmk]; omega)) dX7_init_67 (fun v21 h23 H locs hp22 _ hH hS => ?_)
      obtain ⟨rfl, hq⟩ := hp22
      rw [hq] at hH
      refine lvB_eq (tgt := 92) hx hb dX7_init_70 (by decide) (fun ch => ?_) (fun ch => ?_)
      · refine lv_iinc (v := nI (y + 1)) (lv' := [(7, .int (nI (y + 1))), (0, .ref a), (6, .int (nI x))]) hx hb dX7_init_92 hl (k := 2) rfl (nI_add y 1) (by decide) rfl (fun ls hl => ?_)
        refine lv_goto (tgt := 55) hx hb dX7_init_95 (by decide) ?_
        exact ih55 (y + 1) L j hh (by omega) H locs ls _ _ ⟨by omega, ha, hAl, by rw [cpP_f ch]; exact hcp, hfr, hok, hjl, hcs, hH, hS, lv_sub hl [1, 2, 0] rfl⟩
      · refine lv_aload_n hx hb dX7_init_73 rfl (lv_at hl 0 rfl) ?_
        refine hp_get (C := RX8) (T := TX8) (N := 7) (v := .ref la) hx hb hts in_X8 hown hK hH ha rfl 6 (by decide) (hts _ q745) (fun _ z => z) rfl dX7_init_74 ?_
        obtain ⟨nw24, hnw24, nnw24⟩ := hH.fr
        refine hp_new (ci := 7) (C := RX9) (T := TX9) (N := 2) (fs := [.int 0, .int 0]) hx hb hts in_X9 tyX9 tyX9_ok hown (hts _ q714) (hts _ q715) (hts _ q127) hK hH hS hA rfl (by decide) (by first | decide | omega | (simp only [rmk]; omega)) (by first | decide | omega | (simp only [rmk]; omega)) tc dX7_init_77 (fun H _ hH hS => ?_)
        rw [← hnw24] at hH ⊢
        have hH : HP D CL (zA s0) (hset hh nw24 (.inr (7, [.int 0, .int 0])) tc) H := hH
        have x25 : a ≠ nw24 := ne_new ha nnw24
        have e26 : (hset hh nw24 (.inr (7, [.int 0, .int 0])) tc) a = some (.inr (6, [.ref s1, .ref s2, .int (nI wt), .int rm, .ref z9, .int 0, .ref la]), t) := (hset_ne _ _ _ (x25)).trans ha
        have e27 : (hset hh nw24 (.inr (7, [.int 0, .int 0])) tc) nw24 = some (.inr (7, [.int 0, .int 0]), tc) := hset_self _ _ _ _
        refine lv_dup hx hb dX7_init_80 rfl ?_
        refine lv_iload hx hb dX7_init_81 (lv_at hl 1 rfl) ?_
        refine lv_iload hx hb dX7_init_83 (lv_at hl 2 rfl) ?_
        refine hp_callI (As := [.int (nI x), .int (nI y)]) (rest := [.ref nw24, .ref la]) hx hb hml hown hts hPB hH hS (mc_couple hK0 hG (x := x) (y := y) e27) 2 q716 q717 q127 q718 rfl (by decide +kernel) ⟨rfl, rfl⟩ (by first | decide | omega | (simp only [rmk]; omega)) rfl hl.1 rfl (Nat.le_of_ble_eq_true rfl) (by first | decide | omega | (simp only [rmk]; omega)) dX7_init_85 (fun v28 h30 H locs hp29 _ hH hS => ?_)
        obtain ⟨rfl, hq⟩ := hp29
        rw [hq, hset_hset] at hH
        have hec : (hset hh nw24 (.inr (7, [.int (nI x), .int (nI y)])) tc) nw24 = some (.inr (7, [.int (nI x), .int (nI y)]), tc) := hset_self _ _ _ _
        have hx9 : exH hh (hset hh nw24 (.inr (7, [.int (nI x), .int (nI y)])) tc) := exH.new nnw24
        refine hp_add hx hb hml hown hts hPB hK0 hK hH hS hG (x := nw24) (hAl.X hx9) ⟨_, _, _, hec⟩ (by have := gcap_13; omega) q731 (by first | decide | omega | (simp only [rmk]; omega)) hl.1 rfl (Nat.le_of_ble_eq_true rfl) (by first | decide | omega | (simp only [rmk]; omega)) dX7_init_88 (fun j2 h4 H locs hA4 hf4 hk4 hj4 hH hS => ?_)
        refine lv_pop hx hb dX7_init_91 rfl ?_
        refine lv_iinc (v := nI (y + 1)) (lv' := [(7, .int (nI (y + 1))), (0, .ref a), (6, .int (nI x))]) hx hb dX7_init_92 hl (k := 2) rfl (nI_add y 1) (by decide) rfl (fun ls hl => ?_)
        refine lv_goto (tgt := 55) hx hb dX7_init_95 (by decide) ?_
        exact ih55 (y + 1) (L ++ [nw24]) j2 h4 (by omega) H locs ls _ _ ⟨by omega, hf4 _ _ _ (hx9 _ _ _ ha) htt, hA4, by rw [cpP_t ch]; exact cpl_push (cpl_keep hcp (fun b e q => hf4 _ _ _ (hx9 _ _ _ q) htc)) (hf4 _ _ _ hec htc), (hfr.X hx9).T hf4, fun q z => hk4 q (by obtain ⟨c1, f1, u1, z1⟩ := hok q z; exact ⟨c1, f1, u1, hx9 _ _ _ z1⟩), j_next hjl hj4, by rw [len_push]; exact c_next hcs hj4, hH, hS, lv_sub hl [1, 2, 0] rfl⟩
set_option maxHeartbeats 4000000 in
theorem mc_ruleN_X11 (hK0 : va_K D CL (TYS K) s0) {av : Nat → Nat} {ed mi : Nat} (hG : GX s0 wd av ed mi) {a t tl tc s1 s2 w1 w2 b1 b2 wt : Nat} {rm : Int32} {bu : Option Nat} (he : h a = some (.inr (8, [.null, .null, .int 0, .int 0, .null, .int 0, .null]), t)) (hsd1 : SIDE h s1 w1 b1) (hsd2 : SIDE h s2 w2 b2) (hb1 : b1 < 1024) (hb2 : b2 < 1024) (hun : UNL h .null bu) (haw : awy t tl h s1 s2 .null) (htt : t ≠ tl) (htc : tc ≠ tl) : Met l yX7_init (ws_ yX7_init cX7_init 8 ((Option.none : Option Jvm.ClassFile.FieldType))) (rmk 7 110 700) (va_Pc [.ref a, .ref s1, .ref s2, .int (nI wt), .int rm, .null] (PB s0 D CL (h))) (QR s0 D CL (fun v h1 => v = none ∧ ∃ la L j, h1 a = some (.inr (8, [.ref s1, .ref s2, .int (nI wt), .int rm, .null, .int 0, .ref la]), t) ∧ AL (K 4) ed h1 la tl L j ∧ CPL tc h1 L (cpP 1 b1 b2 bu 10 0) ∧ frO t tl h h1 ∧ obK h h1)) 110 700 (zA s0) := by
  refine hp_met (by decide) (Nat.le_of_ble_eq_true rfl) hK0 ?_
  intro p e s m below meth cd ls hx hb hr hlocks hml hown hnm hts hK hPB hl hS hH hA
  have hl : lv_has ls 8 [(0, .ref a), (1, .ref s1), (2, .ref s2), (3, .int (nI wt)), (4, .int rm), (5, .null)] := hl
  have hown : s.vm.findClass RX7 = some m.cls := hown
  refine lv_aload_n hx hb dX7_init_0 rfl (lv_at hl 0 rfl) ?_
  refine hp_oinit hx hb hown hts q684 q150 q151 (hl.1.trans hml.symm) (by decide) (Nat.le_of_ble_eq_true rfl) dX7_init_1 ?_
  refine lv_aload_n hx hb dX7_init_4 rfl (lv_at hl 0 rfl) ?_
  obtain ⟨la, hla, nla⟩ := hH.fr
  refine hp_new (ci := 20) (C := RJ2) (T := TJ2) (N := 3) (fs := [.int 0, .null, .int 0]) hx hb hts in_J2 tyJ2 tyJ2_ok hown (hts _ q685) (hts _ q159) (hts _ q106) hK hH hS hA rfl (by decide) (by first | decide | omega | (simp only [rmk]; omega)) (by first | decide | omega | (simp only [rmk]; omega)) tl dX7_init_5 (fun H _ hH hS => ?_)
  rw [← hla] at hH ⊢
  have hH : HP D CL (zA s0) (hset h la (.inr (20, [.int 0, .null, .int 0])) tl) H := hH
  have x1 : a ≠ la := ne_new he nla
  have e2 : (hset h la (.inr (20, [.int 0, .null, .int 0])) tl) a = some (.inr (8, [.null, .null, .int 0, .int 0, .null, .int 0, .null]), t) := (hset_ne _ _ _ (x1)).trans he
  have e3 : (hset h la (.inr (20, [.int 0, .null, .int 0])) tl) la = some (.inr (20, [.int 0, .null, .int 0]), tl) := hset_self _ _ _ _
  refine lv_dup hx hb dX7_init_8 rfl ?_
  refine hp_callI (As := []) (rest := [.ref la, .ref a]) hx hb hml hown hts hPB hH hS (mj_ainit hK0 hG e3) 0 q686 q161 q106 q162 rfl (by decide +kernel) ⟨rfl, rfl⟩ (by first | decide | omega | (simp only [rmk]; omega)) rfl hl.1 rfl (Nat.le_of_ble_eq_true rfl) (by first | decide | omega | (simp only [rmk]; omega)) dX7_init_9 (fun v4 h6 H locs hp5 _ hH hS => ?_)
  obtain ⟨rfl, hq⟩ := hp5
  rw [hq, hset_hset] at hH
  have hel : (hset h la (.inr (20, [.int 0, .ref ed, .int 0])) tl) la = some (.inr (20, [.int 0, .ref ed, .int 0]), tl) := hset_self _ _ _ _
  have hea : (hset h la (.inr (20, [.int 0, .ref ed, .int 0])) tl) a = some (.inr (8, [.null, .null, .int 0, .int 0, .null, .int 0, .null]), t) := (hset_ne _ _ _ x1).trans he
  refine hp_putF (C := RX11) (T := TX11) (N := 7) (v := .ref la) (ty := (.object "java/util/ArrayList")) hx hb hts in_X11 tyX11 tyX11_ok nmX11 hown hK hH hS hea rfl 6 (by decide) (hts _ q745) (fun _ z => z) rfl hnm rfl (by decide +kernel) rfl rfl (Nat.le_of_ble_eq_true rfl) dX7_init_12 (fun H locs _ hH hS => ?_)
  have hH : HP D CL (zA s0) (hset (hset h la (.inr (20, [.int 0, .ref ed, .int 0])) tl) a (.inr (8, [.null, .null, .int 0, .int 0, .null, .int 0, .ref la])) t) H := hH
  have e7 : (hset (hset h la (.inr (20, [.int 0, .ref ed, .int 0])) tl) a (.inr (8, [.null, .null, .int 0, .int 0, .null, .int 0, .ref la])) t) la = some (.inr (20, [.int 0, .ref ed, .int 0]), tl) := (hset_ne _ _ _ ((Ne.symm x1))).trans hel
  have e8 : (hset (hset h la (.inr (20, [.int 0, .ref ed, .int 0])) tl) a (.inr (8, [.null, .null, .int 0, .int 0, .null, .int 0, .ref la])) t) a = some (.inr (8, [.null, .null, .int 0, .int 0, .null, .int 0, .ref la]), t) := hset_self _ _ _ _
  refine lv_aload_n hx hb dX7_init_15 rfl (lv_at hl 0 rfl) ?_
  refine lv_aload_n hx hb dX7_init_16 rfl (lv_at hl 1 rfl) ?_
  refine hp_putF (C := RX11) (T := TX11) (N := 7) (v := .ref s1) (ty := (.object "FirstIn$Side")) hx hb hts in_X11 tyX11 tyX11_ok nmX11 hown hK hH hS e8 rfl 0 (by decide) (hts _ q732) (fun _ z => z) rfl hnm rfl (by decide +kernel) rfl rfl (Nat.le_of_ble_eq_true rfl) dX7_init_17 (fun H locs _ hH hS => ?_)
  have hH : HP D CL (zA s0) (hset (hset (hset h la (.inr (20, [.int 0, .ref ed, .int 0])) tl) a (.inr (8, [.null, .null, .int 0, .int 0, .null, .int 0, .ref la])) t) a (.inr (8, [.ref s1, .null, .int 0, .int 0, .null, .int 0, .ref la])) t) H := hH
  have e9 : (hset (hset (hset h la (.inr (20, [.int 0, .ref ed, .int 0])) tl) a (.inr (8, [.null, .null, .int 0, .int 0, .null, .int 0, .ref la])) t) a (.inr (8, [.ref s1, .null, .int 0, .int 0, .null, .int 0, .ref la])) t) la = some (.inr (20, [.int 0, .ref ed, .int 0]), tl) := (hset_ne _ _ _ ((Ne.symm x1))).trans e7
  have e10 : (hset (hset (hset h la (.inr (20, [.int 0, .ref ed, .int 0])) tl) a (.inr (8, [.null, .null, .int 0, .int 0, .null, .int 0, .ref la])) t) a (.inr (8, [.ref s1, .null, .int 0, .int 0, .null, .int 0, .ref la])) t) a = some (.inr (8, [.ref s1, .null, .int 0, .int 0, .null, .int 0, .ref la]), t) := hset_self _ _ _ _
  refine lv_aload_n hx hb dX7_init_20 rfl (lv_at hl 0 rfl) ?_
  refine lv_aload_n hx hb dX7_init_21 rfl (lv_at hl 2 rfl) ?_
  refine hp_putF (C := RX11) (T := TX11) (N := 7) (v := .ref s2) (ty := (.object "FirstIn$Side")) hx hb hts in_X11 tyX11 tyX11_ok nmX11 hown hK hH hS e10 rfl 1 (by decide) (hts _ q734) (fun _ z => z) rfl hnm rfl (by decide +kernel) rfl rfl (Nat.le_of_ble_eq_true rfl) dX7_init_22 (fun H locs _ hH hS => ?_)
  have hH : HP D CL (zA s0) (hset (hset (hset (hset h la (.inr (20, [.int 0, .ref ed, .int 0])) tl) a (.inr (8, [.null, .null, .int 0, .int 0, .null, .int 0, .ref la])) t) a (.inr (8, [.ref s1, .null, .int 0, .int 0, .null, .int 0, .ref la])) t) a (.inr (8, [.ref s1, .ref s2, .int 0, .int 0, .null, .int 0, .ref la])) t) H := hH
  have e11 : (hset (hset (hset (hset h la (.inr (20, [.int 0, .ref ed, .int 0])) tl) a (.inr (8, [.null, .null, .int 0, .int 0, .null, .int 0, .ref la])) t) a (.inr (8, [.ref s1, .null, .int 0, .int 0, .null, .int 0, .ref la])) t) a (.inr (8, [.ref s1, .ref s2, .int 0, .int 0, .null, .int 0, .ref la])) t) la = some (.inr (20, [.int 0, .ref ed, .int 0]), tl) := (hset_ne _ _ _ ((Ne.symm x1))).trans e9
  have e12 : (hset (hset (hset (hset h la (.inr (20, [.int 0, .ref ed, .int 0])) tl) a (.inr (8, [.null, .null, .int 0, .int 0, .null, .int 0, .ref la])) t) a (.inr (8, [.ref s1, .null, .int 0, .int 0, .null, .int 0, .ref la])) t) a (.inr (8, [.ref s1, .ref s2, .int 0, .int 0, .null, .int 0, .ref la])) t) a = some (.inr (8, [.ref s1, .ref s2, .int 0, .int 0, .null, .int 0, .ref la]), t) := hset_self _ _ _ _
  refine lv_aload_n hx hb dX7_init_25 rfl (lv_at hl 0 rfl) ?_
  refine lv_iload_n hx hb dX7_init_26 rfl (lv_at hl 3 rfl) ?_
  refine hp_putF (C := RX11) (T := TX11) (N := 7) (v := .int (nI wt)) (ty := .int) hx hb hts in_X11 tyX11 tyX11_ok nmX11 hown hK hH hS e12 rfl 2 (by decide) (hts _ q736) (fun _ z => z) rfl hnm rfl (by decide +kernel) rfl rfl (Nat.le_of_ble_eq_true rfl) dX7_init_27 (fun H locs _ hH hS => ?_)
  have hH : HP D CL (zA s0) (hset (hset (hset (hset (hset h la (.inr (20, [.int 0, .ref ed, .int 0])) tl) a (.inr (8, [.null, .null, .int 0, .int 0, .null, .int 0, .ref la])) t) a (.inr (8, [.ref s1, .null, .int 0, .int 0, .null, .int 0, .ref la])) t) a (.inr (8, [.ref s1, .ref s2, .int 0, .int 0, .null, .int 0, .ref la])) t) a (.inr (8, [.ref s1, .ref s2, .int (nI wt), .int 0, .null, .int 0, .ref la])) t) H := hH
  have e13 : (hset (hset (hset (hset (hset h la (.inr (20, [.int 0, .ref ed, .int 0])) tl) a (.inr (8, [.null, .null, .int 0, .int 0, .null, .int 0, .ref la])) t) a (.inr (8, [.ref s1, .null, .int 0, .int 0, .null, .int 0, .ref la])) t) a (.inr (8, [.ref s1, .ref s2, .int 0, .int 0, .null, .int 0, .ref la])) t) a (.inr (8, [.ref s1, .ref s2, .int (nI wt), .int 0, .null, .int 0, .ref la])) t) la = some (.inr (20, [.int 0, .ref ed, .int 0]), tl) := (hset_ne _ _ _ ((Ne.symm x1))).trans e11
  have e14 : (hset (hset (hset (hset (hset h la (.inr (20, [.int 0, .ref ed, .int 0])) tl) a (.inr (8, [.null, .null, .int 0, .int 0, .null, .int 0, .ref la])) t) a (.inr (8, [.ref s1, .null, .int 0, .int 0, .null, .int 0, .ref la])) t) a (.inr (8, [.ref s1, .ref s2, .int 0, .int 0, .null, .int 0, .ref la])) t) a (.inr (8, [.ref s1, .ref s2, .int (nI wt), .int 0, .null, .int 0, .ref la])) t) a = some (.inr (8, [.ref s1, .ref s2, .int (nI wt), .int 0, .null, .int 0, .ref la]), t) := hset_self _ _ _ _
  refine lv_aload_n hx hb dX7_init_30 rfl (lv_at hl 0 rfl) ?_
  refine lv_iload hx hb dX7_init_31 (lv_at hl 4 rfl) ?_
  refine hp_putF (C := RX11) (T := TX11) (N := 7) (v := .int rm) (ty := .int) hx hb hts in_X11 tyX11 tyX11_ok nmX11 hown hK hH hS e14 rfl 3 (by decide) (hts _ q739) (fun _ z => z) rfl hnm rfl (by decide +kernel) rfl rfl (Nat.le_of_ble_eq_true rfl) dX7_init_33 (fun H locs _ hH hS => ?_)
  have hH : HP D CL (zA s0) (hset (hset (hset (hset (hset (hset h la (.inr (20, [.int 0, .ref ed, .int 0])) tl) a (.inr (8, [.null, .null, .int 0, .int 0, .null, .int 0, .ref la])) t) a (.inr (8, [.ref s1, .null, .int 0, .int 0, .null, .int 0, .ref la])) t) a (.inr (8, [.ref s1, .ref s2, .int 0, .int 0, .null, .int 0, .ref la])) t) a (.inr (8, [.ref s1, .ref s2, .int (nI wt), .int 0, .null, .int 0, .ref la])) t) a (.inr (8, [.ref s1, .ref s2, .int (nI wt), .int rm, .null, .int 0, .ref la])) t) H := hH
  have e15 : (hset (hset (hset (hset (hset (hset h la (.inr (20, [.int 0, .ref ed, .int 0])) tl) a (.inr (8, [.null, .null, .int 0, .int 0, .null, .int 0, .ref la])) t) a (.inr (8, [.ref s1, .null, .int 0, .int 0, .null, .int 0, .ref la])) t) a (.inr (8, [.ref s1, .ref s2, .int 0, .int 0, .null, .int 0, .ref la])) t) a (.inr (8, [.ref s1, .ref s2, .int (nI wt), .int 0, .null, .int 0, .ref la])) t) a (.inr (8, [.ref s1, .ref s2, .int (nI wt), .int rm, .null, .int 0, .ref la])) t) la = some (.inr (20, [.int 0, .ref ed, .int 0]), tl) := (hset_ne _ _ _ ((Ne.symm x1))).trans e13
  have e16 : (hset (hset (hset (hset (hset (hset h la (.inr (20, [.int 0, .ref ed, .int 0])) tl) a (.inr (8, [.null, .null, .int 0, .int 0, .null, .int 0, .ref la])) t) a (.inr (8, [.ref s1, .null, .int 0, .int 0, .null, .int 0, .ref la])) t) a (.inr (8, [.ref s1, .ref s2, .int 0, .int 0, .null, .int 0, .ref la])) t) a (.inr (8, [.ref s1, .ref s2, .int (nI wt), .int 0, .null, .int 0, .ref la])) t) a (.inr (8, [.ref s1, .ref s2, .int (nI wt), .int rm, .null, .int 0, .ref la])) t) a = some (.inr (8, [.ref s1, .ref s2, .int (nI wt), .int rm, .null, .int 0, .ref la]), t) := hset_self _ _ _ _
  refine lv_aload_n hx hb dX7_init_36 rfl (lv_at hl 0 rfl) ?_
  refine lv_aloadN hx hb dX7_init_37 (lv_at hl 5 rfl) ?_
  refine hp_putF (C := RX11) (T := TX11) (N := 7) (v := .null) (ty := (.object "FirstIn$Mark")) hx hb hts in_X11 tyX11 tyX11_ok nmX11 hown hK hH hS e16 rfl 4 (by decide) (hts _ q741) (fun _ z => z) rfl hnm rfl (by decide +kernel) rfl rfl (Nat.le_of_ble_eq_true rfl) dX7_init_39 (fun H locs _ hH hS => ?_)
  have hH : HP D CL (zA s0) (hset (hset (hset (hset (hset (hset (hset h la (.inr (20, [.int 0, .ref ed, .int 0])) tl) a (.inr (8, [.null, .null, .int 0, .int 0, .null, .int 0, .ref la])) t) a (.inr (8, [.ref s1, .null, .int 0, .int 0, .null, .int 0, .ref la])) t) a (.inr (8, [.ref s1, .ref s2, .int 0, .int 0, .null, .int 0, .ref la])) t) a (.inr (8, [.ref s1, .ref s2, .int (nI wt), .int 0, .null, .int 0, .ref la])) t) a (.inr (8, [.ref s1, .ref s2, .int (nI wt), .int rm, .null, .int 0, .ref la])) t) a (.inr (8, [.ref s1, .ref s2, .int (nI wt), .int rm, .null, .int 0, .ref la])) t) H := hH
  have e17 : (hset (hset (hset (hset (hset (hset (hset h la (.inr (20, [.int 0, .ref ed, .int 0])) tl) a (.inr (8, [.null, .null, .int 0, .int 0, .null, .int 0, .ref la])) t) a (.inr (8, [.ref s1, .null, .int 0, .int 0, .null, .int 0, .ref la])) t) a (.inr (8, [.ref s1, .ref s2, .int 0, .int 0, .null, .int 0, .ref la])) t) a (.inr (8, [.ref s1, .ref s2, .int (nI wt), .int 0, .null, .int 0, .ref la])) t) a (.inr (8, [.ref s1, .ref s2, .int (nI wt), .int rm, .null, .int 0, .ref la])) t) a (.inr (8, [.ref s1, .ref s2, .int (nI wt), .int rm, .null, .int 0, .ref la])) t) la = some (.inr (20, [.int 0, .ref ed, .int 0]), tl) := (hset_ne _ _ _ ((Ne.symm x1))).trans e15
  have e18 : (hset (hset (hset (hset (hset (hset (hset h la (.inr (20, [.int 0, .ref ed, .int 0])) tl) a (.inr (8, [.null, .null, .int 0, .int 0, .null, .int 0, .ref la])) t) a (.inr (8, [.ref s1, .null, .int 0, .int 0, .null, .int 0, .ref la])) t) a (.inr (8, [.ref s1, .ref s2, .int 0, .int 0, .null, .int 0, .ref la])) t) a (.inr (8, [.ref s1, .ref s2, .int (nI wt), .int 0, .null, .int 0, .ref la])) t) a (.inr (8, [.ref s1, .ref s2, .int (nI wt), .int rm, .null, .int 0, .ref la])) t) a (.inr (8, [.ref s1, .ref s2, .int (nI wt), .int rm, .null, .int 0, .ref la])) t) a = some (.inr (8, [.ref s1, .ref s2, .int (nI wt), .int rm, .null, .int 0, .ref la]), t) := hset_self _ _ _ _
  refine lv_iconst (v := nI 0) hx hb dX7_init_42 (by decide) ?_
  refine lv_istore (lv' := [(6, .int (nI 0)), (0, .ref a), (1, .ref s1), (2, .ref s2), (3, .int (nI wt)), (4, .int rm), (5, .null)]) hx hb dX7_init_43 hl (by decide) rfl (fun ls hl => ?_)
  refine w_loopC4 (fun (x : Nat) (L : List Nat) (j : Nat) (hh : Hp) => 10 - x) (fun (x : Nat) (L : List Nat) (j : Nat) (hh : Hp) H locs ls cells slots => (x ≤ 10) ∧ (hh a = some (.inr (8, [.ref s1, .ref s2, .int (nI wt), .int rm, .null, .int 0, .ref la]), t)) ∧ (AL (K 4) ed hh la tl L j) ∧ (CPL tc hh L (cpP 1 b1 b2 bu x 0)) ∧ (frO t tl h hh) ∧ (obK h hh) ∧ (j = 0 ∨ gcap (j - 1) + 1 ≤ L.length) ∧ (cells ≤ 1 + L.length + j ∧ slots ≤ 3 + 2 * L.length + gsum j) ∧ HP D CL (zA s0) hh H ∧ va_S (zA s0) s.heap H locs ∧ lv_has ls 8 [(0, .ref a), (6, .int (nI x))]) ?_ 0 ([]) 0 (hset (hset (hset (hset (hset (hset (hset h la (.inr (20, [.int 0, .ref ed, .int 0])) tl) a (.inr (8, [.null, .null, .int 0, .int 0, .null, .int 0, .ref la])) t) a (.inr (8, [.ref s1, .null, .int 0, .int 0, .null, .int 0, .ref la])) t) a (.inr (8, [.ref s1, .ref s2, .int 0, .int 0, .null, .int 0, .ref la])) t) a (.inr (8, [.ref s1, .ref s2, .int (nI wt), .int 0, .null, .int 0, .ref la])) t) a (.inr (8, [.ref s1, .ref s2, .int (nI wt), .int rm, .null, .int 0, .ref la])) t) a (.inr (8, [.ref s1, .ref s2, .int (nI wt), .int rm, .null, .int 0, .ref la])) t) ⟨Nat.zero_le _, e18, al_nil (mcn := 0) (d := ed) e17 (by decide) (Or.inl ⟨rfl, rfl⟩), by rw [cpP_0]; exact ⟨rfl, fun i hi => absurd hi (Nat.not_lt_zero _)⟩, ru_fr he nla, ru_ob he nla, Or.inl rfl, by decide, hH, hS, lv_sub hl [1, 0] rfl⟩
  intro x L j hh ih45 H locs ls cells slots hP
  obtain ⟨hxx, ha, hAl, hcp, hfr, hok, hjl, hcs, hH, hS, hl⟩ := hP
  have hsa := side_fr hfr haw (Or.inl rfl) hsd1
  have hsb := side_fr hfr haw (Or.inr rfl) hsd2
  have hu9 := unl_fr hfr haw hun
  have hcl := cpP_len (kd := 1) (b1 := b1) (b2 := b2) (bu := bu) (x := x) (y := 0)
  have hc1 := hcp.1
  have hj13 := (AL.j13 hAl)
  have hj7 : j ≤ 7 := by rcases hjl with q | q; omega; exact gcap_7 j hj13 (by omega)
  have hg9 := gsum_7 j hj7
  have hg8 := gcap_8 j hj7
  refine lv_iload hx hb dX7_init_45 (lv_at hl 1 rfl) ?_
  refine lv_bipush (v := nI 10) hx hb dX7_init_47 (by decide) ?_
  refine lvN_ge (tgt := 104) hx hb (by first | omega | (refine Nat.lt_of_lt_of_le (Nat.mod_lt _ ?_) ?_ <;> omega)) (by first | omega | (refine Nat.lt_of_lt_of_le (Nat.mod_lt _ ?_) ?_ <;> omega)) dX7_init_49 (by decide) (fun c19 => ?_) (fun c19 => ?_)
  · exact hp_vret hx hb hr hlocks hH hS (by first | decide | omega | (simp only [rmk]; omega)) (by first | decide | omega | (simp only [rmk]; omega)) dX7_init_104 (⟨rfl, _, L, j, ha, hAl, by rw [show (10 : Nat) = x by omega]; exact hcp, hfr, hok⟩)
  · refine lv_iconst (v := nI 0) hx hb dX7_init_52 (by decide) ?_
    refine lv_istore (lv' := [(7, .int (nI 0)), (0, .ref a), (6, .int (nI x))]) hx hb dX7_init_53 hl (by decide) rfl (fun ls hl => ?_)
    refine w_loopC4 (fun (y : Nat) (L : List Nat) (j : Nat) (hh : Hp) => 10 - y) (fun (y : Nat) (L : List Nat) (j : Nat) (hh : Hp) H locs ls cells slots => (y ≤ 10) ∧ (hh a = some (.inr (8, [.ref s1, .ref s2, .int (nI wt), .int rm, .null, .int 0, .ref la]), t)) ∧ (AL (K 4) ed hh la tl L j) ∧ (CPL tc hh L (cpP 1 b1 b2 bu x y)) ∧ (frO t tl h hh) ∧ (obK h hh) ∧ (j = 0 ∨ gcap (j - 1) + 1 ≤ L.length) ∧ (cells ≤ 1 + L.length + j ∧ slots ≤ 3 + 2 * L.length + gsum j) ∧ HP D CL (zA s0) hh H ∧ va_S (zA s0) s.heap H locs ∧ lv_has ls 8 [(0, .ref a), (6, .int (nI x)), (7, .int (nI y))]) ?_ 0 L j hh ⟨Nat.zero_le _, ha, hAl, hcp, hfr, hok, hjl, hcs, hH, hS, lv_sub hl [1, 2, 0] rfl⟩
    intro y L j hh ih55 H locs ls cells slots hP
    obtain ⟨hyy, ha, hAl, hcp, hfr, hok, hjl, hcs, hH, hS, hl⟩ := hP
    have hsa := side_fr hfr haw (Or.inl rfl) hsd1
    have hsb := side_fr hfr haw (Or.inr rfl) hsd2
    have hu9 := unl_fr hfr haw hun
    have hcl := cpP_len (kd := 1) (b1 := b1) (b2 := b2) (bu := bu) (x := x) (y := y)
    have hc1 := hcp.1
    have hj13 := (AL.j13 hAl)
    have hj7 : j ≤ 7 := by rcases hjl with q | q; omega; exact gcap_7 j hj13 (by omega)
    have hg9 := gsum_7 j hj7
    have hg8 := gcap_8 j hj7
    refine lv_iload hx hb dX7_init_55 (lv_at hl 2 rfl) ?_
    refine lv_bipush (v := nI 10) hx hb dX7_init_57 (by decide) ?_
    refine lvN_ge (tgt := 98) hx hb (by first | omega | (refine Nat.lt_of_lt_of_le (Nat.mod_lt _ ?_) ?_ <;> omega)) (by first | omega | (refine Nat.lt_of_lt_of_le (Nat.mod_lt _ ?_) ?_ <;> omega)) dX7_init_59 (by decide) (fun c20 => ?_) (fun c20 => ?_)
    · refine lv_iinc (v := nI (x + 1)) (lv' := [(6, .int (nI (x + 1))), (0, .ref a), (7, .int (nI y))]) hx hb dX7_init_98 hl (k := 1) rfl (nI_add x 1) (by decide) rfl (fun ls hl => ?_)
      refine lv_goto (tgt := 45) hx hb dX7_init_101 (by decide) ?_
      exact ih45 (x + 1) L j hh (by omega) H locs ls _ _ ⟨by omega, ha, hAl, by rw [cpP_x, ← show y = 10 by omega]; exact hcp, hfr, hok, hjl, hcs, hH, hS, lv_sub hl [1, 0] rfl⟩
    · refine lv_aload_n hx hb dX7_init_62 rfl (lv_at hl 0 rfl) ?_
      refine lv_iload hx hb dX7_init_63 (lv_at hl 1 rfl) ?_
      refine lv_iload hx hb dX7_init_65 (lv_at hl 2 rfl) ?_
      refine hp_callU (As := [.int (nI x), .int (nI y)]) (rest := []) (owner := "FirstIn$Rule") (x := ⟨"FirstIn$Rule", "holds", "(II)Z"⟩) hx hb hml hown hts hPB hK hH hS (mc_hld_X11 hK0 hG (rs := false) ha hsa hsb hb1 hb2 (x := x) (y := y) (by omega) (by omega) hu9) ha rfl rfl 2 (va_cwO 2 hts (lw_O q687 q689 q688 q711 q692 q128 q693) rfl rfl rfl q712 (by decide +kernel) (by first | decide | omega | (simp only [rmk]; omega))) rfl hl.1 rfl (Nat.le_of_ble_eq_true rfl) (by first | decide | omega | (simp only [rmk]; omega)) dX7_init_67 (fun v21 h23 H locs hp22 _ hH hS => ?_)
      obtain ⟨rfl, hq⟩ := hp22
      rw [hq] at hH
      refine lvB_eq (tgt := 92) hx hb dX7_init_70 (by decide) (fun ch => ?_) (fun ch => ?_)
      · refine lv_iinc (v := nI (y + 1)) (lv' := [(7, .int (nI (y + 1))), (0, .ref a), (6, .int (nI x))]) hx hb dX7_init_92 hl (k := 2) rfl (nI_add y 1) (by decide) rfl (fun ls hl => ?_)
        refine lv_goto (tgt := 55) hx hb dX7_init_95 (by decide) ?_
        exact ih55 (y + 1) L j hh (by omega) H locs ls _ _ ⟨by omega, ha, hAl, by rw [cpP_f ch]; exact hcp, hfr, hok, hjl, hcs, hH, hS, lv_sub hl [1, 2, 0] rfl⟩
      · refine lv_aload_n hx hb dX7_init_73 rfl (lv_at hl 0 rfl) ?_
        refine hp_get (C := RX11) (T := TX11) (N := 7) (v := .ref la) hx hb hts in_X11 hown hK hH ha rfl 6 (by decide) (hts _ q745) (fun _ z => z) rfl dX7_init_74 ?_
        obtain ⟨nw24, hnw24, nnw24⟩ := hH.fr
        refine hp_new (ci := 7) (C := RX9) (T := TX9) (N := 2) (fs := [.int 0, .int 0]) hx hb hts in_X9 tyX9 tyX9_ok hown (hts _ q714) (hts _ q715) (hts _ q127) hK hH hS hA rfl (by decide) (by first | decide | omega | (simp only [rmk]; omega)) (by first | decide | omega | (simp only [rmk]; omega)) tc dX7_init_77 (fun H _ hH hS => ?_)
        rw [← hnw24] at hH ⊢
        have hH : HP D CL (zA s0) (hset hh nw24 (.inr (7, [.int 0, .int 0])) tc) H := hH
        have x25 : a ≠ nw24 := ne_new ha nnw24
        have e26 : (hset hh nw24 (.inr (7, [.int 0, .int 0])) tc) a = some (.inr (8, [.ref s1, .ref s2, .int (nI wt), .int rm, .null, .int 0, .ref la]), t) := (hset_ne _ _ _ (x25)).trans ha
        have e27 : (hset hh nw24 (.inr (7, [.int 0, .int 0])) tc) nw24 = some (.inr (7, [.int 0, .int 0]), tc) := hset_self _ _ _ _
        refine lv_dup hx hb dX7_init_80 rfl ?_
        refine lv_iload hx hb dX7_init_81 (lv_at hl 1 rfl) ?_
        refine lv_iload hx hb dX7_init_83 (lv_at hl 2 rfl) ?_
        refine hp_callI (As := [.int (nI x), .int (nI y)]) (rest := [.ref nw24, .ref la]) hx hb hml hown hts hPB hH hS (mc_couple hK0 hG (x := x) (y := y) e27) 2 q716 q717 q127 q718 rfl (by decide +kernel) ⟨rfl, rfl⟩ (by first | decide | omega | (simp only [rmk]; omega)) rfl hl.1 rfl (Nat.le_of_ble_eq_true rfl) (by first | decide | omega | (simp only [rmk]; omega)) dX7_init_85 (fun v28 h30 H locs hp29 _ hH hS => ?_)
        obtain ⟨rfl, hq⟩ := hp29
        rw [hq, hset_hset] at hH
        have hec : (hset hh nw24 (.inr (7, [.int (nI x), .int (nI y)])) tc) nw24 = some (.inr (7, [.int (nI x), .int (nI y)]), tc) := hset_self _ _ _ _
        have hx9 : exH hh (hset hh nw24 (.inr (7, [.int (nI x), .int (nI y)])) tc) := exH.new nnw24
        refine hp_add hx hb hml hown hts hPB hK0 hK hH hS hG (x := nw24) (hAl.X hx9) ⟨_, _, _, hec⟩ (by have := gcap_13; omega) q731 (by first | decide | omega | (simp only [rmk]; omega)) hl.1 rfl (Nat.le_of_ble_eq_true rfl) (by first | decide | omega | (simp only [rmk]; omega)) dX7_init_88 (fun j2 h4 H locs hA4 hf4 hk4 hj4 hH hS => ?_)
        refine lv_pop hx hb dX7_init_91 rfl ?_
        refine lv_iinc (v := nI (y + 1)) (lv' := [(7, .int (nI (y + 1))), (0, .ref a), (6, .int (nI x))]) hx hb dX7_init_92 hl (k := 2) rfl (nI_add y 1) (by decide) rfl (fun ls hl => ?_)
        refine lv_goto (tgt := 55) hx hb dX7_init_95 (by decide) ?_
        exact ih55 (y + 1) (L ++ [nw24]) j2 h4 (by omega) H locs ls _ _ ⟨by omega, hf4 _ _ _ (hx9 _ _ _ ha) htt, hA4, by rw [cpP_t ch]; exact cpl_push (cpl_keep hcp (fun b e q => hf4 _ _ _ (hx9 _ _ _ q) htc)) (hf4 _ _ _ hec htc), (hfr.X hx9).T hf4, fun q z => hk4 q (by obtain ⟨c1, f1, u1, z1⟩ := hok q z; exact ⟨c1, f1, u1, hx9 _ _ _ z1⟩), j_next hjl hj4, by rw [len_push]; exact c_next hcs hj4, hH, hS, lv_sub hl [1, 2, 0] rfl⟩
set_option maxHeartbeats 4000000 in
theorem mc_ruleR_X11 (hK0 : va_K D CL (TYS K) s0) {av : Nat → Nat} {ed mi : Nat} (hG : GX s0 wd av ed mi) {a t z9 tl tc s1 s2 w1 w2 b1 b2 wt : Nat} {rm : Int32} {bu : Option Nat} (he : h a = some (.inr (8, [.null, .null, .int 0, .int 0, .null, .int 0, .null]), t)) (hsd1 : SIDE h s1 w1 b1) (hsd2 : SIDE h s2 w2 b2) (hb1 : b1 < 1024) (hb2 : b2 < 1024) (hun : UNL h (.ref z9) bu) (haw : awy t tl h s1 s2 (.ref z9)) (htt : t ≠ tl) (htc : tc ≠ tl) : Met l yX7_init (ws_ yX7_init cX7_init 8 ((Option.none : Option Jvm.ClassFile.FieldType))) (rmk 7 110 700) (va_Pc [.ref a, .ref s1, .ref s2, .int (nI wt), .int rm, .ref z9] (PB s0 D CL (h))) (QR s0 D CL (fun v h1 => v = none ∧ ∃ la L j, h1 a = some (.inr (8, [.ref s1, .ref s2, .int (nI wt), .int rm, .ref z9, .int 0, .ref la]), t) ∧ AL (K 4) ed h1 la tl L j ∧ CPL tc h1 L (cpP 1 b1 b2 bu 10 0) ∧ frO t tl h h1 ∧ obK h h1)) 110 700 (zA s0) := by
  refine hp_met (by decide) (Nat.le_of_ble_eq_true rfl) hK0 ?_
  intro p e s m below meth cd ls hx hb hr hlocks hml hown hnm hts hK hPB hl hS hH hA
  have hl : lv_has ls 8 [(0, .ref a), (1, .ref s1), (2, .ref s2), (3, .int (nI wt)), (4, .int rm), (5, .ref z9)] := hl
  have hown : s.vm.findClass RX7 = some m.cls := hown
  refine lv_aload_n hx hb dX7_init_0 rfl (lv_at hl 0 rfl) ?_
  refine hp_oinit hx hb hown hts q684 q150 q151 (hl.1.trans hml.symm) (by decide) (Nat.le_of_ble_eq_true rfl) dX7_init_1 ?_
  refine lv_aload_n hx hb dX7_init_4 rfl (lv_at hl 0 rfl) ?_
  obtain ⟨la, hla, nla⟩ := hH.fr
  refine hp_new (ci := 20) (C := RJ2) (T := TJ2) (N := 3) (fs := [.int 0, .null, .int 0]) hx hb hts in_J2 tyJ2 tyJ2_ok hown (hts _ q685) (hts _ q159) (hts _ q106) hK hH hS hA rfl (by decide) (by first | decide | omega | (simp only [rmk]; omega)) (by first | decide | omega | (simp only [rmk]; omega)) tl dX7_init_5 (fun H _ hH hS => ?_)
  rw [← hla] at hH ⊢
  have hH : HP D CL (zA s0) (hset h la (.inr (20, [.int 0, .null, .int 0])) tl) H := hH
  have x1 : a ≠ la := ne_new he nla
  have e2 : (hset h la (.inr (20, [.int 0, .null, .int 0])) tl) a = some (.inr (8, [.null, .null, .int 0, .int 0, .null, .int 0, .null]), t) := (hset_ne _ _ _ (x1)).trans he
  have e3 : (hset h la (.inr (20, [.int 0, .null, .int 0])) tl) la = some (.inr (20, [.int 0, .null, .int 0]), tl) := hset_self _ _ _ _
  refine lv_dup hx hb dX7_init_8 rfl ?_
  refine hp_callI (As := []) (rest := [.ref la, .ref a]) hx hb hml hown hts hPB hH hS (mj_ainit hK0 hG e3) 0 q686 q161 q106 q162 rfl (by decide +kernel) ⟨rfl, rfl⟩ (by first | decide | omega | (simp only [rmk]; omega)) rfl hl.1 rfl (Nat.le_of_ble_eq_true rfl) (by first | decide | omega | (simp only [rmk]; omega)) dX7_init_9 (fun v4 h6 H locs hp5 _ hH hS => ?_)
  obtain ⟨rfl, hq⟩ := hp5
  rw [hq, hset_hset] at hH
  have hel : (hset h la (.inr (20, [.int 0, .ref ed, .int 0])) tl) la = some (.inr (20, [.int 0, .ref ed, .int 0]), tl) := hset_self _ _ _ _
  have hea : (hset h la (.inr (20, [.int 0, .ref ed, .int 0])) tl) a = some (.inr (8, [.null, .null, .int 0, .int 0, .null, .int 0, .null]), t) := (hset_ne _ _ _ x1).trans he
  refine hp_putF (C := RX11) (T := TX11) (N := 7) (v := .ref la) (ty := (.object "java/util/ArrayList")) hx hb hts in_X11 tyX11 tyX11_ok nmX11 hown hK hH hS hea rfl 6 (by decide) (hts _ q745) (fun _ z => z) rfl hnm rfl (by decide +kernel) rfl rfl (Nat.le_of_ble_eq_true rfl) dX7_init_12 (fun H locs _ hH hS => ?_)
  have hH : HP D CL (zA s0) (hset (hset h la (.inr (20, [.int 0, .ref ed, .int 0])) tl) a (.inr (8, [.null, .null, .int 0, .int 0, .null, .int 0, .ref la])) t) H := hH
  have e7 : (hset (hset h la (.inr (20, [.int 0, .ref ed, .int 0])) tl) a (.inr (8, [.null, .null, .int 0, .int 0, .null, .int 0, .ref la])) t) la = some (.inr (20, [.int 0, .ref ed, .int 0]), tl) := (hset_ne _ _ _ ((Ne.symm x1))).trans hel
  have e8 : (hset (hset h la (.inr (20, [.int 0, .ref ed, .int 0])) tl) a (.inr (8, [.null, .null, .int 0, .int 0, .null, .int 0, .ref la])) t) a = some (.inr (8, [.null, .null, .int 0, .int 0, .null, .int 0, .ref la]), t) := hset_self _ _ _ _
  refine lv_aload_n hx hb dX7_init_15 rfl (lv_at hl 0 rfl) ?_
  refine lv_aload_n hx hb dX7_init_16 rfl (lv_at hl 1 rfl) ?_
  refine hp_putF (C := RX11) (T := TX11) (N := 7) (v := .ref s1) (ty := (.object "FirstIn$Side")) hx hb hts in_X11 tyX11 tyX11_ok nmX11 hown hK hH hS e8 rfl 0 (by decide) (hts _ q732) (fun _ z => z) rfl hnm rfl (by decide +kernel) rfl rfl (Nat.le_of_ble_eq_true rfl) dX7_init_17 (fun H locs _ hH hS => ?_)
  have hH : HP D CL (zA s0) (hset (hset (hset h la (.inr (20, [.int 0, .ref ed, .int 0])) tl) a (.inr (8, [.null, .null, .int 0, .int 0, .null, .int 0, .ref la])) t) a (.inr (8, [.ref s1, .null, .int 0, .int 0, .null, .int 0, .ref la])) t) H := hH
  have e9 : (hset (hset (hset h la (.inr (20, [.int 0, .ref ed, .int 0])) tl) a (.inr (8, [.null, .null, .int 0, .int 0, .null, .int 0, .ref la])) t) a (.inr (8, [.ref s1, .null, .int 0, .int 0, .null, .int 0, .ref la])) t) la = some (.inr (20, [.int 0, .ref ed, .int 0]), tl) := (hset_ne _ _ _ ((Ne.symm x1))).trans e7
  have e10 : (hset (hset (hset h la (.inr (20, [.int 0, .ref ed, .int 0])) tl) a (.inr (8, [.null, .null, .int 0, .int 0, .null, .int 0, .ref la])) t) a (.inr (8, [.ref s1, .null, .int 0, .int 0, .null, .int 0, .ref la])) t) a = some (.inr (8, [.ref s1, .null, .int 0, .int 0, .null, .int 0, .ref la]), t) := hset_self _ _ _ _
  refine lv_aload_n hx hb dX7_init_20 rfl (lv_at hl 0 rfl) ?_
  refine lv_aload_n hx hb dX7_init_21 rfl (lv_at hl 2 rfl) ?_
  refine hp_putF (C := RX11) (T := TX11) (N := 7) (v := .ref s2) (ty := (.object "FirstIn$Side")) hx hb hts in_X11 tyX11 tyX11_ok nmX11 hown hK hH hS e10 rfl 1 (by decide) (hts _ q734) (fun _ z => z) rfl hnm rfl (by decide +kernel) rfl rfl (Nat.le_of_ble_eq_true rfl) dX7_init_22 (fun H locs _ hH hS => ?_)
  have hH : HP D CL (zA s0) (hset (hset (hset (hset h la (.inr (20, [.int 0, .ref ed, .int 0])) tl) a (.inr (8, [.null, .null, .int 0, .int 0, .null, .int 0, .ref la])) t) a (.inr (8, [.ref s1, .null, .int 0, .int 0, .null, .int 0, .ref la])) t) a (.inr (8, [.ref s1, .ref s2, .int 0, .int 0, .null, .int 0, .ref la])) t) H := hH
  have e11 : (hset (hset (hset (hset h la (.inr (20, [.int 0, .ref ed, .int 0])) tl) a (.inr (8, [.null, .null, .int 0, .int 0, .null, .int 0, .ref la])) t) a (.inr (8, [.ref s1, .null, .int 0, .int 0, .null, .int 0, .ref la])) t) a (.inr (8, [.ref s1, .ref s2, .int 0, .int 0, .null, .int 0, .ref la])) t) la = some (.inr (20, [.int 0, .ref ed, .int 0]), tl) := (hset_ne _ _ _ ((Ne.symm x1))).trans e9
  have e12 : (hset (hset (hset (hset h la (.inr (20, [.int 0, .ref ed, .int 0])) tl) a (.inr (8, [.null, .null, .int 0, .int 0, .null, .int 0, .ref la])) t) a (.inr (8, [.ref s1, .null, .int 0, .int 0, .null, .int 0, .ref la])) t) a (.inr (8, [.ref s1, .ref s2, .int 0, .int 0, .null, .int 0, .ref la])) t) a = some (.inr (8, [.ref s1, .ref s2, .int 0, .int 0, .null, .int 0, .ref la]), t) := hset_self _ _ _ _
  refine lv_aload_n hx hb dX7_init_25 rfl (lv_at hl 0 rfl) ?_
  refine lv_iload_n hx hb dX7_init_26 rfl (lv_at hl 3 rfl) ?_
  refine hp_putF (C := RX11) (T := TX11) (N := 7) (v := .int (nI wt)) (ty := .int) hx hb hts in_X11 tyX11 tyX11_ok nmX11 hown hK hH hS e12 rfl 2 (by decide) (hts _ q736) (fun _ z => z) rfl hnm rfl (by decide +kernel) rfl rfl (Nat.le_of_ble_eq_true rfl) dX7_init_27 (fun H locs _ hH hS => ?_)
  have hH : HP D CL (zA s0) (hset (hset (hset (hset (hset h la (.inr (20, [.int 0, .ref ed, .int 0])) tl) a (.inr (8, [.null, .null, .int 0, .int 0, .null, .int 0, .ref la])) t) a (.inr (8, [.ref s1, .null, .int 0, .int 0, .null, .int 0, .ref la])) t) a (.inr (8, [.ref s1, .ref s2, .int 0, .int 0, .null, .int 0, .ref la])) t) a (.inr (8, [.ref s1, .ref s2, .int (nI wt), .int 0, .null, .int 0, .ref la])) t) H := hH
  have e13 : (hset (hset (hset (hset (hset h la (.inr (20, [.int 0, .ref ed, .int 0])) tl) a (.inr (8, [.null, .null, .int 0, .int 0, .null, .int 0, .ref la])) t) a (.inr (8, [.ref s1, .null, .int 0, .int 0, .null, .int 0, .ref la])) t) a (.inr (8, [.ref s1, .ref s2, .int 0, .int 0, .null, .int 0, .ref la])) t) a (.inr (8, [.ref s1, .ref s2, .int (nI wt), .int 0, .null, .int 0, .ref la])) t) la = some (.inr (20, [.int 0, .ref ed, .int 0]), tl) := (hset_ne _ _ _ ((Ne.symm x1))).trans e11
  have e14 : (hset (hset (hset (hset (hset h la (.inr (20, [.int 0, .ref ed, .int 0])) tl) a (.inr (8, [.null, .null, .int 0, .int 0, .null, .int 0, .ref la])) t) a (.inr (8, [.ref s1, .null, .int 0, .int 0, .null, .int 0, .ref la])) t) a (.inr (8, [.ref s1, .ref s2, .int 0, .int 0, .null, .int 0, .ref la])) t) a (.inr (8, [.ref s1, .ref s2, .int (nI wt), .int 0, .null, .int 0, .ref la])) t) a = some (.inr (8, [.ref s1, .ref s2, .int (nI wt), .int 0, .null, .int 0, .ref la]), t) := hset_self _ _ _ _
  refine lv_aload_n hx hb dX7_init_30 rfl (lv_at hl 0 rfl) ?_
  refine lv_iload hx hb dX7_init_31 (lv_at hl 4 rfl) ?_
  refine hp_putF (C := RX11) (T := TX11) (N := 7) (v := .int rm) (ty := .int) hx hb hts in_X11 tyX11 tyX11_ok nmX11 hown hK hH hS e14 rfl 3 (by decide) (hts _ q739) (fun _ z => z) rfl hnm rfl (by decide +kernel) rfl rfl (Nat.le_of_ble_eq_true rfl) dX7_init_33 (fun H locs _ hH hS => ?_)
  have hH : HP D CL (zA s0) (hset (hset (hset (hset (hset (hset h la (.inr (20, [.int 0, .ref ed, .int 0])) tl) a (.inr (8, [.null, .null, .int 0, .int 0, .null, .int 0, .ref la])) t) a (.inr (8, [.ref s1, .null, .int 0, .int 0, .null, .int 0, .ref la])) t) a (.inr (8, [.ref s1, .ref s2, .int 0, .int 0, .null, .int 0, .ref la])) t) a (.inr (8, [.ref s1, .ref s2, .int (nI wt), .int 0, .null, .int 0, .ref la])) t) a (.inr (8, [.ref s1, .ref s2, .int (nI wt), .int rm, .null, .int 0, .ref la])) t) H := hH
  have e15 : (hset (hset (hset (hset (hset (hset h la (.inr (20, [.int 0, .ref ed, .int 0])) tl) a (.inr (8, [.null, .null, .int 0, .int 0, .null, .int 0, .ref la])) t) a (.inr (8, [.ref s1, .null, .int 0, .int 0, .null, .int 0, .ref la])) t) a (.inr (8, [.ref s1, .ref s2, .int 0, .int 0, .null, .int 0, .ref la])) t) a (.inr (8, [.ref s1, .ref s2, .int (nI wt), .int 0, .null, .int 0, .ref la])) t) a (.inr (8, [.ref s1, .ref s2, .int (nI wt), .int rm, .null, .int 0, .ref la])) t) la = some (.inr (20, [.int 0, .ref ed, .int 0]), tl) := (hset_ne _ _ _ ((Ne.symm x1))).trans e13
  have e16 : (hset (hset (hset (hset (hset (hset h la (.inr (20, [.int 0, .ref ed, .int 0])) tl) a (.inr (8, [.null, .null, .int 0, .int 0, .null, .int 0, .ref la])) t) a (.inr (8, [.ref s1, .null, .int 0, .int 0, .null, .int 0, .ref la])) t) a (.inr (8, [.ref s1, .ref s2, .int 0, .int 0, .null, .int 0, .ref la])) t) a (.inr (8, [.ref s1, .ref s2, .int (nI wt), .int 0, .null, .int 0, .ref la])) t) a (.inr (8, [.ref s1, .ref s2, .int (nI wt), .int rm, .null, .int 0, .ref la])) t) a = some (.inr (8, [.ref s1, .ref s2, .int (nI wt), .int rm, .null, .int 0, .ref la]), t) := hset_self _ _ _ _
  refine lv_aload_n hx hb dX7_init_36 rfl (lv_at hl 0 rfl) ?_
  refine lv_aload hx hb dX7_init_37 (lv_at hl 5 rfl) ?_
  refine hp_putF (C := RX11) (T := TX11) (N := 7) (v := .ref z9) (ty := (.object "FirstIn$Mark")) hx hb hts in_X11 tyX11 tyX11_ok nmX11 hown hK hH hS e16 rfl 4 (by decide) (hts _ q741) (fun _ z => z) rfl hnm rfl (by decide +kernel) rfl rfl (Nat.le_of_ble_eq_true rfl) dX7_init_39 (fun H locs _ hH hS => ?_)
  have hH : HP D CL (zA s0) (hset (hset (hset (hset (hset (hset (hset h la (.inr (20, [.int 0, .ref ed, .int 0])) tl) a (.inr (8, [.null, .null, .int 0, .int 0, .null, .int 0, .ref la])) t) a (.inr (8, [.ref s1, .null, .int 0, .int 0, .null, .int 0, .ref la])) t) a (.inr (8, [.ref s1, .ref s2, .int 0, .int 0, .null, .int 0, .ref la])) t) a (.inr (8, [.ref s1, .ref s2, .int (nI wt), .int 0, .null, .int 0, .ref la])) t) a (.inr (8, [.ref s1, .ref s2, .int (nI wt), .int rm, .null, .int 0, .ref la])) t) a (.inr (8, [.ref s1, .ref s2, .int (nI wt), .int rm, .ref z9, .int 0, .ref la])) t) H := hH
  have e17 : (hset (hset (hset (hset (hset (hset (hset h la (.inr (20, [.int 0, .ref ed, .int 0])) tl) a (.inr (8, [.null, .null, .int 0, .int 0, .null, .int 0, .ref la])) t) a (.inr (8, [.ref s1, .null, .int 0, .int 0, .null, .int 0, .ref la])) t) a (.inr (8, [.ref s1, .ref s2, .int 0, .int 0, .null, .int 0, .ref la])) t) a (.inr (8, [.ref s1, .ref s2, .int (nI wt), .int 0, .null, .int 0, .ref la])) t) a (.inr (8, [.ref s1, .ref s2, .int (nI wt), .int rm, .null, .int 0, .ref la])) t) a (.inr (8, [.ref s1, .ref s2, .int (nI wt), .int rm, .ref z9, .int 0, .ref la])) t) la = some (.inr (20, [.int 0, .ref ed, .int 0]), tl) := (hset_ne _ _ _ ((Ne.symm x1))).trans e15
  have e18 : (hset (hset (hset (hset (hset (hset (hset h la (.inr (20, [.int 0, .ref ed, .int 0])) tl) a (.inr (8, [.null, .null, .int 0, .int 0, .null, .int 0, .ref la])) t) a (.inr (8, [.ref s1, .null, .int 0, .int 0, .null, .int 0, .ref la])) t) a (.inr (8, [.ref s1, .ref s2, .int 0, .int 0, .null, .int 0, .ref la])) t) a (.inr (8, [.ref s1, .ref s2, .int (nI wt), .int 0, .null, .int 0, .ref la])) t) a (.inr (8, [.ref s1, .ref s2, .int (nI wt), .int rm, .null, .int 0, .ref la])) t) a (.inr (8, [.ref s1, .ref s2, .int (nI wt), .int rm, .ref z9, .int 0, .ref la])) t) a = some (.inr (8, [.ref s1, .ref s2, .int (nI wt), .int rm, .ref z9, .int 0, .ref la]), t) := hset_self _ _ _ _
  refine lv_iconst (v := nI 0) hx hb dX7_init_42 (by decide) ?_
  refine lv_istore (lv' := [(6, .int (nI 0)), (0, .ref a), (1, .ref s1), (2, .ref s2), (3, .int (nI wt)), (4, .int rm), (5, .ref z9)]) hx hb dX7_init_43 hl (by decide) rfl (fun ls hl => ?_)
  refine w_loopC4 (fun (x : Nat) (L : List Nat) (j : Nat) (hh : Hp) => 10 - x) (fun (x : Nat) (L : List Nat) (j : Nat) (hh : Hp) H locs ls cells slots => (x ≤ 10) ∧ (hh a = some (.inr (8, [.ref s1, .ref s2, .int (nI wt), .int rm, .ref z9, .int 0, .ref la]), t)) ∧ (AL (K 4) ed hh la tl L j) ∧ (CPL tc hh L (cpP 1 b1 b2 bu x 0)) ∧ (frO t tl h hh) ∧ (obK h hh) ∧ (j = 0 ∨ gcap (j - 1) + 1 ≤ L.length) ∧ (cells ≤ 1 + L.length + j ∧ slots ≤ 3 + 2 * L.length + gsum j) ∧ HP D CL (zA s0) hh H ∧ va_S (zA s0) s.heap H locs ∧ lv_has ls 8 [(0, .ref a), (6, .int (nI x))]) ?_ 0 ([]) 0 (hset (hset (hset (hset (hset (hset (hset h la (.inr (20, [.int 0, .ref ed, .int 0])) tl) a (.inr (8, [.null, .null, .int 0, .int 0, .null, .int 0, .ref la])) t) a (.inr (8, [.ref s1, .null, .int 0, .int 0, .null, .int 0, .ref la])) t) a (.inr (8, [.ref s1, .ref s2, .int 0, .int 0, .null, .int 0, .ref la])) t) a (.inr (8, [.ref s1, .ref s2, .int (nI wt), .int 0, .null, .int 0, .ref la])) t) a (.inr (8, [.ref s1, .ref s2, .int (nI wt), .int rm, .null, .int 0, .ref la])) t) a (.inr (8, [.ref s1, .ref s2, .int (nI wt), .int rm, .ref z9, .int 0, .ref la])) t) ⟨Nat.zero_le _, e18, al_nil (mcn := 0) (d := ed) e17 (by decide) (Or.inl ⟨rfl, rfl⟩), by rw [cpP_0]; exact ⟨rfl, fun i hi => absurd hi (Nat.not_lt_zero _)⟩, ru_fr he nla, ru_ob he nla, Or.inl rfl, by decide, hH, hS, lv_sub hl [1, 0] rfl⟩
  intro x L j hh ih45 H locs ls cells slots hP
  obtain ⟨hxx, ha, hAl, hcp, hfr, hok, hjl, hcs, hH, hS, hl⟩ := hP
  have hsa := side_fr hfr haw (Or.inl rfl) hsd1
  have hsb := side_fr hfr haw (Or.inr rfl) hsd2
  have hu9 := unl_fr hfr haw hun
  have hcl := cpP_len (kd := 1) (b1 := b1) (b2 := b2) (bu := bu) (x := x) (y := 0)
  have hc1 := hcp.1
  have hj13 := (AL.j13 hAl)
  have hj7 : j ≤ 7 := by rcases hjl with q | q; omega; exact gcap_7 j hj13 (by omega)
  have hg9 := gsum_7 j hj7
  have hg8 := gcap_8 j hj7
  refine lv_iload hx hb dX7_init_45 (lv_at hl 1 rfl) ?_
  refine lv_bipush (v := nI 10) hx hb dX7_init_47 (by decide) ?_
  refine lvN_ge (tgt := 104) hx hb (by first | omega | (refine Nat.lt_of_lt_of_le (Nat.mod_lt _ ?_) ?_ <;> omega)) (by first | omega | (refine Nat.lt_of_lt_of_le (Nat.mod_lt _ ?_) ?_ <;> omega)) dX7_init_49 (by decide) (fun c19 => ?_) (fun c19 => ?_)
  · exact hp_vret hx hb hr hlocks hH hS (by first | decide | omega | (simp only [rmk]; omega)) (by first | decide | omega | (simp only [rmk]; omega)) dX7_init_104 (⟨rfl, _, L, j, ha, hAl, by rw [show (10 : Nat) = x by omega]; exact hcp, hfr, hok⟩)
  · refine lv_iconst (v := nI 0) hx hb dX7_init_52 (by decide) ?_
    refine lv_istore (lv' := [(7, .int (nI 0)), (0, .ref a), (6, .int (nI x))]) hx hb dX7_init_53 hl (by decide) rfl (fun ls hl => ?_)
    refine w_loopC4 (fun (y : Nat) (L : List Nat) (j : Nat) (hh : Hp) => 10 - y) (fun (y : Nat) (L : List Nat) (j : Nat) (hh : Hp) H locs ls cells slots => (y ≤ 10) ∧ (hh a = some (.inr (8, [.ref s1, .ref s2, .int (nI wt), .int rm, .ref z9, .int 0, .ref la]), t)) ∧ (AL (K 4) ed hh la tl L j) ∧ (CPL tc hh L (cpP 1 b1 b2 bu x y)) ∧ (frO t tl h hh) ∧ (obK h hh) ∧ (j = 0 ∨ gcap (j - 1) + 1 ≤ L.length) ∧ (cells ≤ 1 + L.length + j ∧ slots ≤ 3 + 2 * L.length + gsum j) ∧ HP D CL (zA s0) hh H ∧ va_S (zA s0) s.heap H locs ∧ lv_has ls 8 [(0, .ref a), (6, .int (nI x)), (7, .int (nI y))]) ?_ 0 L j hh ⟨Nat.zero_le _, ha, hAl, hcp, hfr, hok, hjl, hcs, hH, hS, lv_sub hl [1, 2, 0] rfl⟩
    intro y L j hh ih55 H locs ls cells slots hP
    obtain ⟨hyy, ha, hAl, hcp, hfr, hok, hjl, hcs, hH, hS, hl⟩ := hP
    have hsa := side_fr hfr haw (Or.inl rfl) hsd1
    have hsb := side_fr hfr haw (Or.inr rfl) hsd2
    have hu9 := unl_fr hfr haw hun
    have hcl := cpP_len (kd := 1) (b1 := b1) (b2 := b2) (bu := bu) (x := x) (y := y)
    have hc1 := hcp.1
    have hj13 := (AL.j13 hAl)
    have hj7 : j ≤ 7 := by rcases hjl with q | q; omega; exact gcap_7 j hj13 (by omega)
    have hg9 := gsum_7 j hj7
    have hg8 := gcap_8 j hj7
    refine lv_iload hx hb dX7_init_55 (lv_at hl 2 rfl) ?_
    refine lv_bipush (v := nI 10) hx hb dX7_init_57 (by decide) ?_
    refine lvN_ge (tgt := 98) hx hb (by first | omega | (refine Nat.lt_of_lt_of_le (Nat.mod_lt _ ?_) ?_ <;> omega)) (by first | omega | (refine Nat.lt_of_lt_of_le (Nat.mod_lt _ ?_) ?_ <;> omega)) dX7_init_59 (by decide) (fun c20 => ?_) (fun c20 => ?_)
    · refine lv_iinc (v := nI (x + 1)) (lv' := [(6, .int (nI (x + 1))), (0, .ref a), (7, .int (nI y))]) hx hb dX7_init_98 hl (k := 1) rfl (nI_add x 1) (by decide) rfl (fun ls hl => ?_)
      refine lv_goto (tgt := 45) hx hb dX7_init_101 (by decide) ?_
      exact ih45 (x + 1) L j hh (by omega) H locs ls _ _ ⟨by omega, ha, hAl, by rw [cpP_x, ← show y = 10 by omega]; exact hcp, hfr, hok, hjl, hcs, hH, hS, lv_sub hl [1, 0] rfl⟩
    · refine lv_aload_n hx hb dX7_init_62 rfl (lv_at hl 0 rfl) ?_
      refine lv_iload hx hb dX7_init_63 (lv_at hl 1 rfl) ?_
      refine lv_iload hx hb dX7_init_65 (lv_at hl 2 rfl) ?_
      refine hp_callU (As := [.int (nI x), .int (nI y)]) (rest := []) (owner := "FirstIn$Rule") (x := ⟨"FirstIn$Rule", "holds", "(II)Z"⟩) hx hb hml hown hts hPB hK hH hS (mc_hld_X11 hK0 hG (rs := false) ha hsa hsb hb1 hb2 (x := x) (y := y) (by omega) (by omega) hu9) ha rfl rfl 2 (va_cwO 2 hts (lw_O q687 q689 q688 q711 q692 q128 q693) rfl rfl rfl q712 (by decide +kernel) (by first | decide | omega | (simp only [rmk]; omega))) rfl hl.1 rfl (Nat.le_of_ble_eq_true rfl) (by first | decide | omega | (simp only [rmk]; omega)) dX7_init_67 (fun v21 h23 H locs hp22 _ hH hS => ?_)
      obtain ⟨rfl, hq⟩ := hp22
      rw [hq] at hH
      refine lvB_eq (tgt := 92) hx hb dX7_init_70 (by decide) (fun ch => ?_) (fun ch => ?_)
      · refine lv_iinc (v := nI (y + 1)) (lv' := [(7, .int (nI (y + 1))), (0, .ref a), (6, .int (nI x))]) hx hb dX7_init_92 hl (k := 2) rfl (nI_add y 1) (by decide) rfl (fun ls hl => ?_)
        refine lv_goto (tgt := 55) hx hb dX7_init_95 (by decide) ?_
        exact ih55 (y + 1) L j hh (by omega) H locs ls _ _ ⟨by omega, ha, hAl, by rw [cpP_f ch]; exact hcp, hfr, hok, hjl, hcs, hH, hS, lv_sub hl [1, 2, 0] rfl⟩
      · refine lv_aload_n hx hb dX7_init_73 rfl (lv_at hl 0 rfl) ?_
        refine hp_get (C := RX11) (T := TX11) (N := 7) (v := .ref la) hx hb hts in_X11 hown hK hH ha rfl 6 (by decide) (hts _ q745) (fun _ z => z) rfl dX7_init_74 ?_
        obtain ⟨nw24, hnw24, nnw24⟩ := hH.fr
        refine hp_new (ci := 7) (C := RX9) (T := TX9) (N := 2) (fs := [.int 0, .int 0]) hx hb hts in_X9 tyX9 tyX9_ok hown (hts _ q714) (hts _ q715) (hts _ q127) hK hH hS hA rfl (by decide) (by first | decide | omega | (simp only [rmk]; omega)) (by first | decide | omega | (simp only [rmk]; omega)) tc dX7_init_77 (fun H _ hH hS => ?_)
        rw [← hnw24] at hH ⊢
        have hH : HP D CL (zA s0) (hset hh nw24 (.inr (7, [.int 0, .int 0])) tc) H := hH
        have x25 : a ≠ nw24 := ne_new ha nnw24
        have e26 : (hset hh nw24 (.inr (7, [.int 0, .int 0])) tc) a = some (.inr (8, [.ref s1, .ref s2, .int (nI wt), .int rm, .ref z9, .int 0, .ref la]), t) := (hset_ne _ _ _ (x25)).trans ha
        have e27 : (hset hh nw24 (.inr (7, [.int 0, .int 0])) tc) nw24 = some (.inr (7, [.int 0, .int 0]), tc) := hset_self _ _ _ _
        refine lv_dup hx hb dX7_init_80 rfl ?_
        refine lv_iload hx hb dX7_init_81 (lv_at hl 1 rfl) ?_
        refine lv_iload hx hb dX7_init_83 (lv_at hl 2 rfl) ?_
        refine hp_callI (As := [.int (nI x), .int (nI y)]) (rest := [.ref nw24, .ref la]) hx hb hml hown hts hPB hH hS (mc_couple hK0 hG (x := x) (y := y) e27) 2 q716 q717 q127 q718 rfl (by decide +kernel) ⟨rfl, rfl⟩ (by first | decide | omega | (simp only [rmk]; omega)) rfl hl.1 rfl (Nat.le_of_ble_eq_true rfl) (by first | decide | omega | (simp only [rmk]; omega)) dX7_init_85 (fun v28 h30 H locs hp29 _ hH hS => ?_)
        obtain ⟨rfl, hq⟩ := hp29
        rw [hq, hset_hset] at hH
        have hec : (hset hh nw24 (.inr (7, [.int (nI x), .int (nI y)])) tc) nw24 = some (.inr (7, [.int (nI x), .int (nI y)]), tc) := hset_self _ _ _ _
        have hx9 : exH hh (hset hh nw24 (.inr (7, [.int (nI x), .int (nI y)])) tc) := exH.new nnw24
        refine hp_add hx hb hml hown hts hPB hK0 hK hH hS hG (x := nw24) (hAl.X hx9) ⟨_, _, _, hec⟩ (by have := gcap_13; omega) q731 (by first | decide | omega | (simp only [rmk]; omega)) hl.1 rfl (Nat.le_of_ble_eq_true rfl) (by first | decide | omega | (simp only [rmk]; omega)) dX7_init_88 (fun j2 h4 H locs hA4 hf4 hk4 hj4 hH hS => ?_)
        refine lv_pop hx hb dX7_init_91 rfl ?_
        refine lv_iinc (v := nI (y + 1)) (lv' := [(7, .int (nI (y + 1))), (0, .ref a), (6, .int (nI x))]) hx hb dX7_init_92 hl (k := 2) rfl (nI_add y 1) (by decide) rfl (fun ls hl => ?_)
        refine lv_goto (tgt := 55) hx hb dX7_init_95 (by decide) ?_
        exact ih55 (y + 1) (L ++ [nw24]) j2 h4 (by omega) H locs ls _ _ ⟨by omega, hf4 _ _ _ (hx9 _ _ _ ha) htt, hA4, by rw [cpP_t ch]; exact cpl_push (cpl_keep hcp (fun b e q => hf4 _ _ _ (hx9 _ _ _ q) htc)) (hf4 _ _ _ hec htc), (hfr.X hx9).T hf4, fun q z => hk4 q (by obtain ⟨c1, f1, u1, z1⟩ := hok q z; exact ⟨c1, f1, u1, hx9 _ _ _ z1⟩), j_next hjl hj4, by rw [len_push]; exact c_next hcs hj4, hH, hS, lv_sub hl [1, 2, 0] rfl⟩
set_option maxHeartbeats 4000000 in
theorem mc_ruleN_X12 (hK0 : va_K D CL (TYS K) s0) {av : Nat → Nat} {ed mi : Nat} (hG : GX s0 wd av ed mi) {a t tl tc s1 s2 w1 w2 b1 b2 wt : Nat} {rm : Int32} {bu : Option Nat} (he : h a = some (.inr (9, [.null, .null, .int 0, .int 0, .null, .int 0, .null]), t)) (hsd1 : SIDE h s1 w1 b1) (hsd2 : SIDE h s2 w2 b2) (hb1 : b1 < 1024) (hb2 : b2 < 1024) (hun : UNL h .null bu) (haw : awy t tl h s1 s2 .null) (htt : t ≠ tl) (htc : tc ≠ tl) : Met l yX7_init (ws_ yX7_init cX7_init 8 ((Option.none : Option Jvm.ClassFile.FieldType))) (rmk 7 110 700) (va_Pc [.ref a, .ref s1, .ref s2, .int (nI wt), .int rm, .null] (PB s0 D CL (h))) (QR s0 D CL (fun v h1 => v = none ∧ ∃ la L j, h1 a = some (.inr (9, [.ref s1, .ref s2, .int (nI wt), .int rm, .null, .int 0, .ref la]), t) ∧ AL (K 4) ed h1 la tl L j ∧ CPL tc h1 L (cpP 2 b1 b2 bu 10 0) ∧ frO t tl h h1 ∧ obK h h1)) 110 700 (zA s0) := by
  refine hp_met (by decide) (Nat.le_of_ble_eq_true rfl) hK0 ?_
  intro p e s m below meth cd ls hx hb hr hlocks hml hown hnm hts hK hPB hl hS hH hA
  have hl : lv_has ls 8 [(0, .ref a), (1, .ref s1), (2, .ref s2), (3, .int (nI wt)), (4, .int rm), (5, .null)] := hl
  have hown : s.vm.findClass RX7 = some m.cls := hown
  refine lv_aload_n hx hb dX7_init_0 rfl (lv_at hl 0 rfl) ?_
  refine hp_oinit hx hb hown hts q684 q150 q151 (hl.1.trans hml.symm) (by decide) (Nat.le_of_ble_eq_true rfl) dX7_init_1 ?_
  refine lv_aload_n hx hb dX7_init_4 rfl (lv_at hl 0 rfl) ?_
  obtain ⟨la, hla, nla⟩ := hH.fr
  refine hp_new (ci := 20) (C := RJ2) (T := TJ2) (N := 3) (fs := [.int 0, .null, .int 0]) hx hb hts in_J2 tyJ2 tyJ2_ok hown (hts _ q685) (hts _ q159) (hts _ q106) hK hH hS hA rfl (by decide) (by first | decide | omega | (simp only [rmk]; omega)) (by first | decide | omega | (simp only [rmk]; omega)) tl dX7_init_5 (fun H _ hH hS => ?_)
  rw [← hla] at hH ⊢
  have hH : HP D CL (zA s0) (hset h la (.inr (20, [.int 0, .null, .int 0])) tl) H := hH
  have x1 : a ≠ la := ne_new he nla
  have e2 : (hset h la (.inr (20, [.int 0, .null, .int 0])) tl) a = some (.inr (9, [.null, .null, .int 0, .int 0, .null, .int 0, .null]), t) := (hset_ne _ _ _ (x1)).trans he
  have e3 : (hset h la (.inr (20, [.int 0, .null, .int 0])) tl) la = some (.inr (20, [.int 0, .null, .int 0]), tl) := hset_self _ _ _ _
  refine lv_dup hx hb dX7_init_8 rfl ?_
  refine hp_callI (As := []) (rest := [.ref la, .ref a]) hx hb hml hown hts hPB hH hS (mj_ainit hK0 hG e3) 0 q686 q161 q106 q162 rfl (by decide +kernel) ⟨rfl, rfl⟩ (by first | decide | omega | (simp only [rmk]; omega)) rfl hl.1 rfl (Nat.le_of_ble_eq_true rfl) (by first | decide | omega | (simp only [rmk]; omega)) dX7_init_9 (fun v4 h6 H locs hp5 _ hH hS => ?_)
  obtain ⟨rfl, hq⟩ := hp5
  rw [hq, hset_hset] at hH
  have hel : (hset h la (.inr (20, [.int 0, .ref ed, .int 0])) tl) la = some (.inr (20, [.int 0, .ref ed, .int 0]), tl) := hset_self _ _ _ _
  have hea : (hset h la (.inr (20, [.int 0, .ref ed, .int 0])) tl) a = some (.inr (9, [.null, .null, .int 0, .int 0, .null, .int 0, .null]), t) := (hset_ne _ _ _ x1).trans he
  refine hp_putF (C := RX12) (T := TX12) (N := 7) (v := .ref la) (ty := (.object "java/util/ArrayList")) hx hb hts in_X12 tyX12 tyX12_ok nmX12 hown hK hH hS hea rfl 6 (by decide) (hts _ q745) (fun _ z => z) rfl hnm rfl (by decide +kernel) rfl rfl (Nat.le_of_ble_eq_true rfl) dX7_init_12 (fun H locs _ hH hS => ?_)
  have hH : HP D CL (zA s0) (hset (hset h la (.inr (20, [.int 0, .ref ed, .int 0])) tl) a (.inr (9, [.null, .null, .int 0, .int 0, .null, .int 0, .ref la])) t) H := hH
  have e7 : (hset (hset h la (.inr (20, [.int 0, .ref ed, .int 0])) tl) a (.inr (9, [.null, .null, .int 0, .int 0, .null, .int 0, .ref la])) t) la = some (.inr (20, [.int 0, .ref ed, .int 0]), tl) := (hset_ne _ _ _ ((Ne.symm x1))).trans hel
  have e8 : (hset (hset h la (.inr (20, [.int 0, .ref ed, .int 0])) tl) a (.inr (9, [.null, .null, .int 0, .int 0, .null, .int 0, .ref la])) t) a = some (.inr (9, [.null, .null, .int 0, .int 0, .null, .int 0, .ref la]), t) := hset_self _ _ _ _
  refine lv_aload_n hx hb dX7_init_15 rfl (lv_at hl 0 rfl) ?_
  refine lv_aload_n hx hb dX7_init_16 rfl (lv_at hl 1 rfl) ?_
  refine hp_putF (C := RX12) (T := TX12) (N := 7) (v := .ref s1) (ty := (.object "FirstIn$Side")) hx hb hts in_X12 tyX12 tyX12_ok nmX12 hown hK hH hS e8 rfl 0 (by decide) (hts _ q732) (fun _ z => z) rfl hnm rfl (by decide +kernel) rfl rfl (Nat.le_of_ble_eq_true rfl) dX7_init_17 (fun H locs _ hH hS => ?_)
  have hH : HP D CL (zA s0) (hset (hset (hset h la (.inr (20, [.int 0, .ref ed, .int 0])) tl) a (.inr (9, [.null, .null, .int 0, .int 0, .null, .int 0, .ref la])) t) a (.inr (9, [.ref s1, .null, .int 0, .int 0, .null, .int 0, .ref la])) t) H := hH
  have e9 : (hset (hset (hset h la (.inr (20, [.int 0, .ref ed, .int 0])) tl) a (.inr (9, [.null, .null, .int 0, .int 0, .null, .int 0, .ref la])) t) a (.inr (9, [.ref s1, .null, .int 0, .int 0, .null, .int 0, .ref la])) t) la = some (.inr (20, [.int 0, .ref ed, .int 0]), tl) := (hset_ne _ _ _ ((Ne.symm x1))).trans e7
  have e10 : (hset (hset (hset h la (.inr (20, [.int 0, .ref ed, .int 0])) tl) a (.inr (9, [.null, .null, .int 0, .int 0, .null, .int 0, .ref la])) t) a (.inr (9, [.ref s1, .null, .int 0, .int 0, .null, .int 0, .ref la])) t) a = some (.inr (9, [.ref s1, .null, .int 0, .int 0, .null, .int 0, .ref la]), t) := hset_self _ _ _ _
  refine lv_aload_n hx hb dX7_init_20 rfl (lv_at hl 0 rfl) ?_
  refine lv_aload_n hx hb dX7_init_21 rfl (lv_at hl 2 rfl) ?_
  refine hp_putF (C := RX12) (T := TX12) (N := 7) (v := .ref s2) (ty := (.object "FirstIn$Side")) hx hb hts in_X12 tyX12 tyX12_ok nmX12 hown hK hH hS e10 rfl 1 (by decide) (hts _ q734) (fun _ z => z) rfl hnm rfl (by decide +kernel) rfl rfl (Nat.le_of_ble_eq_true rfl) dX7_init_22 (fun H locs _ hH hS => ?_)
  have hH : HP D CL (zA s0) (hset (hset (hset (hset h la (.inr (20, [.int 0, .ref ed, .int 0])) tl) a (.inr (9, [.null, .null, .int 0, .int 0, .null, .int 0, .ref la])) t) a (.inr (9, [.ref s1, .null, .int 0, .int 0, .null, .int 0, .ref la])) t) a (.inr (9, [.ref s1, .ref s2, .int 0, .int 0, .null, .int 0, .ref la])) t) H := hH
  have e11 : (hset (hset (hset (hset h la (.inr (20, [.int 0, .ref ed, .int 0])) tl) a (.inr (9, [.null, .null, .int 0, .int 0, .null, .int 0, .ref la])) t) a (.inr (9, [.ref s1, .null, .int 0, .int 0, .null, .int 0, .ref la])) t) a (.inr (9, [.ref s1, .ref s2, .int 0, .int 0, .null, .int 0, .ref la])) t) la = some (.inr (20, [.int 0, .ref ed, .int 0]), tl) := (hset_ne _ _ _ ((Ne.symm x1))).trans e9
  have e12 : (hset (hset (hset (hset h la (.inr (20, [.int 0, .ref ed, .int 0])) tl) a (.inr (9, [.null, .null, .int 0, .int 0, .null, .int 0, .ref la])) t) a (.inr (9, [.ref s1, .null, .int 0, .int 0, .null, .int 0, .ref la])) t) a (.inr (9, [.ref s1, .ref s2, .int 0, .int 0, .null, .int 0, .ref la])) t) a = some (.inr (9, [.ref s1, .ref s2, .int 0, .int 0, .null, .int 0, .ref la]), t) := hset_self _ _ _ _
  refine lv_aload_n hx hb dX7_init_25 rfl (lv_at hl 0 rfl) ?_
  refine lv_iload_n hx hb dX7_init_26 rfl (lv_at hl 3 rfl) ?_
  refine hp_putF (C := RX12) (T := TX12) (N := 7) (v := .int (nI wt)) (ty := .int) hx hb hts in_X12 tyX12 tyX12_ok nmX12 hown hK hH hS e12 rfl 2 (by decide) (hts _ q736) (fun _ z => z) rfl hnm rfl (by decide +kernel) rfl rfl (Nat.le_of_ble_eq_true rfl) dX7_init_27 (fun H locs _ hH hS => ?_)
  have hH : HP D CL (zA s0) (hset (hset (hset (hset (hset h la (.inr (20, [.int 0, .ref ed, .int 0])) tl) a (.inr (9, [.null, .null, .int 0, .int 0, .null, .int 0, .ref la])) t) a (.inr (9, [.ref s1, .null, .int 0, .int 0, .null, .int 0, .ref la])) t) a (.inr (9, [.ref s1, .ref s2, .int 0, .int 0, .null, .int 0, .ref la])) t) a (.inr (9, [.ref s1, .ref s2, .int (nI wt), .int 0, .null, .int 0, .ref la])) t) H := hH
  have e13 : (hset (hset (hset (hset (hset h la (.inr (20, [.int 0, .ref ed, .int 0])) tl) a (.inr (9, [.null, .null, .int 0, .int 0, .null, .int 0, .ref la])) t) a (.inr (9, [.ref s1, .null, .int 0, .int 0, .null, .int 0, .ref la])) t) a (.inr (9, [.ref s1, .ref s2, .int 0, .int 0, .null, .int 0, .ref la])) t) a (.inr (9, [.ref s1, .ref s2, .int (nI wt), .int 0, .null, .int 0, .ref la])) t) la = some (.inr (20, [.int 0, .ref ed, .int 0]), tl) := (hset_ne _ _ _ ((Ne.symm x1))).trans e11
  have e14 : (hset (hset (hset (hset (hset h la (.inr (20, [.int 0, .ref ed, .int 0])) tl) a (.inr (9, [.null, .null, .int 0, .int 0, .null, .int 0, .ref la])) t) a (.inr (9, [.ref s1, .null, .int 0, .int 0, .null, .int 0, .ref la])) t) a (.inr (9, [.ref s1, .ref s2, .int 0, .int 0, .null, .int 0, .ref la])) t) a (.inr (9, [.ref s1, .ref s2, .int (nI wt), .int 0, .null, .int 0, .ref la])) t) a = some (.inr (9, [.ref s1, .ref s2, .int (nI wt), .int 0, .null, .int 0, .ref la]), t) := hset_self _ _ _ _
  refine lv_aload_n hx hb dX7_init_30 rfl (lv_at hl 0 rfl) ?_
  refine lv_iload hx hb dX7_init_31 (lv_at hl 4 rfl) ?_
  refine hp_putF (C := RX12) (T := TX12) (N := 7) (v := .int rm) (ty := .int) hx hb hts in_X12 tyX12 tyX12_ok nmX12 hown hK hH hS e14 rfl 3 (by decide) (hts _ q739) (fun _ z => z) rfl hnm rfl (by decide +kernel) rfl rfl (Nat.le_of_ble_eq_true rfl) dX7_init_33 (fun H locs _ hH hS => ?_)
  have hH : HP D CL (zA s0) (hset (hset (hset (hset (hset (hset h la (.inr (20, [.int 0, .ref ed, .int 0])) tl) a (.inr (9, [.null, .null, .int 0, .int 0, .null, .int 0, .ref la])) t) a (.inr (9, [.ref s1, .null, .int 0, .int 0, .null, .int 0, .ref la])) t) a (.inr (9, [.ref s1, .ref s2, .int 0, .int 0, .null, .int 0, .ref la])) t) a (.inr (9, [.ref s1, .ref s2, .int (nI wt), .int 0, .null, .int 0, .ref la])) t) a (.inr (9, [.ref s1, .ref s2, .int (nI wt), .int rm, .null, .int 0, .ref la])) t) H := hH
  have e15 : (hset (hset (hset (hset (hset (hset h la (.inr (20, [.int 0, .ref ed, .int 0])) tl) a (.inr (9, [.null, .null, .int 0, .int 0, .null, .int 0, .ref la])) t) a (.inr (9, [.ref s1, .null, .int 0, .int 0, .null, .int 0, .ref la])) t) a (.inr (9, [.ref s1, .ref s2, .int 0, .int 0, .null, .int 0, .ref la])) t) a (.inr (9, [.ref s1, .ref s2, .int (nI wt), .int 0, .null, .int 0, .ref la])) t) a (.inr (9, [.ref s1, .ref s2, .int (nI wt), .int rm, .null, .int 0, .ref la])) t) la = some (.inr (20, [.int 0, .ref ed, .int 0]), tl) := (hset_ne _ _ _ ((Ne.symm x1))).trans e13
  have e16 : (hset (hset (hset (hset (hset (hset h la (.inr (20, [.int 0, .ref ed, .int 0])) tl) a (.inr (9, [.null, .null, .int 0, .int 0, .null, .int 0, .ref la])) t) a (.inr (9, [.ref s1, .null, .int 0, .int 0, .null, .int 0, .ref la])) t) a (.inr (9, [.ref s1, .ref s2, .int 0, .int 0, .null, .int 0, .ref la])) t) a (.inr (9, [.ref s1, .ref s2, .int (nI wt), .int 0, .null, .int 0, .ref la])) t) a (.inr (9, [.ref s1, .ref s2, .int (nI wt), .int rm, .null, .int 0, .ref la])) t) a = some (.inr (9, [.ref s1, .ref s2, .int (nI wt), .int rm, .null, .int 0, .ref la]), t) := hset_self _ _ _ _
  refine lv_aload_n hx hb dX7_init_36 rfl (lv_at hl 0 rfl) ?_
  refine lv_aloadN hx hb dX7_init_37 (lv_at hl 5 rfl) ?_
  refine hp_putF (C := RX12) (T := TX12) (N := 7) (v := .null) (ty := (.object "FirstIn$Mark")) hx hb hts in_X12 tyX12 tyX12_ok nmX12 hown hK hH hS e16 rfl 4 (by decide) (hts _ q741) (fun _ z => z) rfl hnm rfl (by decide +kernel) rfl rfl (Nat.le_of_ble_eq_true rfl) dX7_init_39 (fun H locs _ hH hS => ?_)
  have hH : HP D CL (zA s0) (hset (hset (hset (hset (hset (hset (hset h la (.inr (20, [.int 0, .ref ed, .int 0])) tl) a (.inr (9, [.null, .null, .int 0, .int 0, .null, .int 0, .ref la])) t) a (.inr (9, [.ref s1, .null, .int 0, .int 0, .null, .int 0, .ref la])) t) a (.inr (9, [.ref s1, .ref s2, .int 0, .int 0, .null, .int 0, .ref la])) t) a (.inr (9, [.ref s1, .ref s2, .int (nI wt), .int 0, .null, .int 0, .ref la])) t) a (.inr (9, [.ref s1, .ref s2, .int (nI wt), .int rm, .null, .int 0, .ref la])) t) a (.inr (9, [.ref s1, .ref s2, .int (nI wt), .int rm, .null, .int 0, .ref la])) t) H := hH
  have e17 : (hset (hset (hset (hset (hset (hset (hset h la (.inr (20, [.int 0, .ref ed, .int 0])) tl) a (.inr (9, [.null, .null, .int 0, .int 0, .null, .int 0, .ref la])) t) a (.inr (9, [.ref s1, .null, .int 0, .int 0, .null, .int 0, .ref la])) t) a (.inr (9, [.ref s1, .ref s2, .int 0, .int 0, .null, .int 0, .ref la])) t) a (.inr (9, [.ref s1, .ref s2, .int (nI wt), .int 0, .null, .int 0, .ref la])) t) a (.inr (9, [.ref s1, .ref s2, .int (nI wt), .int rm, .null, .int 0, .ref la])) t) a (.inr (9, [.ref s1, .ref s2, .int (nI wt), .int rm, .null, .int 0, .ref la])) t) la = some (.inr (20, [.int 0, .ref ed, .int 0]), tl) := (hset_ne _ _ _ ((Ne.symm x1))).trans e15
  have e18 : (hset (hset (hset (hset (hset (hset (hset h la (.inr (20, [.int 0, .ref ed, .int 0])) tl) a (.inr (9, [.null, .null, .int 0, .int 0, .null, .int 0, .ref la])) t) a (.inr (9, [.ref s1, .null, .int 0, .int 0, .null, .int 0, .ref la])) t) a (.inr (9, [.ref s1, .ref s2, .int 0, .int 0, .null, .int 0, .ref la])) t) a (.inr (9, [.ref s1, .ref s2, .int (nI wt), .int 0, .null, .int 0, .ref la])) t) a (.inr (9, [.ref s1, .ref s2, .int (nI wt), .int rm, .null, .int 0, .ref la])) t) a (.inr (9, [.ref s1, .ref s2, .int (nI wt), .int rm, .null, .int 0, .ref la])) t) a = some (.inr (9, [.ref s1, .ref s2, .int (nI wt), .int rm, .null, .int 0, .ref la]), t) := hset_self _ _ _ _
  refine lv_iconst (v := nI 0) hx hb dX7_init_42 (by decide) ?_
  refine lv_istore (lv' := [(6, .int (nI 0)), (0, .ref a), (1, .ref s1), (2, .ref s2), (3, .int (nI wt)), (4, .int rm), (5, .null)]) hx hb dX7_init_43 hl (by decide) rfl (fun ls hl => ?_)
  refine w_loopC4 (fun (x : Nat) (L : List Nat) (j : Nat) (hh : Hp) => 10 - x) (fun (x : Nat) (L : List Nat) (j : Nat) (hh : Hp) H locs ls cells slots => (x ≤ 10) ∧ (hh a = some (.inr (9, [.ref s1, .ref s2, .int (nI wt), .int rm, .null, .int 0, .ref la]), t)) ∧ (AL (K 4) ed hh la tl L j) ∧ (CPL tc hh L (cpP 2 b1 b2 bu x 0)) ∧ (frO t tl h hh) ∧ (obK h hh) ∧ (j = 0 ∨ gcap (j - 1) + 1 ≤ L.length) ∧ (cells ≤ 1 + L.length + j ∧ slots ≤ 3 + 2 * L.length + gsum j) ∧ HP D CL (zA s0) hh H ∧ va_S (zA s0) s.heap H locs ∧ lv_has ls 8 [(0, .ref a), (6, .int (nI x))]) ?_ 0 ([]) 0 (hset (hset (hset (hset (hset (hset (hset h la (.inr (20, [.int 0, .ref ed, .int 0])) tl) a (.inr (9, [.null, .null, .int 0, .int 0, .null, .int 0, .ref la])) t) a (.inr (9, [.ref s1, .null, .int 0, .int 0, .null, .int 0, .ref la])) t) a (.inr (9, [.ref s1, .ref s2, .int 0, .int 0, .null, .int 0, .ref la])) t) a (.inr (9, [.ref s1, .ref s2, .int (nI wt), .int 0, .null, .int 0, .ref la])) t) a (.inr (9, [.ref s1, .ref s2, .int (nI wt), .int rm, .null, .int 0, .ref la])) t) a (.inr (9, [.ref s1, .ref s2, .int (nI wt), .int rm, .null, .int 0, .ref la])) t) ⟨Nat.zero_le _, e18, al_nil (mcn := 0) (d := ed) e17 (by decide) (Or.inl ⟨rfl, rfl⟩), by rw [cpP_0]; exact ⟨rfl, fun i hi => absurd hi (Nat.not_lt_zero _)⟩, ru_fr he nla, ru_ob he nla, Or.inl rfl, by decide, hH, hS, lv_sub hl [1, 0] rfl⟩
  intro x L j hh ih45 H locs ls cells slots hP
  obtain ⟨hxx, ha, hAl, hcp, hfr, hok, hjl, hcs, hH, hS, hl⟩ := hP
  have hsa := side_fr hfr haw (Or.inl rfl) hsd1
  have hsb := side_fr hfr haw (Or.inr rfl) hsd2
  have hu9 := unl_fr hfr haw hun
  have hcl := cpP_len (kd := 2) (b1 := b1) (b2 := b2) (bu := bu) (x := x) (y := 0)
  have hc1 := hcp.1
  have hj13 := (AL.j13 hAl)
  have hj7 : j ≤ 7 := by rcases hjl with q | q; omega; exact gcap_7 j hj13 (by omega)
  have hg9 := gsum_7 j hj7
  have hg8 := gcap_8 j hj7
  refine lv_iload hx hb dX7_init_45 (lv_at hl 1 rfl) ?_
  refine lv_bipush (v := nI 10) hx hb dX7_init_47 (by decide) ?_
  refine lvN_ge (tgt := 104) hx hb (by first | omega | (refine Nat.lt_of_lt_of_le (Nat.mod_lt _ ?_) ?_ <;> omega)) (by first | omega | (refine Nat.lt_of_lt_of_le (Nat.mod_lt _ ?_) ?_ <;> omega)) dX7_init_49 (by decide) (fun c19 => ?_) (fun c19 => ?_)
  · exact hp_vret hx hb hr hlocks hH hS (by first | decide | omega | (simp only [rmk]; omega)) (by first | decide | omega | (simp only [rmk]; omega)) dX7_init_104 (⟨rfl, _, L, j, ha, hAl, by rw [show (10 : Nat) = x by omega]; exact hcp, hfr, hok⟩)
  · refine lv_iconst (v := nI 0) hx hb dX7_init_52 (by decide) ?_
    refine lv_istore (lv' := [(7, .int (nI 0)), (0, .ref a), (6, .int (nI x))]) hx hb dX7_init_53 hl (by decide) rfl (fun ls hl => ?_)
    refine w_loopC4 (fun (y : Nat) (L : List Nat) (j : Nat) (hh : Hp) => 10 - y) (fun (y : Nat) (L : List Nat) (j : Nat) (hh : Hp) H locs ls cells slots => (y ≤ 10) ∧ (hh a = some (.inr (9, [.ref s1, .ref s2, .int (nI wt), .int rm, .null, .int 0, .ref la]), t)) ∧ (AL (K 4) ed hh la tl L j) ∧ (CPL tc hh L (cpP 2 b1 b2 bu x y)) ∧ (frO t tl h hh) ∧ (obK h hh) ∧ (j = 0 ∨ gcap (j - 1) + 1 ≤ L.length) ∧ (cells ≤ 1 + L.length + j ∧ slots ≤ 3 + 2 * L.length + gsum j) ∧ HP D CL (zA s0) hh H ∧ va_S (zA s0) s.heap H locs ∧ lv_has ls 8 [(0, .ref a), (6, .int (nI x)), (7, .int (nI y))]) ?_ 0 L j hh ⟨Nat.zero_le _, ha, hAl, hcp, hfr, hok, hjl, hcs, hH, hS, lv_sub hl [1, 2, 0] rfl⟩
    intro y L j hh ih55 H locs ls cells slots hP
    obtain ⟨hyy, ha, hAl, hcp, hfr, hok, hjl, hcs, hH, hS, hl⟩ := hP
    have hsa := side_fr hfr haw (Or.inl rfl) hsd1
    have hsb := side_fr hfr haw (Or.inr rfl) hsd2
    have hu9 := unl_fr hfr haw hun
    have hcl := cpP_len (kd := 2) (b1 := b1) (b2 := b2) (bu := bu) (x := x) (y := y)
    have hc1 := hcp.1
    have hj13 := (AL.j13 hAl)
    have hj7 : j ≤ 7 := by rcases hjl with q | q; omega; exact gcap_7 j hj13 (by omega)
    have hg9 := gsum_7 j hj7
    have hg8 := gcap_8 j hj7
    refine lv_iload hx hb dX7_init_55 (lv_at hl 2 rfl) ?_
    refine lv_bipush (v := nI 10) hx hb dX7_init_57 (by decide) ?_
    refine lvN_ge (tgt := 98) hx hb (by first | omega | (refine Nat.lt_of_lt_of_le (Nat.mod_lt _ ?_) ?_ <;> omega)) (by first | omega | (refine Nat.lt_of_lt_of_le (Nat.mod_lt _ ?_) ?_ <;> omega)) dX7_init_59 (by decide) (fun c20 => ?_) (fun c20 => ?_)
    · refine lv_iinc (v := nI (x + 1)) (lv' := [(6, .int (nI (x + 1))), (0, .ref a), (7, .int (nI y))]) hx hb dX7_init_98 hl (k := 1) rfl (nI_add x 1) (by decide) rfl (fun ls hl => ?_)
      refine lv_goto (tgt := 45) hx hb dX7_init_101 (by decide) ?_
      exact ih45 (x + 1) L j hh (by omega) H locs ls _ _ ⟨by omega, ha, hAl, by rw [cpP_x, ← show y = 10 by omega]; exact hcp, hfr, hok, hjl, hcs, hH, hS, lv_sub hl [1, 0] rfl⟩
    · refine lv_aload_n hx hb dX7_init_62 rfl (lv_at hl 0 rfl) ?_
      refine lv_iload hx hb dX7_init_63 (lv_at hl 1 rfl) ?_
      refine lv_iload hx hb dX7_init_65 (lv_at hl 2 rfl) ?_
      refine hp_callU (As := [.int (nI x), .int (nI y)]) (rest := []) (owner := "FirstIn$Rule") (x := ⟨"FirstIn$Rule", "holds", "(II)Z"⟩) hx hb hml hown hts hPB hK hH hS (mc_hld_X12 hK0 hG (rs := false) ha hsa hsb hb1 hb2 (x := x) (y := y) (by omega) (by omega) hu9) ha rfl rfl 2 (va_cwO 2 hts (lw_O q687 q689 q688 q691 q692 q128 q693) rfl rfl rfl q712 (by decide +kernel) (by first | decide | omega | (simp only [rmk]; omega))) rfl hl.1 rfl (Nat.le_of_ble_eq_true rfl) (by first | decide | omega | (simp only [rmk]; omega)) dX7_init_67 (fun v21 h23 H locs hp22 _ hH hS => ?_)
      obtain ⟨rfl, hq⟩ := hp22
      rw [hq] at hH
      refine lvB_eq (tgt := 92) hx hb dX7_init_70 (by decide) (fun ch => ?_) (fun ch => ?_)
      · refine lv_iinc (v := nI (y + 1)) (lv' := [(7, .int (nI (y + 1))), (0, .ref a), (6, .int (nI x))]) hx hb dX7_init_92 hl (k := 2) rfl (nI_add y 1) (by decide) rfl (fun ls hl => ?_)
        refine lv_goto (tgt := 55) hx hb dX7_init_95 (by decide) ?_
        exact ih55 (y + 1) L j hh (by omega) H locs ls _ _ ⟨by omega, ha, hAl, by rw [cpP_f ch]; exact hcp, hfr, hok, hjl, hcs, hH, hS, lv_sub hl [1, 2, 0] rfl⟩
      · refine lv_aload_n hx hb dX7_init_73 rfl (lv_at hl 0 rfl) ?_
        refine hp_get (C := RX12) (T := TX12) (N := 7) (v := .ref la) hx hb hts in_X12 hown hK hH ha rfl 6 (by decide) (hts _ q745) (fun _ z => z) rfl dX7_init_74 ?_
        obtain ⟨nw24, hnw24, nnw24⟩ := hH.fr
        refine hp_new (ci := 7) (C := RX9) (T := TX9) (N := 2) (fs := [.int 0, .int 0]) hx hb hts in_X9 tyX9 tyX9_ok hown (hts _ q714) (hts _ q715) (hts _ q127) hK hH hS hA rfl (by decide) (by first | decide | omega | (simp only [rmk]; omega)) (by first | decide | omega | (simp only [rmk]; omega)) tc dX7_init_77 (fun H _ hH hS => ?_)
        rw [← hnw24] at hH ⊢
        have hH : HP D CL (zA s0) (hset hh nw24 (.inr (7, [.int 0, .int 0])) tc) H := hH
        have x25 : a ≠ nw24 := ne_new ha nnw24
        have e26 : (hset hh nw24 (.inr (7, [.int 0, .int 0])) tc) a = some (.inr (9, [.ref s1, .ref s2, .int (nI wt), .int rm, .null, .int 0, .ref la]), t) := (hset_ne _ _ _ (x25)).trans ha
        have e27 : (hset hh nw24 (.inr (7, [.int 0, .int 0])) tc) nw24 = some (.inr (7, [.int 0, .int 0]), tc) := hset_self _ _ _ _
        refine lv_dup hx hb dX7_init_80 rfl ?_
        refine lv_iload hx hb dX7_init_81 (lv_at hl 1 rfl) ?_
        refine lv_iload hx hb dX7_init_83 (lv_at hl 2 rfl) ?_
        refine hp_callI (As := [.int (nI x), .int (nI y)]) (rest := [.ref nw24, .ref la]) hx hb hml hown hts hPB hH hS (mc_couple hK0 hG (x := x) (y := y) e27) 2 q716 q717 q127 q718 rfl (by decide +kernel) ⟨rfl, rfl⟩ (by first | decide | omega | (simp only [rmk]; omega)) rfl hl.1 rfl (Nat.le_of_ble_eq_true rfl) (by first | decide | omega | (simp only [rmk]; omega)) dX7_init_85 (fun v28 h30 H locs hp29 _ hH hS => ?_)
        obtain ⟨rfl, hq⟩ := hp29
        rw [hq, hset_hset] at hH
        have hec : (hset hh nw24 (.inr (7, [.int (nI x), .int (nI y)])) tc) nw24 = some (.inr (7, [.int (nI x), .int (nI y)]), tc) := hset_self _ _ _ _
        have hx9 : exH hh (hset hh nw24 (.inr (7, [.int (nI x), .int (nI y)])) tc) := exH.new nnw24
        refine hp_add hx hb hml hown hts hPB hK0 hK hH hS hG (x := nw24) (hAl.X hx9) ⟨_, _, _, hec⟩ (by have := gcap_13; omega) q731 (by first | decide | omega | (simp only [rmk]; omega)) hl.1 rfl (Nat.le_of_ble_eq_true rfl) (by first | decide | omega | (simp only [rmk]; omega)) dX7_init_88 (fun j2 h4 H locs hA4 hf4 hk4 hj4 hH hS => ?_)
        refine lv_pop hx hb dX7_init_91 rfl ?_
        refine lv_iinc (v := nI (y + 1)) (lv' := [(7, .int (nI (y + 1))), (0, .ref a), (6, .int (nI x))]) hx hb dX7_init_92 hl (k := 2) rfl (nI_add y 1) (by decide) rfl (fun ls hl => ?_)
        refine lv_goto (tgt := 55) hx hb dX7_init_95 (by decide) ?_
        exact ih55 (y + 1) (L ++ [nw24]) j2 h4 (by omega) H locs ls _ _ ⟨by omega, hf4 _ _ _ (hx9 _ _ _ ha) htt, hA4, by rw [cpP_t ch]; exact cpl_push (cpl_keep hcp (fun b e q => hf4 _ _ _ (hx9 _ _ _ q) htc)) (hf4 _ _ _ hec htc), (hfr.X hx9).T hf4, fun q z => hk4 q (by obtain ⟨c1, f1, u1, z1⟩ := hok q z; exact ⟨c1, f1, u1, hx9 _ _ _ z1⟩), j_next hjl hj4, by rw [len_push]; exact c_next hcs hj4, hH, hS, lv_sub hl [1, 2, 0] rfl⟩
set_option maxHeartbeats 4000000 in
theorem mc_ruleR_X12 (hK0 : va_K D CL (TYS K) s0) {av : Nat → Nat} {ed mi : Nat} (hG : GX s0 wd av ed mi) {a t z9 tl tc s1 s2 w1 w2 b1 b2 wt : Nat} {rm : Int32} {bu : Option Nat} (he : h a = some (.inr (9, [.null, .null, .int 0, .int 0, .null, .int 0, .null]), t)) (hsd1 : SIDE h s1 w1 b1) (hsd2 : SIDE h s2 w2 b2) (hb1 : b1 < 1024) (hb2 : b2 < 1024) (hun : UNL h (.ref z9) bu) (haw : awy t tl h s1 s2 (.ref z9)) (htt : t ≠ tl) (htc : tc ≠ tl) : Met l yX7_init (ws_ yX7_init cX7_init 8 ((Option.none : Option Jvm.ClassFile.FieldType))) (rmk 7 110 700) (va_Pc [.ref a, .ref s1, .ref s2, .int (nI wt), .int rm, .ref z9] (PB s0 D CL (h))) (QR s0 D CL (fun v h1 => v = none ∧ ∃ la L j, h1 a = some (.inr (9, [.ref s1, .ref s2, .int (nI wt), .int rm, .ref z9, .int 0, .ref la]), t) ∧ AL (K 4) ed h1 la tl L j ∧ CPL tc h1 L (cpP 2 b1 b2 bu 10 0) ∧ frO t tl h h1 ∧ obK h h1)) 110 700 (zA s0) := by
  refine hp_met (by decide) (Nat.le_of_ble_eq_true rfl) hK0 ?_
  intro p e s m below meth cd ls hx hb hr hlocks hml hown hnm hts hK hPB hl hS hH hA
  have hl : lv_has ls 8 [(0, .ref a), (1, .ref s1), (2, .ref s2), (3, .int (nI wt)), (4, .int rm), (5, .ref z9)] := hl
  have hown : s.vm.findClass RX7 = some m.cls := hown
  refine lv_aload_n hx hb dX7_init_0 rfl (lv_at hl 0 rfl) ?_
  refine hp_oinit hx hb hown hts q684 q150 q151 (hl.1.trans hml.symm) (by decide) (Nat.le_of_ble_eq_true rfl) dX7_init_1 ?_
  refine lv_aload_n hx hb dX7_init_4 rfl (lv_at hl 0 rfl) ?_
  obtain ⟨la, hla, nla⟩ := hH.fr
  refine hp_new (ci := 20) (C := RJ2) (T := TJ2) (N := 3) (fs := [.int 0, .null, .int 0]) hx hb hts in_J2 tyJ2 tyJ2_ok hown (hts _ q685) (hts _ q159) (hts _ q106) hK hH hS hA rfl (by decide) (by first | decide | omega | (simp only [rmk]; omega)) (by first | decide | omega | (simp only [rmk]; omega)) tl dX7_init_5 (fun H _ hH hS => ?_)
  rw [← hla] at hH ⊢
  have hH : HP D CL (zA s0) (hset h la (.inr (20, [.int 0, .null, .int 0])) tl) H := hH
  have x1 : a ≠ la := ne_new he nla
  have e2 : (hset h la (.inr (20, [.int 0, .null, .int 0])) tl) a = some (.inr (9, [.null, .null, .int 0, .int 0, .null, .int 0, .null]), t) := (hset_ne _ _ _ (x1)).trans he
  have e3 : (hset h la (.inr (20, [.int 0, .null, .int 0])) tl) la = some (.inr (20, [.int 0, .null, .int 0]), tl) := hset_self _ _ _ _
  refine lv_dup hx hb dX7_init_8 rfl ?_
  refine hp_callI (As := []) (rest := [.ref la, .ref a]) hx hb hml hown hts hPB hH hS (mj_ainit hK0 hG e3) 0 q686 q161 q106 q162 rfl (by decide +kernel) ⟨rfl, rfl⟩ (by first | decide | omega | (simp only [rmk]; omega)) rfl hl.1 rfl (Nat.le_of_ble_eq_true rfl) (by first | decide | omega | (simp only [rmk]; omega)) dX7_init_9 (fun v4 h6 H locs hp5 _ hH hS => ?_)
  obtain ⟨rfl, hq⟩ := hp5
  rw [hq, hset_hset] at hH
  have hel : (hset h la (.inr (20, [.int 0, .ref ed, .int 0])) tl) la = some (.inr (20, [.int 0, .ref ed, .int 0]), tl) := hset_self _ _ _ _
  have hea : (hset h la (.inr (20, [.int 0, .ref ed, .int 0])) tl) a = some (.inr (9, [.null, .null, .int 0, .int 0, .null, .int 0, .null]), t) := (hset_ne _ _ _ x1).trans he
  refine hp_putF (C := RX12) (T := TX12) (N := 7) (v := .ref la) (ty := (.object "java/util/ArrayList")) hx hb hts in_X12 tyX12 tyX12_ok nmX12 hown hK hH hS hea rfl 6 (by decide) (hts _ q745) (fun _ z => z) rfl hnm rfl (by decide +kernel) rfl rfl (Nat.le_of_ble_eq_true rfl) dX7_init_12 (fun H locs _ hH hS => ?_)
  have hH : HP D CL (zA s0) (hset (hset h la (.inr (20, [.int 0, .ref ed, .int 0])) tl) a (.inr (9, [.null, .null, .int 0, .int 0, .null, .int 0, .ref la])) t) H := hH
  have e7 : (hset (hset h la (.inr (20, [.int 0, .ref ed, .int 0])) tl) a (.inr (9, [.null, .null, .int 0, .int 0, .null, .int 0, .ref la])) t) la = some (.inr (20, [.int 0, .ref ed, .int 0]), tl) := (hset_ne _ _ _ ((Ne.symm x1))).trans hel
  have e8 : (hset (hset h la (.inr (20, [.int 0, .ref ed, .int 0])) tl) a (.inr (9, [.null, .null, .int 0, .int 0, .null, .int 0, .ref la])) t) a = some (.inr (9, [.null, .null, .int 0, .int 0, .null, .int 0, .ref la]), t) := hset_self _ _ _ _
  refine lv_aload_n hx hb dX7_init_15 rfl (lv_at hl 0 rfl) ?_
  refine lv_aload_n hx hb dX7_init_16 rfl (lv_at hl 1 rfl) ?_
  refine hp_putF (C := RX12) (T := TX12) (N := 7) (v := .ref s1) (ty := (.object "FirstIn$Side")) hx hb hts in_X12 tyX12 tyX12_ok nmX12 hown hK hH hS e8 rfl 0 (by decide) (hts _ q732) (fun _ z => z) rfl hnm rfl (by decide +kernel) rfl rfl (Nat.le_of_ble_eq_true rfl) dX7_init_17 (fun H locs _ hH hS => ?_)
  have hH : HP D CL (zA s0) (hset (hset (hset h la (.inr (20, [.int 0, .ref ed, .int 0])) tl) a (.inr (9, [.null, .null, .int 0, .int 0, .null, .int 0, .ref la])) t) a (.inr (9, [.ref s1, .null, .int 0, .int 0, .null, .int 0, .ref la])) t) H := hH
  have e9 : (hset (hset (hset h la (.inr (20, [.int 0, .ref ed, .int 0])) tl) a (.inr (9, [.null, .null, .int 0, .int 0, .null, .int 0, .ref la])) t) a (.inr (9, [.ref s1, .null, .int 0, .int 0, .null, .int 0, .ref la])) t) la = some (.inr (20, [.int 0, .ref ed, .int 0]), tl) := (hset_ne _ _ _ ((Ne.symm x1))).trans e7
  have e10 : (hset (hset (hset h la (.inr (20, [.int 0, .ref ed, .int 0])) tl) a (.inr (9, [.null, .null, .int 0, .int 0, .null, .int 0, .ref la])) t) a (.inr (9, [.ref s1, .null, .int 0, .int 0, .null, .int 0, .ref la])) t) a = some (.inr (9, [.ref s1, .null, .int 0, .int 0, .null, .int 0, .ref la]), t) := hset_self _ _ _ _
  refine lv_aload_n hx hb dX7_init_20 rfl (lv_at hl 0 rfl) ?_
  refine lv_aload_n hx hb dX7_init_21 rfl (lv_at hl 2 rfl) ?_
  refine hp_putF (C := RX12) (T := TX12) (N := 7) (v := .ref s2) (ty := (.object "FirstIn$Side")) hx hb hts in_X12 tyX12 tyX12_ok nmX12 hown hK hH hS e10 rfl 1 (by decide) (hts _ q734) (fun _ z => z) rfl hnm rfl (by decide +kernel) rfl rfl (Nat.le_of_ble_eq_true rfl) dX7_init_22 (fun H locs _ hH hS => ?_)
  have hH : HP D CL (zA s0) (hset (hset (hset (hset h la (.inr (20, [.int 0, .ref ed, .int 0])) tl) a (.inr (9, [.null, .null, .int 0, .int 0, .null, .int 0, .ref la])) t) a (.inr (9, [.ref s1, .null, .int 0, .int 0, .null, .int 0, .ref la])) t) a (.inr (9, [.ref s1, .ref s2, .int 0, .int 0, .null, .int 0, .ref la])) t) H := hH
  have e11 : (hset (hset (hset (hset h la (.inr (20, [.int 0, .ref ed, .int 0])) tl) a (.inr (9, [.null, .null, .int 0, .int 0, .null, .int 0, .ref la])) t) a (.inr (9, [.ref s1, .null, .int 0, .int 0, .null, .int 0, .ref la])) t) a (.inr (9, [.ref s1, .ref s2, .int 0, .int 0, .null, .int 0, .ref la])) t) la = some (.inr (20, [.int 0, .ref ed, .int 0]), tl) := (hset_ne _ _ _ ((Ne.symm x1))).trans e9
  have e12 : (hset (hset (hset (hset h la (.inr (20, [.int 0, .ref ed, .int 0])) tl) a (.inr (9, [.null, .null, .int 0, .int 0, .null, .int 0, .ref la])) t) a (.inr (9, [.ref s1, .null, .int 0, .int 0, .null, .int 0, .ref la])) t) a (.inr (9, [.ref s1, .ref s2, .int 0, .int 0, .null, .int 0, .ref la])) t) a = some (.inr (9, [.ref s1, .ref s2, .int 0, .int 0, .null, .int 0, .ref la]), t) := hset_self _ _ _ _
  refine lv_aload_n hx hb dX7_init_25 rfl (lv_at hl 0 rfl) ?_
  refine lv_iload_n hx hb dX7_init_26 rfl (lv_at hl 3 rfl) ?_
  refine hp_putF (C := RX12) (T := TX12) (N := 7) (v := .int (nI wt)) (ty := .int) hx hb hts in_X12 tyX12 tyX12_ok nmX12 hown hK hH hS e12 rfl 2 (by decide) (hts _ q736) (fun _ z => z) rfl hnm rfl (by decide +kernel) rfl rfl (Nat.le_of_ble_eq_true rfl) dX7_init_27 (fun H locs _ hH hS => ?_)
  have hH : HP D CL (zA s0) (hset (hset (hset (hset (hset h la (.inr (20, [.int 0, .ref ed, .int 0])) tl) a (.inr (9, [.null, .null, .int 0, .int 0, .null, .int 0, .ref la])) t) a (.inr (9, [.ref s1, .null, .int 0, .int 0, .null, .int 0, .ref la])) t) a (.inr (9, [.ref s1, .ref s2, .int 0, .int 0, .null, .int 0, .ref la])) t) a (.inr (9, [.ref s1, .ref s2, .int (nI wt), .int 0, .null, .int 0, .ref la])) t) H := hH
  have e13 : (hset (hset (hset (hset (hset h la (.inr (20, [.int 0, .ref ed, .int 0])) tl) a (.inr (9, [.null, .null, .int 0, .int 0, .null, .int 0, .ref la])) t) a (.inr (9, [.ref s1, .null, .int 0, .int 0, .null, .int 0, .ref la])) t) a (.inr (9, [.ref s1, .ref s2, .int 0, .int 0, .null, .int 0, .ref la])) t) a (.inr (9, [.ref s1, .ref s2, .int (nI wt), .int 0, .null, .int 0, .ref la])) t) la = some (.inr (20, [.int 0, .ref ed, .int 0]), tl) := (hset_ne _ _ _ ((Ne.symm x1))).trans e11
  have e14 : (hset (hset (hset (hset (hset h la (.inr (20, [.int 0, .ref ed, .int 0])) tl) a (.inr (9, [.null, .null, .int 0, .int 0, .null, .int 0, .ref la])) t) a (.inr (9, [.ref s1, .null, .int 0, .int 0, .null, .int 0, .ref la])) t) a (.inr (9, [.ref s1, .ref s2, .int 0, .int 0, .null, .int 0, .ref la])) t) a (.inr (9, [.ref s1, .ref s2, .int (nI wt), .int 0, .null, .int 0, .ref la])) t) a = some (.inr (9, [.ref s1, .ref s2, .int (nI wt), .int 0, .null, .int 0, .ref la]), t) := hset_self _ _ _ _
  refine lv_aload_n hx hb dX7_init_30 rfl (lv_at hl 0 rfl) ?_
  refine lv_iload hx hb dX7_init_31 (lv_at hl 4 rfl) ?_
  refine hp_putF (C := RX12) (T := TX12) (N := 7) (v := .int rm) (ty := .int) hx hb hts in_X12 tyX12 tyX12_ok nmX12 hown hK hH hS e14 rfl 3 (by decide) (hts _ q739) (fun _ z => z) rfl hnm rfl (by decide +kernel) rfl rfl (Nat.le_of_ble_eq_true rfl) dX7_init_33 (fun H locs _ hH hS => ?_)
  have hH : HP D CL (zA s0) (hset (hset (hset (hset (hset (hset h la (.inr (20, [.int 0, .ref ed, .int 0])) tl) a (.inr (9, [.null, .null, .int 0, .int 0, .null, .int 0, .ref la])) t) a (.inr (9, [.ref s1, .null, .int 0, .int 0, .null, .int 0, .ref la])) t) a (.inr (9, [.ref s1, .ref s2, .int 0, .int 0, .null, .int 0, .ref la])) t) a (.inr (9, [.ref s1, .ref s2, .int (nI wt), .int 0, .null, .int 0, .ref la])) t) a (.inr (9, [.ref s1, .ref s2, .int (nI wt), .int rm, .null, .int 0, .ref la])) t) H := hH
  have e15 : (hset (hset (hset (hset (hset (hset h la (.inr (20, [.int 0, .ref ed, .int 0])) tl) a (.inr (9, [.null, .null, .int 0, .int 0, .null, .int 0, .ref la])) t) a (.inr (9, [.ref s1, .null, .int 0, .int 0, .null, .int 0, .ref la])) t) a (.inr (9, [.ref s1, .ref s2, .int 0, .int 0, .null, .int 0, .ref la])) t) a (.inr (9, [.ref s1, .ref s2, .int (nI wt), .int 0, .null, .int 0, .ref la])) t) a (.inr (9, [.ref s1, .ref s2, .int (nI wt), .int rm, .null, .int 0, .ref la])) t) la = some (.inr (20, [.int 0, .ref ed, .int 0]), tl) := (hset_ne _ _ _ ((Ne.symm x1))).trans e13
  have e16 : (hset (hset (hset (hset (hset (hset h la (.inr (20, [.int 0, .ref ed, .int 0])) tl) a (.inr (9, [.null, .null, .int 0, .int 0, .null, .int 0, .ref la])) t) a (.inr (9, [.ref s1, .null, .int 0, .int 0, .null, .int 0, .ref la])) t) a (.inr (9, [.ref s1, .ref s2, .int 0, .int 0, .null, .int 0, .ref la])) t) a (.inr (9, [.ref s1, .ref s2, .int (nI wt), .int 0, .null, .int 0, .ref la])) t) a (.inr (9, [.ref s1, .ref s2, .int (nI wt), .int rm, .null, .int 0, .ref la])) t) a = some (.inr (9, [.ref s1, .ref s2, .int (nI wt), .int rm, .null, .int 0, .ref la]), t) := hset_self _ _ _ _
  refine lv_aload_n hx hb dX7_init_36 rfl (lv_at hl 0 rfl) ?_
  refine lv_aload hx hb dX7_init_37 (lv_at hl 5 rfl) ?_
  refine hp_putF (C := RX12) (T := TX12) (N := 7) (v := .ref z9) (ty := (.object "FirstIn$Mark")) hx hb hts in_X12 tyX12 tyX12_ok nmX12 hown hK hH hS e16 rfl 4 (by decide) (hts _ q741) (fun _ z => z) rfl hnm rfl (by decide +kernel) rfl rfl (Nat.le_of_ble_eq_true rfl) dX7_init_39 (fun H locs _ hH hS => ?_)
  have hH : HP D CL (zA s0) (hset (hset (hset (hset (hset (hset (hset h la (.inr (20, [.int 0, .ref ed, .int 0])) tl) a (.inr (9, [.null, .null, .int 0, .int 0, .null, .int 0, .ref la])) t) a (.inr (9, [.ref s1, .null, .int 0, .int 0, .null, .int 0, .ref la])) t) a (.inr (9, [.ref s1, .ref s2, .int 0, .int 0, .null, .int 0, .ref la])) t) a (.inr (9, [.ref s1, .ref s2, .int (nI wt), .int 0, .null, .int 0, .ref la])) t) a (.inr (9, [.ref s1, .ref s2, .int (nI wt), .int rm, .null, .int 0, .ref la])) t) a (.inr (9, [.ref s1, .ref s2, .int (nI wt), .int rm, .ref z9, .int 0, .ref la])) t) H := hH
  have e17 : (hset (hset (hset (hset (hset (hset (hset h la (.inr (20, [.int 0, .ref ed, .int 0])) tl) a (.inr (9, [.null, .null, .int 0, .int 0, .null, .int 0, .ref la])) t) a (.inr (9, [.ref s1, .null, .int 0, .int 0, .null, .int 0, .ref la])) t) a (.inr (9, [.ref s1, .ref s2, .int 0, .int 0, .null, .int 0, .ref la])) t) a (.inr (9, [.ref s1, .ref s2, .int (nI wt), .int 0, .null, .int 0, .ref la])) t) a (.inr (9, [.ref s1, .ref s2, .int (nI wt), .int rm, .null, .int 0, .ref la])) t) a (.inr (9, [.ref s1, .ref s2, .int (nI wt), .int rm, .ref z9, .int 0, .ref la])) t) la = some (.inr (20, [.int 0, .ref ed, .int 0]), tl) := (hset_ne _ _ _ ((Ne.symm x1))).trans e15
  have e18 : (hset (hset (hset (hset (hset (hset (hset h la (.inr (20, [.int 0, .ref ed, .int 0])) tl) a (.inr (9, [.null, .null, .int 0, .int 0, .null, .int 0, .ref la])) t) a (.inr (9, [.ref s1, .null, .int 0, .int 0, .null, .int 0, .ref la])) t) a (.inr (9, [.ref s1, .ref s2, .int 0, .int 0, .null, .int 0, .ref la])) t) a (.inr (9, [.ref s1, .ref s2, .int (nI wt), .int 0, .null, .int 0, .ref la])) t) a (.inr (9, [.ref s1, .ref s2, .int (nI wt), .int rm, .null, .int 0, .ref la])) t) a (.inr (9, [.ref s1, .ref s2, .int (nI wt), .int rm, .ref z9, .int 0, .ref la])) t) a = some (.inr (9, [.ref s1, .ref s2, .int (nI wt), .int rm, .ref z9, .int 0, .ref la]), t) := hset_self _ _ _ _
  refine lv_iconst (v := nI 0) hx hb dX7_init_42 (by decide) ?_
  refine lv_istore (lv' := [(6, .int (nI 0)), (0, .ref a), (1, .ref s1), (2, .ref s2), (3, .int (nI wt)), (4, .int rm), (5, .ref z9)]) hx hb dX7_init_43 hl (by decide) rfl (fun ls hl => ?_)
  refine w_loopC4 (fun (x : Nat) (L : List Nat) (j : Nat) (hh : Hp) => 10 - x) (fun (x : Nat) (L : List Nat) (j : Nat) (hh : Hp) H locs ls cells slots => (x ≤ 10) ∧ (hh a = some (.inr (9, [.ref s1, .ref s2, .int (nI wt), .int rm, .ref z9, .int 0, .ref la]), t)) ∧ (AL (K 4) ed hh la tl L j) ∧ (CPL tc hh L (cpP 2 b1 b2 bu x 0)) ∧ (frO t tl h hh) ∧ (obK h hh) ∧ (j = 0 ∨ gcap (j - 1) + 1 ≤ L.length) ∧ (cells ≤ 1 + L.length + j ∧ slots ≤ 3 + 2 * L.length + gsum j) ∧ HP D CL (zA s0) hh H ∧ va_S (zA s0) s.heap H locs ∧ lv_has ls 8 [(0, .ref a), (6, .int (nI x))]) ?_ 0 ([]) 0 (hset (hset (hset (hset (hset (hset (hset h la (.inr (20, [.int 0, .ref ed, .int 0])) tl) a (.inr (9, [.null, .null, .int 0, .int 0, .null, .int 0, .ref la])) t) a (.inr (9, [.ref s1, .null, .int 0, .int 0, .null, .int 0, .ref la])) t) a (.inr (9, [.ref s1, .ref s2, .int 0, .int 0, .null, .int 0, .ref la])) t) a (.inr (9, [.ref s1, .ref s2, .int (nI wt), .int 0, .null, .int 0, .ref la])) t) a (.inr (9, [.ref s1, .ref s2, .int (nI wt), .int rm, .null, .int 0, .ref la])) t) a (.inr (9, [.ref s1, .ref s2, .int (nI wt), .int rm, .ref z9, .int 0, .ref la])) t) ⟨Nat.zero_le _, e18, al_nil (mcn := 0) (d := ed) e17 (by decide) (Or.inl ⟨rfl, rfl⟩), by rw [cpP_0]; exact ⟨rfl, fun i hi => absurd hi (Nat.not_lt_zero _)⟩, ru_fr he nla, ru_ob he nla, Or.inl rfl, by decide, hH, hS, lv_sub hl [1, 0] rfl⟩
  intro x L j hh ih45 H locs ls cells slots hP
  obtain ⟨hxx, ha, hAl, hcp, hfr, hok, hjl, hcs, hH, hS, hl⟩ := hP
  have hsa := side_fr hfr haw (Or.inl rfl) hsd1
  have hsb := side_fr hfr haw (Or.inr rfl) hsd2
  have hu9 := unl_fr hfr haw hun
  have hcl := cpP_len (kd := 2) (b1 := b1) (b2 := b2) (bu := bu) (x := x) (y := 0)
  have hc1 := hcp.1
  have hj13 := (AL.j13 hAl)
  have hj7 : j ≤ 7 := by rcases hjl with q | q; omega; exact gcap_7 j hj13 (by omega)
  have hg9 := gsum_7 j hj7
  have hg8 := gcap_8 j hj7
  refine lv_iload hx hb dX7_init_45 (lv_at hl 1 rfl) ?_
  refine lv_bipush (v := nI 10) hx hb dX7_init_47 (by decide) ?_
  refine lvN_ge (tgt := 104) hx hb (by first | omega | (refine Nat.lt_of_lt_of_le (Nat.mod_lt _ ?_) ?_ <;> omega)) (by first | omega | (refine Nat.lt_of_lt_of_le (Nat.mod_lt _ ?_) ?_ <;> omega)) dX7_init_49 (by decide) (fun c19 => ?_) (fun c19 => ?_)
  · exact hp_vret hx hb hr hlocks hH hS (by first | decide | omega | (simp only [rmk]; omega)) (by first | decide | omega | (simp only [rmk]; omega)) dX7_init_104 (⟨rfl, _, L, j, ha, hAl, by rw [show (10 : Nat) = x by omega]; exact hcp, hfr, hok⟩)
  · refine lv_iconst (v := nI 0) hx hb dX7_init_52 (by decide) ?_
    refine lv_istore (lv' := [(7, .int (nI 0)), (0, .ref a), (6, .int (nI x))]) hx hb dX7_init_53 hl (by decide) rfl (fun ls hl => ?_)
    refine w_loopC4 (fun (y : Nat) (L : List Nat) (j : Nat) (hh : Hp) => 10 - y) (fun (y : Nat) (L : List Nat) (j : Nat) (hh : Hp) H locs ls cells slots => (y ≤ 10) ∧ (hh a = some (.inr (9, [.ref s1, .ref s2, .int (nI wt), .int rm, .ref z9, .int 0, .ref la]), t)) ∧ (AL (K 4) ed hh la tl L j) ∧ (CPL tc hh L (cpP 2 b1 b2 bu x y)) ∧ (frO t tl h hh) ∧ (obK h hh) ∧ (j = 0 ∨ gcap (j - 1) + 1 ≤ L.length) ∧ (cells ≤ 1 + L.length + j ∧ slots ≤ 3 + 2 * L.length + gsum j) ∧ HP D CL (zA s0) hh H ∧ va_S (zA s0) s.heap H locs ∧ lv_has ls 8 [(0, .ref a), (6, .int (nI x)), (7, .int (nI y))]) ?_ 0 L j hh ⟨Nat.zero_le _, ha, hAl, hcp, hfr, hok, hjl, hcs, hH, hS, lv_sub hl [1, 2, 0] rfl⟩
    intro y L j hh ih55 H locs ls cells slots hP
    obtain ⟨hyy, ha, hAl, hcp, hfr, hok, hjl, hcs, hH, hS, hl⟩ := hP
    have hsa := side_fr hfr haw (Or.inl rfl) hsd1
    have hsb := side_fr hfr haw (Or.inr rfl) hsd2
    have hu9 := unl_fr hfr haw hun
    have hcl := cpP_len (kd := 2) (b1 := b1) (b2 := b2) (bu := bu) (x := x) (y := y)
    have hc1 := hcp.1
    have hj13 := (AL.j13 hAl)
    have hj7 : j ≤ 7 := by rcases hjl with q | q; omega; exact gcap_7 j hj13 (by omega)
    have hg9 := gsum_7 j hj7
    have hg8 := gcap_8 j hj7
    refine lv_iload hx hb dX7_init_55 (lv_at hl 2 rfl) ?_
    refine lv_bipush (v := nI 10) hx hb dX7_init_57 (by decide) ?_
    refine lvN_ge (tgt := 98) hx hb (by first | omega | (refine Nat.lt_of_lt_of_le (Nat.mod_lt _ ?_) ?_ <;> omega)) (by first | omega | (refine Nat.lt_of_lt_of_le (Nat.mod_lt _ ?_) ?_ <;> omega)) dX7_init_59 (by decide) (fun c20 => ?_) (fun c20 => ?_)
    · refine lv_iinc (v := nI (x + 1)) (lv' := [(6, .int (nI (x + 1))), (0, .ref a), (7, .int (nI y))]) hx hb dX7_init_98 hl (k := 1) rfl (nI_add x 1) (by decide) rfl (fun ls hl => ?_)
      refine lv_goto (tgt := 45) hx hb dX7_init_101 (by decide) ?_
      exact ih45 (x + 1) L j hh (by omega) H locs ls _ _ ⟨by omega, ha, hAl, by rw [cpP_x, ← show y = 10 by omega]; exact hcp, hfr, hok, hjl, hcs, hH, hS, lv_sub hl [1, 0] rfl⟩
    · refine lv_aload_n hx hb dX7_init_62 rfl (lv_at hl 0 rfl) ?_
      refine lv_iload hx hb dX7_init_63 (lv_at hl 1 rfl) ?_
      refine lv_iload hx hb dX7_init_65 (lv_at hl 2 rfl) ?_
      refine hp_callU (As := [.int (nI x), .int (nI y)]) (rest := []) (owner := "FirstIn$Rule") (x := ⟨"FirstIn$Rule", "holds", "(II)Z"⟩) hx hb hml hown hts hPB hK hH hS (mc_hld_X12 hK0 hG (rs := false) ha hsa hsb hb1 hb2 (x := x) (y := y) (by omega) (by omega) hu9) ha rfl rfl 2 (va_cwO 2 hts (lw_O q687 q689 q688 q691 q692 q128 q693) rfl rfl rfl q712 (by decide +kernel) (by first | decide | omega | (simp only [rmk]; omega))) rfl hl.1 rfl (Nat.le_of_ble_eq_true rfl) (by first | decide | omega | (simp only [rmk]; omega)) dX7_init_67 (fun v21 h23 H locs hp22 _ hH hS => ?_)
      obtain ⟨rfl, hq⟩ := hp22
      rw [hq] at hH
      refine lvB_eq (tgt := 92) hx hb dX7_init_70 (by decide) (fun ch => ?_) (fun ch => ?_)
      · refine lv_iinc (v := nI (y + 1)) (lv' := [(7, .int (nI (y + 1))), (0, .ref a), (6, .int (nI x))]) hx hb dX7_init_92 hl (k := 2) rfl (nI_add y 1) (by decide) rfl (fun ls hl => ?_)
        refine lv_goto (tgt := 55) hx hb dX7_init_95 (by decide) ?_
        exact ih55 (y + 1) L j hh (by omega) H locs ls _ _ ⟨by omega, ha, hAl, by rw [cpP_f ch]; exact hcp, hfr, hok, hjl, hcs, hH, hS, lv_sub hl [1, 2, 0] rfl⟩
      · refine lv_aload_n hx hb dX7_init_73 rfl (lv_at hl 0 rfl) ?_
        refine hp_get (C := RX12) (T := TX12) (N := 7) (v := .ref la) hx hb hts in_X12 hown hK hH ha rfl 6 (by decide) (hts _ q745) (fun _ z => z) rfl dX7_init_74 ?_
        obtain ⟨nw24, hnw24, nnw24⟩ := hH.fr
        refine hp_new (ci := 7) (C := RX9) (T := TX9) (N := 2) (fs := [.int 0, .int 0]) hx hb hts in_X9 tyX9 tyX9_ok hown (hts _ q714) (hts _ q715) (hts _ q127) hK hH hS hA rfl (by decide) (by first | decide | omega | (simp only [rmk]; omega)) (by first | decide | omega | (simp only [rmk]; omega)) tc dX7_init_77 (fun H _ hH hS => ?_)
        rw [← hnw24] at hH ⊢
        have hH : HP D CL (zA s0) (hset hh nw24 (.inr (7, [.int 0, .int 0])) tc) H := hH
        have x25 : a ≠ nw24 := ne_new ha nnw24
        have e26 : (hset hh nw24 (.inr (7, [.int 0, .int 0])) tc) a = some (.inr (9, [.ref s1, .ref s2, .int (nI wt), .int rm, .ref z9, .int 0, .ref la]), t) := (hset_ne _ _ _ (x25)).trans ha
        have e27 : (hset hh nw24 (.inr (7, [.int 0, .int 0])) tc) nw24 = some (.inr (7, [.int 0, .int 0]), tc) := hset_self _ _ _ _
        refine lv_dup hx hb dX7_init_80 rfl ?_
        refine lv_iload hx hb dX7_init_81 (lv_at hl 1 rfl) ?_
        refine lv_iload hx hb dX7_init_83 (lv_at hl 2 rfl) ?_
        refine hp_callI (As := [.int (nI x), .int (nI y)]) (rest := [.ref nw24, .ref la]) hx hb hml hown hts hPB hH hS (mc_couple hK0 hG (x := x) (y := y) e27) 2 q716 q717 q127 q718 rfl (by decide +kernel) ⟨rfl, rfl⟩ (by first | decide | omega | (simp only [rmk]; omega)) rfl hl.1 rfl (Nat.le_of_ble_eq_true rfl) (by first | decide | omega | (simp only [rmk]; omega)) dX7_init_85 (fun v28 h30 H locs hp29 _ hH hS => ?_)
        obtain ⟨rfl, hq⟩ := hp29
        rw [hq, hset_hset] at hH
        have hec : (hset hh nw24 (.inr (7, [.int (nI x), .int (nI y)])) tc) nw24 = some (.inr (7, [.int (nI x), .int (nI y)]), tc) := hset_self _ _ _ _
        have hx9 : exH hh (hset hh nw24 (.inr (7, [.int (nI x), .int (nI y)])) tc) := exH.new nnw24
        refine hp_add hx hb hml hown hts hPB hK0 hK hH hS hG (x := nw24) (hAl.X hx9) ⟨_, _, _, hec⟩ (by have := gcap_13; omega) q731 (by first | decide | omega | (simp only [rmk]; omega)) hl.1 rfl (Nat.le_of_ble_eq_true rfl) (by first | decide | omega | (simp only [rmk]; omega)) dX7_init_88 (fun j2 h4 H locs hA4 hf4 hk4 hj4 hH hS => ?_)
        refine lv_pop hx hb dX7_init_91 rfl ?_
        refine lv_iinc (v := nI (y + 1)) (lv' := [(7, .int (nI (y + 1))), (0, .ref a), (6, .int (nI x))]) hx hb dX7_init_92 hl (k := 2) rfl (nI_add y 1) (by decide) rfl (fun ls hl => ?_)
        refine lv_goto (tgt := 55) hx hb dX7_init_95 (by decide) ?_
        exact ih55 (y + 1) (L ++ [nw24]) j2 h4 (by omega) H locs ls _ _ ⟨by omega, hf4 _ _ _ (hx9 _ _ _ ha) htt, hA4, by rw [cpP_t ch]; exact cpl_push (cpl_keep hcp (fun b e q => hf4 _ _ _ (hx9 _ _ _ q) htc)) (hf4 _ _ _ hec htc), (hfr.X hx9).T hf4, fun q z => hk4 q (by obtain ⟨c1, f1, u1, z1⟩ := hok q z; exact ⟨c1, f1, u1, hx9 _ _ _ z1⟩), j_next hjl hj4, by rw [len_push]; exact c_next hcs hj4, hH, hS, lv_sub hl [1, 2, 0] rfl⟩
end MODEL
