/-! by gen/mspec.py -/
set_option maxRecDepth 100000
section MODEL
variable {l : Launch} {s0 : State} {D : va_G} {K : Nat → ClassId} {wd : Nat → Nat} {o : Nat} {h : Hp} {I : Nat → Int32} {V : Nat → Nat → Int32} {J : Nat → Nat → Int64}
set_option maxHeartbeats 4000000 in
theorem mc_couple (hK0 : va_K D CL (TYS K) s0) {av : Nat → Nat} {ed mi : Nat} (hG : GX s0 wd av ed mi) {a t : Nat} (he : h a = some (.inr (7, [.int 0, .int 0]), t)) {x : Nat} {y : Nat} : Met l yX9_init (ws_ yX9_init cX9_init 3 ((Option.none : Option Jvm.ClassFile.FieldType))) (rmk 1 0 0) (va_Pc [.ref a, .int (nI x), .int (nI y)] (PB s0 D CL (h))) (QR s0 D CL (fun v h1 => v = none ∧ h1 = hset h a (.inr (7, [.int (nI x), .int (nI y)])) t)) 0 0 (zA s0) := by
  refine hp_met (by decide) (Nat.le_of_ble_eq_true rfl) hK0 ?_
  intro p e s m below meth cd ls hx hb hr hlocks hml hown hnm hts hK hPB hl hS hH hA
  have hl : lv_has ls 3 [(0, .ref a), (1, .int (nI x)), (2, .int (nI y))] := hl
  have hown : s.vm.findClass RX9 = some m.cls := hown
  refine lv_aload_n hx hb dX9_init_0 rfl (lv_at hl 0 rfl) ?_
  refine hp_oinit hx hb hown hts q719 q150 q151 (hl.1.trans hml.symm) (by decide) (Nat.le_of_ble_eq_true rfl) dX9_init_1 ?_
  refine lv_aload_n hx hb dX9_init_4 rfl (lv_at hl 0 rfl) ?_
  refine lv_iload_n hx hb dX9_init_5 rfl (lv_at hl 1 rfl) ?_
  refine hp_putF (C := RX9) (T := TX9) (N := 2) (v := .int (nI x)) (ty := .int) hx hb hts in_X9 tyX9 tyX9_ok nmX9 hown hK hH hS he rfl 0 (by decide) (hts _ q720) (fun _ z => z) rfl hnm rfl (by decide +kernel) rfl rfl (Nat.le_of_ble_eq_true rfl) dX9_init_6 (fun H locs _ hH hS => ?_)
  have hH : HP D CL (zA s0) (hset h a (.inr (7, [.int (nI x), .int 0])) t) H := hH
  have e1 : (hset h a (.inr (7, [.int (nI x), .int 0])) t) a = some (.inr (7, [.int (nI x), .int 0]), t) := hset_self _ _ _ _
  refine lv_aload_n hx hb dX9_init_9 rfl (lv_at hl 0 rfl) ?_
  refine lv_iload_n hx hb dX9_init_10 rfl (lv_at hl 2 rfl) ?_
  refine hp_putF (C := RX9) (T := TX9) (N := 2) (v := .int (nI y)) (ty := .int) hx hb hts in_X9 tyX9 tyX9_ok nmX9 hown hK hH hS e1 rfl 1 (by decide) (hts _ q723) (fun _ z => z) rfl hnm rfl (by decide +kernel) rfl rfl (Nat.le_of_ble_eq_true rfl) dX9_init_11 (fun H locs _ hH hS => ?_)
  have hH : HP D CL (zA s0) (hset (hset h a (.inr (7, [.int (nI x), .int 0])) t) a (.inr (7, [.int (nI x), .int (nI y)])) t) H := hH
  have e2 : (hset (hset h a (.inr (7, [.int (nI x), .int 0])) t) a (.inr (7, [.int (nI x), .int (nI y)])) t) a = some (.inr (7, [.int (nI x), .int (nI y)]), t) := hset_self _ _ _ _
  exact hp_vret hx hb hr hlocks hH hS (by decide) (by decide) dX9_init_14 (⟨rfl, by simp only [hset_hset]⟩)
set_option maxHeartbeats 4000000 in
theorem mc_slight (hK0 : va_K D CL (TYS K) s0) {av : Nat → Nat} {ed mi : Nat} (hG : GX s0 wd av ed mi) {a t : Nat} (he : h a = some (.inr (15, [.int 0, .int 0, .int 0, .int 0, .int 0]), t)) {r : Nat} {x : Nat} {y : Nat} {w : Nat} {o9 : Nat} : Met l yX19_init (ws_ yX19_init cX19_init 6 ((Option.none : Option Jvm.ClassFile.FieldType))) (rmk 1 0 0) (va_Pc [.ref a, .int (nI r), .int (nI x), .int (nI y), .int (nI w), .int (nI o9)] (PB s0 D CL (h))) (QR s0 D CL (fun v h1 => v = none ∧ h1 = hset h a (.inr (15, [.int (nI r), .int (nI x), .int (nI y), .int (nI w), .int (nI o9)])) t)) 0 0 (zA s0) := by
  refine hp_met (by decide) (Nat.le_of_ble_eq_true rfl) hK0 ?_
  intro p e s m below meth cd ls hx hb hr hlocks hml hown hnm hts hK hPB hl hS hH hA
  have hl : lv_has ls 6 [(0, .ref a), (1, .int (nI r)), (2, .int (nI x)), (3, .int (nI y)), (4, .int (nI w)), (5, .int (nI o9))] := hl
  have hown : s.vm.findClass RX19 = some m.cls := hown
  refine lv_aload_n hx hb dX19_init_0 rfl (lv_at hl 0 rfl) ?_
  refine hp_oinit hx hb hown hts q1061 q150 q151 (hl.1.trans hml.symm) (by decide) (Nat.le_of_ble_eq_true rfl) dX19_init_1 ?_
  refine lv_aload_n hx hb dX19_init_4 rfl (lv_at hl 0 rfl) ?_
  refine lv_iload_n hx hb dX19_init_5 rfl (lv_at hl 1 rfl) ?_
  refine hp_putF (C := RX19) (T := TX19) (N := 5) (v := .int (nI r)) (ty := .int) hx hb hts in_X19 tyX19 tyX19_ok nmX19 hown hK hH hS he rfl 0 (by decide) (hts _ q1062) (fun _ z => z) rfl hnm rfl (by decide +kernel) rfl rfl (Nat.le_of_ble_eq_true rfl) dX19_init_6 (fun H locs _ hH hS => ?_)
  have hH : HP D CL (zA s0) (hset h a (.inr (15, [.int (nI r), .int 0, .int 0, .int 0, .int 0])) t) H := hH
  have e1 : (hset h a (.inr (15, [.int (nI r), .int 0, .int 0, .int 0, .int 0])) t) a = some (.inr (15, [.int (nI r), .int 0, .int 0, .int 0, .int 0]), t) := hset_self _ _ _ _
  refine lv_aload_n hx hb dX19_init_9 rfl (lv_at hl 0 rfl) ?_
  refine lv_iload_n hx hb dX19_init_10 rfl (lv_at hl 2 rfl) ?_
  refine hp_putF (C := RX19) (T := TX19) (N := 5) (v := .int (nI x)) (ty := .int) hx hb hts in_X19 tyX19 tyX19_ok nmX19 hown hK hH hS e1 rfl 1 (by decide) (hts _ q1064) (fun _ z => z) rfl hnm rfl (by decide +kernel) rfl rfl (Nat.le_of_ble_eq_true rfl) dX19_init_11 (fun H locs _ hH hS => ?_)
  have hH : HP D CL (zA s0) (hset (hset h a (.inr (15, [.int (nI r), .int 0, .int 0, .int 0, .int 0])) t) a (.inr (15, [.int (nI r), .int (nI x), .int 0, .int 0, .int 0])) t) H := hH
  have e2 : (hset (hset h a (.inr (15, [.int (nI r), .int 0, .int 0, .int 0, .int 0])) t) a (.inr (15, [.int (nI r), .int (nI x), .int 0, .int 0, .int 0])) t) a = some (.inr (15, [.int (nI r), .int (nI x), .int 0, .int 0, .int 0]), t) := hset_self _ _ _ _
  refine lv_aload_n hx hb dX19_init_14 rfl (lv_at hl 0 rfl) ?_
  refine lv_iload_n hx hb dX19_init_15 rfl (lv_at hl 3 rfl) ?_
  refine hp_putF (C := RX19) (T := TX19) (N := 5) (v := .int (nI y)) (ty := .int) hx hb hts in_X19 tyX19 tyX19_ok nmX19 hown hK hH hS e2 rfl 2 (by decide) (hts _ q1066) (fun _ z => z) rfl hnm rfl (by decide +kernel) rfl rfl (Nat.le_of_ble_eq_true rfl) dX19_init_16 (fun H locs _ hH hS => ?_)
  have hH : HP D CL (zA s0) (hset (hset (hset h a (.inr (15, [.int (nI r), .int 0, .int 0, .int 0, .int 0])) t) a (.inr (15, [.int (nI r), .int (nI x), .int 0, .int 0, .int 0])) t) a (.inr (15, [.int (nI r), .int (nI x), .int (nI y), .int 0, .int 0])) t) H := hH
  have e3 : (hset (hset (hset h a (.inr (15, [.int (nI r), .int 0, .int 0, .int 0, .int 0])) t) a (.inr (15, [.int (nI r), .int (nI x), .int 0, .int 0, .int 0])) t) a (.inr (15, [.int (nI r), .int (nI x), .int (nI y), .int 0, .int 0])) t) a = some (.inr (15, [.int (nI r), .int (nI x), .int (nI y), .int 0, .int 0]), t) := hset_self _ _ _ _
  refine lv_aload_n hx hb dX19_init_19 rfl (lv_at hl 0 rfl) ?_
  refine lv_iload hx hb dX19_init_20 (lv_at hl 4 rfl) ?_
  refine hp_putF (C := RX19) (T := TX19) (N := 5) (v := .int (nI w)) (ty := .int) hx hb hts in_X19 tyX19 tyX19_ok nmX19 hown hK hH hS e3 rfl 3 (by decide) (hts _ q1068) (fun _ z => z) rfl hnm rfl (by decide +kernel) rfl rfl (Nat.le_of_ble_eq_true rfl) dX19_init_22 (fun H locs _ hH hS => ?_)
  have hH : HP D CL (zA s0) (hset (hset (hset (hset h a (.inr (15, [.int (nI r), .int 0, .int 0, .int 0, .int 0])) t) a (.inr (15, [.int (nI r), .int (nI x), .int 0, .int 0, .int 0])) t) a (.inr (15, [.int (nI r), .int (nI x), .int (nI y), .int 0, .int 0])) t) a (.inr (15, [.int (nI r), .int (nI x), .int (nI y), .int (nI w), .int 0])) t) H := hH
  have e4 : (hset (hset (hset (hset h a (.inr (15, [.int (nI r), .int 0, .int 0, .int 0, .int 0])) t) a (.inr (15, [.int (nI r), .int (nI x), .int 0, .int 0, .int 0])) t) a (.inr (15, [.int (nI r), .int (nI x), .int (nI y), .int 0, .int 0])) t) a (.inr (15, [.int (nI r), .int (nI x), .int (nI y), .int (nI w), .int 0])) t) a = some (.inr (15, [.int (nI r), .int (nI x), .int (nI y), .int (nI w), .int 0]), t) := hset_self _ _ _ _
  refine lv_aload_n hx hb dX19_init_25 rfl (lv_at hl 0 rfl) ?_
  refine lv_iload hx hb dX19_init_26 (lv_at hl 5 rfl) ?_
  refine hp_putF (C := RX19) (T := TX19) (N := 5) (v := .int (nI o9)) (ty := .int) hx hb hts in_X19 tyX19 tyX19_ok nmX19 hown hK hH hS e4 rfl 4 (by decide) (hts _ q1070) (fun _ z => z) rfl hnm rfl (by decide +kernel) rfl rfl (Nat.le_of_ble_eq_true rfl) dX19_init_28 (fun H locs _ hH hS => ?_)
  have hH : HP D CL (zA s0) (hset (hset (hset (hset (hset h a (.inr (15, [.int (nI r), .int 0, .int 0, .int 0, .int 0])) t) a (.inr (15, [.int (nI r), .int (nI x), .int 0, .int 0, .int 0])) t) a (.inr (15, [.int (nI r), .int (nI x), .int (nI y), .int 0, .int 0])) t) a (.inr (15, [.int (nI r), .int (nI x), .int (nI y), .int (nI w), .int 0])) t) a (.inr (15, [.int (nI r), .int (nI x), .int (nI y), .int (nI w), .int (nI o9)])) t) H := hH
  have e5 : (hset (hset (hset (hset (hset h a (.inr (15, [.int (nI r), .int 0, .int 0, .int 0, .int 0])) t) a (.inr (15, [.int (nI r), .int (nI x), .int 0, .int 0, .int 0])) t) a (.inr (15, [.int (nI r), .int (nI x), .int (nI y), .int 0, .int 0])) t) a (.inr (15, [.int (nI r), .int (nI x), .int (nI y), .int (nI w), .int 0])) t) a (.inr (15, [.int (nI r), .int (nI x), .int (nI y), .int (nI w), .int (nI o9)])) t) a = some (.inr (15, [.int (nI r), .int (nI x), .int (nI y), .int (nI w), .int (nI o9)]), t) := hset_self _ _ _ _
  exact hp_vret hx hb hr hlocks hH hS (by decide) (by decide) dX19_init_31 (⟨rfl, by simp only [hset_hset]⟩)
set_option maxHeartbeats 4000000 in
theorem mc_bond (hK0 : va_K D CL (TYS K) s0) {av : Nat → Nat} {ed mi : Nat} (hG : GX s0 wd av ed mi) {a t : Nat} (he : h a = some (.inr (17, [.null, .int 0, .int 0]), t)) {ru co x y t2 : Nat} (hco : h co = some (.inr (7, [.int (nI x), .int (nI y)]), t2)) : Met l yX22_init (ws_ yX22_init cX22_init 3 ((Option.none : Option Jvm.ClassFile.FieldType))) (rmk 1 0 0) (va_Pc [.ref a, .ref ru, .ref co] (PB s0 D CL (h))) (QR s0 D CL (fun v h1 => v = none ∧ h1 = hset h a (.inr (17, [.ref ru, .int (nI x), .int (nI y)])) t)) 0 0 (zA s0) := by
  refine hp_met (by decide) (Nat.le_of_ble_eq_true rfl) hK0 ?_
  intro p e s m below meth cd ls hx hb hr hlocks hml hown hnm hts hK hPB hl hS hH hA
  have hl : lv_has ls 3 [(0, .ref a), (1, .ref ru), (2, .ref co)] := hl
  have hown : s.vm.findClass RX22 = some m.cls := hown
  refine lv_aload_n hx hb dX22_init_0 rfl (lv_at hl 0 rfl) ?_
  refine hp_oinit hx hb hown hts q1213 q150 q151 (hl.1.trans hml.symm) (by decide) (Nat.le_of_ble_eq_true rfl) dX22_init_1 ?_
  refine lv_aload_n hx hb dX22_init_4 rfl (lv_at hl 0 rfl) ?_
  refine lv_aload_n hx hb dX22_init_5 rfl (lv_at hl 1 rfl) ?_
  refine hp_putF (C := RX22) (T := TX22) (N := 3) (v := .ref ru) (ty := (.object "FirstIn$Rule")) hx hb hts in_X22 tyX22 tyX22_ok nmX22 hown hK hH hS he rfl 0 (by decide) (hts _ q1214) (fun _ z => z) rfl hnm rfl (by decide +kernel) rfl rfl (Nat.le_of_ble_eq_true rfl) dX22_init_6 (fun H locs _ hH hS => ?_)
  have hH : HP D CL (zA s0) (hset h a (.inr (17, [.ref ru, .int 0, .int 0])) t) H := hH
  have e1 : (hset h a (.inr (17, [.ref ru, .int 0, .int 0])) t) co = some (.inr (7, [.int (nI x), .int (nI y)]), t2) := (hset_ne _ _ _ (ne_ci hco he (by decide))).trans hco
  have e2 : (hset h a (.inr (17, [.ref ru, .int 0, .int 0])) t) a = some (.inr (17, [.ref ru, .int 0, .int 0]), t) := hset_self _ _ _ _
  refine lv_aload_n hx hb dX22_init_9 rfl (lv_at hl 0 rfl) ?_
  refine lv_aload_n hx hb dX22_init_10 rfl (lv_at hl 2 rfl) ?_
  refine hp_getN (C := RX9) (T := TX9) (N := 2) (v := .int (nI x)) hx hb hts in_X9 hown hK hH e1 rfl 0 (by decide) (hG.nf hPB q721) (fun _ z => z) rfl dX22_init_11 ?_
  refine hp_putF (C := RX22) (T := TX22) (N := 3) (v := .int (nI x)) (ty := .int) hx hb hts in_X22 tyX22 tyX22_ok nmX22 hown hK hH hS e2 rfl 1 (by decide) (hts _ q1216) (fun _ z => z) rfl hnm rfl (by decide +kernel) rfl rfl (Nat.le_of_ble_eq_true rfl) dX22_init_14 (fun H locs _ hH hS => ?_)
  have hH : HP D CL (zA s0) (hset (hset h a (.inr (17, [.ref ru, .int 0, .int 0])) t) a (.inr (17, [.ref ru, .int (nI x), .int 0])) t) H := hH
  have e3 : (hset (hset h a (.inr (17, [.ref ru, .int 0, .int 0])) t) a (.inr (17, [.ref ru, .int (nI x), .int 0])) t) co = some (.inr (7, [.int (nI x), .int (nI y)]), t2) := (hset_ne _ _ _ (ne_ci e1 e2 (by decide))).trans e1
  have e4 : (hset (hset h a (.inr (17, [.ref ru, .int 0, .int 0])) t) a (.inr (17, [.ref ru, .int (nI x), .int 0])) t) a = some (.inr (17, [.ref ru, .int (nI x), .int 0]), t) := hset_self _ _ _ _
  refine lv_aload_n hx hb dX22_init_17 rfl (lv_at hl 0 rfl) ?_
  refine lv_aload_n hx hb dX22_init_18 rfl (lv_at hl 2 rfl) ?_
  refine hp_getN (C := RX9) (T := TX9) (N := 2) (v := .int (nI y)) hx hb hts in_X9 hown hK hH e3 rfl 1 (by decide) (hG.nf hPB q724) (fun _ z => z) rfl dX22_init_19 ?_
  refine hp_putF (C := RX22) (T := TX22) (N := 3) (v := .int (nI y)) (ty := .int) hx hb hts in_X22 tyX22 tyX22_ok nmX22 hown hK hH hS e4 rfl 2 (by decide) (hts _ q1218) (fun _ z => z) rfl hnm rfl (by decide +kernel) rfl rfl (Nat.le_of_ble_eq_true rfl) dX22_init_22 (fun H locs _ hH hS => ?_)
  have hH : HP D CL (zA s0) (hset (hset (hset h a (.inr (17, [.ref ru, .int 0, .int 0])) t) a (.inr (17, [.ref ru, .int (nI x), .int 0])) t) a (.inr (17, [.ref ru, .int (nI x), .int (nI y)])) t) H := hH
  have e5 : (hset (hset (hset h a (.inr (17, [.ref ru, .int 0, .int 0])) t) a (.inr (17, [.ref ru, .int (nI x), .int 0])) t) a (.inr (17, [.ref ru, .int (nI x), .int (nI y)])) t) co = some (.inr (7, [.int (nI x), .int (nI y)]), t2) := (hset_ne _ _ _ (ne_ci e3 e4 (by decide))).trans e3
  have e6 : (hset (hset (hset h a (.inr (17, [.ref ru, .int 0, .int 0])) t) a (.inr (17, [.ref ru, .int (nI x), .int 0])) t) a (.inr (17, [.ref ru, .int (nI x), .int (nI y)])) t) a = some (.inr (17, [.ref ru, .int (nI x), .int (nI y)]), t) := hset_self _ _ _ _
  exact hp_vret hx hb hr hlocks hH hS (by decide) (by decide) dX22_init_25 (⟨rfl, by simp only [hset_hset]⟩)
set_option maxHeartbeats 4000000 in
theorem mc_room0_X14 (hK0 : va_K D CL (TYS K) s0) {av : Nat → Nat} {ed mi : Nat} (hG : GX s0 wd av ed mi) {a t : Nat} (he : h a = some (.inr (10, [.int 0]), t)) {np : Nat} : Met l yX13_init (ws_ yX13_init cX13_init 2 ((Option.none : Option Jvm.ClassFile.FieldType))) (rmk 1 0 0) (va_Pc [.ref a, .int (nI np)] (PB s0 D CL (h))) (QR s0 D CL (fun v h1 => v = none ∧ h1 = hset h a (.inr (10, [.int (nI np)])) t)) 0 0 (zA s0) := by
  refine hp_met (by decide) (Nat.le_of_ble_eq_true rfl) hK0 ?_
  intro p e s m below meth cd ls hx hb hr hlocks hml hown hnm hts hK hPB hl hS hH hA
  have hl : lv_has ls 2 [(0, .ref a), (1, .int (nI np))] := hl
  have hown : s.vm.findClass RX13 = some m.cls := hown
  refine lv_aload_n hx hb dX13_init_0 rfl (lv_at hl 0 rfl) ?_
  refine hp_oinit hx hb hown hts q828 q150 q151 (hl.1.trans hml.symm) (by decide) (Nat.le_of_ble_eq_true rfl) dX13_init_1 ?_
  refine lv_aload_n hx hb dX13_init_4 rfl (lv_at hl 0 rfl) ?_
  refine lv_iload_n hx hb dX13_init_5 rfl (lv_at hl 1 rfl) ?_
  refine hp_putF (C := RX14) (T := TX14) (N := 1) (v := .int (nI np)) (ty := .int) hx hb hts in_X14 tyX14 tyX14_ok nmX14 hown hK hH hS he rfl 0 (by decide) (hts _ q829) (fun _ z => z) rfl hnm rfl (by decide +kernel) rfl rfl (Nat.le_of_ble_eq_true rfl) dX13_init_6 (fun H locs _ hH hS => ?_)
  have hH : HP D CL (zA s0) (hset h a (.inr (10, [.int (nI np)])) t) H := hH
  have e1 : (hset h a (.inr (10, [.int (nI np)])) t) a = some (.inr (10, [.int (nI np)]), t) := hset_self _ _ _ _
  exact hp_vret hx hb hr hlocks hH hS (by decide) (by decide) dX13_init_9 (⟨rfl, by simp only [hset_hset]⟩)
set_option maxHeartbeats 4000000 in
theorem mc_room0_X15 (hK0 : va_K D CL (TYS K) s0) {av : Nat → Nat} {ed mi : Nat} (hG : GX s0 wd av ed mi) {a t : Nat} (he : h a = some (.inr (11, [.int 0]), t)) {np : Nat} : Met l yX13_init (ws_ yX13_init cX13_init 2 ((Option.none : Option Jvm.ClassFile.FieldType))) (rmk 1 0 0) (va_Pc [.ref a, .int (nI np)] (PB s0 D CL (h))) (QR s0 D CL (fun v h1 => v = none ∧ h1 = hset h a (.inr (11, [.int (nI np)])) t)) 0 0 (zA s0) := by
  refine hp_met (by decide) (Nat.le_of_ble_eq_true rfl) hK0 ?_
  intro p e s m below meth cd ls hx hb hr hlocks hml hown hnm hts hK hPB hl hS hH hA
  have hl : lv_has ls 2 [(0, .ref a), (1, .int (nI np))] := hl
  have hown : s.vm.findClass RX13 = some m.cls := hown
  refine lv_aload_n hx hb dX13_init_0 rfl (lv_at hl 0 rfl) ?_
  refine hp_oinit hx hb hown hts q828 q150 q151 (hl.1.trans hml.symm) (by decide) (Nat.le_of_ble_eq_true rfl) dX13_init_1 ?_
  refine lv_aload_n hx hb dX13_init_4 rfl (lv_at hl 0 rfl) ?_
  refine lv_iload_n hx hb dX13_init_5 rfl (lv_at hl 1 rfl) ?_
  refine hp_putF (C := RX15) (T := TX15) (N := 1) (v := .int (nI np)) (ty := .int) hx hb hts in_X15 tyX15 tyX15_ok nmX15 hown hK hH hS he rfl 0 (by decide) (hts _ q829) (fun _ z => z) rfl hnm rfl (by decide +kernel) rfl rfl (Nat.le_of_ble_eq_true rfl) dX13_init_6 (fun H locs _ hH hS => ?_)
  have hH : HP D CL (zA s0) (hset h a (.inr (11, [.int (nI np)])) t) H := hH
  have e1 : (hset h a (.inr (11, [.int (nI np)])) t) a = some (.inr (11, [.int (nI np)]), t) := hset_self _ _ _ _
  exact hp_vret hx hb hr hlocks hH hS (by decide) (by decide) dX13_init_9 (⟨rfl, by simp only [hset_hset]⟩)
set_option maxHeartbeats 4000000 in
theorem mc_room0_X16 (hK0 : va_K D CL (TYS K) s0) {av : Nat → Nat} {ed mi : Nat} (hG : GX s0 wd av ed mi) {a t : Nat} (he : h a = some (.inr (12, [.int 0]), t)) {np : Nat} : Met l yX13_init (ws_ yX13_init cX13_init 2 ((Option.none : Option Jvm.ClassFile.FieldType))) (rmk 1 0 0) (va_Pc [.ref a, .int (nI np)] (PB s0 D CL (h))) (QR s0 D CL (fun v h1 => v = none ∧ h1 = hset h a (.inr (12, [.int (nI np)])) t)) 0 0 (zA s0) := by
  refine hp_met (by decide) (Nat.le_of_ble_eq_true rfl) hK0 ?_
  intro p e s m below meth cd ls hx hb hr hlocks hml hown hnm hts hK hPB hl hS hH hA
  have hl : lv_has ls 2 [(0, .ref a), (1, .int (nI np))] := hl
  have hown : s.vm.findClass RX13 = some m.cls := hown
  refine lv_aload_n hx hb dX13_init_0 rfl (lv_at hl 0 rfl) ?_
  refine hp_oinit hx hb hown hts q828 q150 q151 (hl.1.trans hml.symm) (by decide) (Nat.le_of_ble_eq_true rfl) dX13_init_1 ?_
  refine lv_aload_n hx hb dX13_init_4 rfl (lv_at hl 0 rfl) ?_
  refine lv_iload_n hx hb dX13_init_5 rfl (lv_at hl 1 rfl) ?_
  refine hp_putF (C := RX16) (T := TX16) (N := 1) (v := .int (nI np)) (ty := .int) hx hb hts in_X16 tyX16 tyX16_ok nmX16 hown hK hH hS he rfl 0 (by decide) (hts _ q829) (fun _ z => z) rfl hnm rfl (by decide +kernel) rfl rfl (Nat.le_of_ble_eq_true rfl) dX13_init_6 (fun H locs _ hH hS => ?_)
  have hH : HP D CL (zA s0) (hset h a (.inr (12, [.int (nI np)])) t) H := hH
  have e1 : (hset h a (.inr (12, [.int (nI np)])) t) a = some (.inr (12, [.int (nI np)]), t) := hset_self _ _ _ _
  exact hp_vret hx hb hr hlocks hH hS (by decide) (by decide) dX13_init_9 (⟨rfl, by simp only [hset_hset]⟩)
set_option maxHeartbeats 4000000 in
theorem mc_room0_X17 (hK0 : va_K D CL (TYS K) s0) {av : Nat → Nat} {ed mi : Nat} (hG : GX s0 wd av ed mi) {a t : Nat} (he : h a = some (.inr (13, [.int 0]), t)) {np : Nat} : Met l yX13_init (ws_ yX13_init cX13_init 2 ((Option.none : Option Jvm.ClassFile.FieldType))) (rmk 1 0 0) (va_Pc [.ref a, .int (nI np)] (PB s0 D CL (h))) (QR s0 D CL (fun v h1 => v = none ∧ h1 = hset h a (.inr (13, [.int (nI np)])) t)) 0 0 (zA s0) := by
  refine hp_met (by decide) (Nat.le_of_ble_eq_true rfl) hK0 ?_
  intro p e s m below meth cd ls hx hb hr hlocks hml hown hnm hts hK hPB hl hS hH hA
  have hl : lv_has ls 2 [(0, .ref a), (1, .int (nI np))] := hl
  have hown : s.vm.findClass RX13 = some m.cls := hown
  refine lv_aload_n hx hb dX13_init_0 rfl (lv_at hl 0 rfl) ?_
  refine hp_oinit hx hb hown hts q828 q150 q151 (hl.1.trans hml.symm) (by decide) (Nat.le_of_ble_eq_true rfl) dX13_init_1 ?_
  refine lv_aload_n hx hb dX13_init_4 rfl (lv_at hl 0 rfl) ?_
  refine lv_iload_n hx hb dX13_init_5 rfl (lv_at hl 1 rfl) ?_
  refine hp_putF (C := RX17) (T := TX17) (N := 1) (v := .int (nI np)) (ty := .int) hx hb hts in_X17 tyX17 tyX17_ok nmX17 hown hK hH hS he rfl 0 (by decide) (hts _ q829) (fun _ z => z) rfl hnm rfl (by decide +kernel) rfl rfl (Nat.le_of_ble_eq_true rfl) dX13_init_6 (fun H locs _ hH hS => ?_)
  have hH : HP D CL (zA s0) (hset h a (.inr (13, [.int (nI np)])) t) H := hH
  have e1 : (hset h a (.inr (13, [.int (nI np)])) t) a = some (.inr (13, [.int (nI np)]), t) := hset_self _ _ _ _
  exact hp_vret hx hb hr hlocks hH hS (by decide) (by decide) dX13_init_9 (⟨rfl, by simp only [hset_hset]⟩)
set_option maxHeartbeats 4000000 in
theorem mc_room0_X18 (hK0 : va_K D CL (TYS K) s0) {av : Nat → Nat} {ed mi : Nat} (hG : GX s0 wd av ed mi) {a t : Nat} (he : h a = some (.inr (14, [.int 0]), t)) {np : Nat} : Met l yX13_init (ws_ yX13_init cX13_init 2 ((Option.none : Option Jvm.ClassFile.FieldType))) (rmk 1 0 0) (va_Pc [.ref a, .int (nI np)] (PB s0 D CL (h))) (QR s0 D CL (fun v h1 => v = none ∧ h1 = hset h a (.inr (14, [.int (nI np)])) t)) 0 0 (zA s0) := by
  refine hp_met (by decide) (Nat.le_of_ble_eq_true rfl) hK0 ?_
  intro p e s m below meth cd ls hx hb hr hlocks hml hown hnm hts hK hPB hl hS hH hA
  have hl : lv_has ls 2 [(0, .ref a), (1, .int (nI np))] := hl
  have hown : s.vm.findClass RX13 = some m.cls := hown
  refine lv_aload_n hx hb dX13_init_0 rfl (lv_at hl 0 rfl) ?_
  refine hp_oinit hx hb hown hts q828 q150 q151 (hl.1.trans hml.symm) (by decide) (Nat.le_of_ble_eq_true rfl) dX13_init_1 ?_
  refine lv_aload_n hx hb dX13_init_4 rfl (lv_at hl 0 rfl) ?_
  refine lv_iload_n hx hb dX13_init_5 rfl (lv_at hl 1 rfl) ?_
  refine hp_putF (C := RX18) (T := TX18) (N := 1) (v := .int (nI np)) (ty := .int) hx hb hts in_X18 tyX18 tyX18_ok nmX18 hown hK hH hS he rfl 0 (by decide) (hts _ q829) (fun _ z => z) rfl hnm rfl (by decide +kernel) rfl rfl (Nat.le_of_ble_eq_true rfl) dX13_init_6 (fun H locs _ hH hS => ?_)
  have hH : HP D CL (zA s0) (hset h a (.inr (14, [.int (nI np)])) t) H := hH
  have e1 : (hset h a (.inr (14, [.int (nI np)])) t) a = some (.inr (14, [.int (nI np)]), t) := hset_self _ _ _ _
  exact hp_vret hx hb hr hlocks hH hS (by decide) (by decide) dX13_init_9 (⟨rfl, by simp only [hset_hset]⟩)
set_option maxHeartbeats 4000000 in
theorem mc_room_X14 (hK0 : va_K D CL (TYS K) s0) {av : Nat → Nat} {ed mi : Nat} (hG : GX s0 wd av ed mi) {a t : Nat} (he : h a = some (.inr (10, [.int 0]), t)) {np : Nat} : Met l yX14_init (ws_ yX14_init cX14_init 2 ((Option.none : Option Jvm.ClassFile.FieldType))) (rmk 2 0 0) (va_Pc [.ref a, .int (nI np)] (PB s0 D CL (h))) (QR s0 D CL (fun v h1 => v = none ∧ h1 = hset h a (.inr (10, [.int (nI np)])) t)) 0 0 (zA s0) := by
  refine hp_met (by decide) (Nat.le_of_ble_eq_true rfl) hK0 ?_
  intro p e s m below meth cd ls hx hb hr hlocks hml hown hnm hts hK hPB hl hS hH hA
  have hl : lv_has ls 2 [(0, .ref a), (1, .int (nI np))] := hl
  have hown : s.vm.findClass RX14 = some m.cls := hown
  refine lv_aload_n hx hb dX14_init_0 rfl (lv_at hl 0 rfl) ?_
  refine lv_iload_n hx hb dX14_init_1 rfl (lv_at hl 1 rfl) ?_
  refine hp_callI (As := [.int (nI np)]) (rest := []) hx hb hml hown hts hPB hH hS (mc_room0_X14 hK0 hG he) 1 q825 q826 q131 q827 rfl (by decide +kernel) ⟨rfl, rfl⟩ (by decide) rfl hl.1 rfl (Nat.le_of_ble_eq_true rfl) (by decide) dX14_init_2 (fun v1 h3 H locs hp2 _ hH hS => ?_)
  obtain ⟨rfl, hq⟩ := hp2
  rw [hq] at hH
  have he2 : (hset h a (.inr (10, [.int (nI np)])) t) a = some (.inr (10, [.int (nI np)]), t) := hset_self _ _ _ _
  exact hp_vret hx hb hr hlocks hH hS (by decide) (by decide) dX14_init_5 (⟨rfl, by simp only [hset_hset]⟩)
set_option maxHeartbeats 4000000 in
theorem mc_room_X15 (hK0 : va_K D CL (TYS K) s0) {av : Nat → Nat} {ed mi : Nat} (hG : GX s0 wd av ed mi) {a t : Nat} (he : h a = some (.inr (11, [.int 0]), t)) {np : Nat} : Met l yX15_init (ws_ yX15_init cX15_init 2 ((Option.none : Option Jvm.ClassFile.FieldType))) (rmk 2 0 0) (va_Pc [.ref a, .int (nI np)] (PB s0 D CL (h))) (QR s0 D CL (fun v h1 => v = none ∧ h1 = hset h a (.inr (11, [.int (nI np)])) t)) 0 0 (zA s0) := by
  refine hp_met (by decide) (Nat.le_of_ble_eq_true rfl) hK0 ?_
  intro p e s m below meth cd ls hx hb hr hlocks hml hown hnm hts hK hPB hl hS hH hA
  have hl : lv_has ls 2 [(0, .ref a), (1, .int (nI np))] := hl
  have hown : s.vm.findClass RX15 = some m.cls := hown
  refine lv_aload_n hx hb dX15_init_0 rfl (lv_at hl 0 rfl) ?_
  refine lv_iload_n hx hb dX15_init_1 rfl (lv_at hl 1 rfl) ?_
  refine hp_callI (As := [.int (nI np)]) (rest := []) hx hb hml hown hts hPB hH hS (mc_room0_X15 hK0 hG he) 1 q844 q826 q131 q827 rfl (by decide +kernel) ⟨rfl, rfl⟩ (by decide) rfl hl.1 rfl (Nat.le_of_ble_eq_true rfl) (by decide) dX15_init_2 (fun v1 h3 H locs hp2 _ hH hS => ?_)
  obtain ⟨rfl, hq⟩ := hp2
  rw [hq] at hH
  have he2 : (hset h a (.inr (11, [.int (nI np)])) t) a = some (.inr (11, [.int (nI np)]), t) := hset_self _ _ _ _
  exact hp_vret hx hb hr hlocks hH hS (by decide) (by decide) dX15_init_5 (⟨rfl, by simp only [hset_hset]⟩)
set_option maxHeartbeats 4000000 in
theorem mc_room_X16 (hK0 : va_K D CL (TYS K) s0) {av : Nat → Nat} {ed mi : Nat} (hG : GX s0 wd av ed mi) {a t : Nat} (he : h a = some (.inr (12, [.int 0]), t)) {np : Nat} : Met l yX16_init (ws_ yX16_init cX16_init 2 ((Option.none : Option Jvm.ClassFile.FieldType))) (rmk 2 0 0) (va_Pc [.ref a, .int (nI np)] (PB s0 D CL (h))) (QR s0 D CL (fun v h1 => v = none ∧ h1 = hset h a (.inr (12, [.int (nI np)])) t)) 0 0 (zA s0) := by
  refine hp_met (by decide) (Nat.le_of_ble_eq_true rfl) hK0 ?_
  intro p e s m below meth cd ls hx hb hr hlocks hml hown hnm hts hK hPB hl hS hH hA
  have hl : lv_has ls 2 [(0, .ref a), (1, .int (nI np))] := hl
  have hown : s.vm.findClass RX16 = some m.cls := hown
  refine lv_aload_n hx hb dX16_init_0 rfl (lv_at hl 0 rfl) ?_
  refine lv_iload_n hx hb dX16_init_1 rfl (lv_at hl 1 rfl) ?_
  refine hp_callI (As := [.int (nI np)]) (rest := []) hx hb hml hown hts hPB hH hS (mc_room0_X16 hK0 hG he) 1 q852 q826 q131 q827 rfl (by decide +kernel) ⟨rfl, rfl⟩ (by decide) rfl hl.1 rfl (Nat.le_of_ble_eq_true rfl) (by decide) dX16_init_2 (fun v1 h3 H locs hp2 _ hH hS => ?_)
  obtain ⟨rfl, hq⟩ := hp2
  rw [hq] at hH
  have he2 : (hset h a (.inr (12, [.int (nI np)])) t) a = some (.inr (12, [.int (nI np)]), t) := hset_self _ _ _ _
  exact hp_vret hx hb hr hlocks hH hS (by decide) (by decide) dX16_init_5 (⟨rfl, by simp only [hset_hset]⟩)
set_option maxHeartbeats 4000000 in
theorem mc_room1_X17 (hK0 : va_K D CL (TYS K) s0) {av : Nat → Nat} {ed mi : Nat} (hG : GX s0 wd av ed mi) {a t : Nat} (he : h a = some (.inr (13, [.int 0]), t)) {np : Nat} : Met l yX15_init (ws_ yX15_init cX15_init 2 ((Option.none : Option Jvm.ClassFile.FieldType))) (rmk 2 0 0) (va_Pc [.ref a, .int (nI np)] (PB s0 D CL (h))) (QR s0 D CL (fun v h1 => v = none ∧ h1 = hset h a (.inr (13, [.int (nI np)])) t)) 0 0 (zA s0) := by
  refine hp_met (by decide) (Nat.le_of_ble_eq_true rfl) hK0 ?_
  intro p e s m below meth cd ls hx hb hr hlocks hml hown hnm hts hK hPB hl hS hH hA
  have hl : lv_has ls 2 [(0, .ref a), (1, .int (nI np))] := hl
  have hown : s.vm.findClass RX15 = some m.cls := hown
  refine lv_aload_n hx hb dX15_init_0 rfl (lv_at hl 0 rfl) ?_
  refine lv_iload_n hx hb dX15_init_1 rfl (lv_at hl 1 rfl) ?_
  refine hp_callI (As := [.int (nI np)]) (rest := []) hx hb hml hown hts hPB hH hS (mc_room0_X17 hK0 hG he) 1 q844 q826 q131 q827 rfl (by decide +kernel) ⟨rfl, rfl⟩ (by decide) rfl hl.1 rfl (Nat.le_of_ble_eq_true rfl) (by decide) dX15_init_2 (fun v1 h3 H locs hp2 _ hH hS => ?_)
  obtain ⟨rfl, hq⟩ := hp2
  rw [hq] at hH
  have he2 : (hset h a (.inr (13, [.int (nI np)])) t) a = some (.inr (13, [.int (nI np)]), t) := hset_self _ _ _ _
  exact hp_vret hx hb hr hlocks hH hS (by decide) (by decide) dX15_init_5 (⟨rfl, by simp only [hset_hset]⟩)
set_option maxHeartbeats 4000000 in
theorem mc_room1_X18 (hK0 : va_K D CL (TYS K) s0) {av : Nat → Nat} {ed mi : Nat} (hG : GX s0 wd av ed mi) {a t : Nat} (he : h a = some (.inr (14, [.int 0]), t)) {np : Nat} : Met l yX14_init (ws_ yX14_init cX14_init 2 ((Option.none : Option Jvm.ClassFile.FieldType))) (rmk 2 0 0) (va_Pc [.ref a, .int (nI np)] (PB s0 D CL (h))) (QR s0 D CL (fun v h1 => v = none ∧ h1 = hset h a (.inr (14, [.int (nI np)])) t)) 0 0 (zA s0) := by
  refine hp_met (by decide) (Nat.le_of_ble_eq_true rfl) hK0 ?_
  intro p e s m below meth cd ls hx hb hr hlocks hml hown hnm hts hK hPB hl hS hH hA
  have hl : lv_has ls 2 [(0, .ref a), (1, .int (nI np))] := hl
  have hown : s.vm.findClass RX14 = some m.cls := hown
  refine lv_aload_n hx hb dX14_init_0 rfl (lv_at hl 0 rfl) ?_
  refine lv_iload_n hx hb dX14_init_1 rfl (lv_at hl 1 rfl) ?_
  refine hp_callI (As := [.int (nI np)]) (rest := []) hx hb hml hown hts hPB hH hS (mc_room0_X18 hK0 hG he) 1 q825 q826 q131 q827 rfl (by decide +kernel) ⟨rfl, rfl⟩ (by decide) rfl hl.1 rfl (Nat.le_of_ble_eq_true rfl) (by decide) dX14_init_2 (fun v1 h3 H locs hp2 _ hH hS => ?_)
  obtain ⟨rfl, hq⟩ := hp2
  rw [hq] at hH
  have he2 : (hset h a (.inr (14, [.int (nI np)])) t) a = some (.inr (14, [.int (nI np)]), t) := hset_self _ _ _ _
  exact hp_vret hx hb hr hlocks hH hS (by decide) (by decide) dX14_init_5 (⟨rfl, by simp only [hset_hset]⟩)
set_option maxHeartbeats 4000000 in
theorem mc_room_X17 (hK0 : va_K D CL (TYS K) s0) {av : Nat → Nat} {ed mi : Nat} (hG : GX s0 wd av ed mi) {a t : Nat} (he : h a = some (.inr (13, [.int 0]), t)) {np : Nat} : Met l yX17_init (ws_ yX17_init cX17_init 2 ((Option.none : Option Jvm.ClassFile.FieldType))) (rmk 3 0 0) (va_Pc [.ref a, .int (nI np)] (PB s0 D CL (h))) (QR s0 D CL (fun v h1 => v = none ∧ h1 = hset h a (.inr (13, [.int (nI np)])) t)) 0 0 (zA s0) := by
  refine hp_met (by decide) (Nat.le_of_ble_eq_true rfl) hK0 ?_
  intro p e s m below meth cd ls hx hb hr hlocks hml hown hnm hts hK hPB hl hS hH hA
  have hl : lv_has ls 2 [(0, .ref a), (1, .int (nI np))] := hl
  have hown : s.vm.findClass RX17 = some m.cls := hown
  refine lv_aload_n hx hb dX17_init_0 rfl (lv_at hl 0 rfl) ?_
  refine lv_iload_n hx hb dX17_init_1 rfl (lv_at hl 1 rfl) ?_
  refine hp_callI (As := [.int (nI np)]) (rest := []) hx hb hml hown hts hPB hH hS (mc_room1_X17 hK0 hG he) 1 q860 q842 q133 q843 rfl (by decide +kernel) ⟨rfl, rfl⟩ (by decide) rfl hl.1 rfl (Nat.le_of_ble_eq_true rfl) (by decide) dX17_init_2 (fun v1 h3 H locs hp2 _ hH hS => ?_)
  obtain ⟨rfl, hq⟩ := hp2
  rw [hq] at hH
  have he2 : (hset h a (.inr (13, [.int (nI np)])) t) a = some (.inr (13, [.int (nI np)]), t) := hset_self _ _ _ _
  exact hp_vret hx hb hr hlocks hH hS (by decide) (by decide) dX17_init_5 (⟨rfl, by simp only [hset_hset]⟩)
set_option maxHeartbeats 4000000 in
theorem mc_room_X18 (hK0 : va_K D CL (TYS K) s0) {av : Nat → Nat} {ed mi : Nat} (hG : GX s0 wd av ed mi) {a t : Nat} (he : h a = some (.inr (14, [.int 0]), t)) {np : Nat} : Met l yX18_init (ws_ yX18_init cX18_init 2 ((Option.none : Option Jvm.ClassFile.FieldType))) (rmk 3 0 0) (va_Pc [.ref a, .int (nI np)] (PB s0 D CL (h))) (QR s0 D CL (fun v h1 => v = none ∧ h1 = hset h a (.inr (14, [.int (nI np)])) t)) 0 0 (zA s0) := by
  refine hp_met (by decide) (Nat.le_of_ble_eq_true rfl) hK0 ?_
  intro p e s m below meth cd ls hx hb hr hlocks hml hown hnm hts hK hPB hl hS hH hA
  have hl : lv_has ls 2 [(0, .ref a), (1, .int (nI np))] := hl
  have hown : s.vm.findClass RX18 = some m.cls := hown
  refine lv_aload_n hx hb dX18_init_0 rfl (lv_at hl 0 rfl) ?_
  refine lv_iload_n hx hb dX18_init_1 rfl (lv_at hl 1 rfl) ?_
  refine hp_callI (As := [.int (nI np)]) (rest := []) hx hb hml hown hts hPB hH hS (mc_room1_X18 hK0 hG he) 1 q868 q823 q132 q824 rfl (by decide +kernel) ⟨rfl, rfl⟩ (by decide) rfl hl.1 rfl (Nat.le_of_ble_eq_true rfl) (by decide) dX18_init_2 (fun v1 h3 H locs hp2 _ hH hS => ?_)
  obtain ⟨rfl, hq⟩ := hp2
  rw [hq] at hH
  have he2 : (hset h a (.inr (14, [.int (nI np)])) t) a = some (.inr (14, [.int (nI np)]), t) := hset_self _ _ _ _
  exact hp_vret hx hb hr hlocks hH hS (by decide) (by decide) dX18_init_5 (⟨rfl, by simp only [hset_hset]⟩)
set_option maxHeartbeats 4000000 in
theorem mc_side_X5 (hK0 : va_K D CL (TYS K) s0) {av : Nat → Nat} {ed mi : Nat} (hG : GX s0 wd av ed mi) {a t : Nat} (he : h a = some (.inr (4, [.null, .int 0, .int 0, .int 0, .int 0, .int 0]), t)) {nm : Nat} {num : Nat} : Met l yX4_init (ws_ yX4_init cX4_init 3 ((Option.none : Option Jvm.ClassFile.FieldType))) (rmk 1 0 0) (va_Pc [.ref a, .ref nm, .int (nI num)] (PB s0 D CL (h))) (QR s0 D CL (fun v h1 => v = none ∧ h1 = hset h a (.inr (4, [.ref nm, .int (nI num), .int 0, .int 0, .int 0, .int 0])) t)) 0 0 (zA s0) := by
  refine hp_met (by decide) (Nat.le_of_ble_eq_true rfl) hK0 ?_
  intro p e s m below meth cd ls hx hb hr hlocks hml hown hnm hts hK hPB hl hS hH hA
  have hl : lv_has ls 3 [(0, .ref a), (1, .ref nm), (2, .int (nI num))] := hl
  have hown : s.vm.findClass RX4 = some m.cls := hown
  refine lv_aload_n hx hb dX4_init_0 rfl (lv_at hl 0 rfl) ?_
  refine hp_oinit hx hb hown hts q540 q150 q151 (hl.1.trans hml.symm) (by decide) (Nat.le_of_ble_eq_true rfl) dX4_init_1 ?_
  refine lv_aload_n hx hb dX4_init_4 rfl (lv_at hl 0 rfl) ?_
  refine lv_aload_n hx hb dX4_init_5 rfl (lv_at hl 1 rfl) ?_
  refine hp_putF (C := RX5) (T := TX5) (N := 6) (v := .ref nm) (ty := (.array .byte)) hx hb hts in_X5 tyX5 tyX5_ok nmX5 hown hK hH hS he rfl 0 (by decide) (hts _ q552) (fun _ z => z) rfl hnm rfl (by decide +kernel) rfl rfl (Nat.le_of_ble_eq_true rfl) dX4_init_6 (fun H locs _ hH hS => ?_)
  have hH : HP D CL (zA s0) (hset h a (.inr (4, [.ref nm, .int 0, .int 0, .int 0, .int 0, .int 0])) t) H := hH
  have e1 : (hset h a (.inr (4, [.ref nm, .int 0, .int 0, .int 0, .int 0, .int 0])) t) a = some (.inr (4, [.ref nm, .int 0, .int 0, .int 0, .int 0, .int 0]), t) := hset_self _ _ _ _
  refine lv_aload_n hx hb dX4_init_9 rfl (lv_at hl 0 rfl) ?_
  refine lv_iload_n hx hb dX4_init_10 rfl (lv_at hl 2 rfl) ?_
  refine hp_putF (C := RX5) (T := TX5) (N := 6) (v := .int (nI num)) (ty := .int) hx hb hts in_X5 tyX5 tyX5_ok nmX5 hown hK hH hS e1 rfl 1 (by decide) (hts _ q553) (fun _ z => z) rfl hnm rfl (by decide +kernel) rfl rfl (Nat.le_of_ble_eq_true rfl) dX4_init_11 (fun H locs _ hH hS => ?_)
  have hH : HP D CL (zA s0) (hset (hset h a (.inr (4, [.ref nm, .int 0, .int 0, .int 0, .int 0, .int 0])) t) a (.inr (4, [.ref nm, .int (nI num), .int 0, .int 0, .int 0, .int 0])) t) H := hH
  have e2 : (hset (hset h a (.inr (4, [.ref nm, .int 0, .int 0, .int 0, .int 0, .int 0])) t) a (.inr (4, [.ref nm, .int (nI num), .int 0, .int 0, .int 0, .int 0])) t) a = some (.inr (4, [.ref nm, .int (nI num), .int 0, .int 0, .int 0, .int 0]), t) := hset_self _ _ _ _
  exact hp_vret hx hb hr hlocks hH hS (by decide) (by decide) dX4_init_14 (⟨rfl, by simp only [hset_hset]⟩)
set_option maxHeartbeats 4000000 in
theorem mc_side_X6 (hK0 : va_K D CL (TYS K) s0) {av : Nat → Nat} {ed mi : Nat} (hG : GX s0 wd av ed mi) {a t : Nat} (he : h a = some (.inr (5, [.null, .int 0, .int 0]), t)) {nm : Nat} {num : Nat} : Met l yX4_init (ws_ yX4_init cX4_init 3 ((Option.none : Option Jvm.ClassFile.FieldType))) (rmk 1 0 0) (va_Pc [.ref a, .ref nm, .int (nI num)] (PB s0 D CL (h))) (QR s0 D CL (fun v h1 => v = none ∧ h1 = hset h a (.inr (5, [.ref nm, .int (nI num), .int 0])) t)) 0 0 (zA s0) := by
  refine hp_met (by decide) (Nat.le_of_ble_eq_true rfl) hK0 ?_
  intro p e s m below meth cd ls hx hb hr hlocks hml hown hnm hts hK hPB hl hS hH hA
  have hl : lv_has ls 3 [(0, .ref a), (1, .ref nm), (2, .int (nI num))] := hl
  have hown : s.vm.findClass RX4 = some m.cls := hown
  refine lv_aload_n hx hb dX4_init_0 rfl (lv_at hl 0 rfl) ?_
  refine hp_oinit hx hb hown hts q540 q150 q151 (hl.1.trans hml.symm) (by decide) (Nat.le_of_ble_eq_true rfl) dX4_init_1 ?_
  refine lv_aload_n hx hb dX4_init_4 rfl (lv_at hl 0 rfl) ?_
  refine lv_aload_n hx hb dX4_init_5 rfl (lv_at hl 1 rfl) ?_
  refine hp_putF (C := RX6) (T := TX6) (N := 3) (v := .ref nm) (ty := (.array .byte)) hx hb hts in_X6 tyX6 tyX6_ok nmX6 hown hK hH hS he rfl 0 (by decide) (hts _ q552) (fun _ z => z) rfl hnm rfl (by decide +kernel) rfl rfl (Nat.le_of_ble_eq_true rfl) dX4_init_6 (fun H locs _ hH hS => ?_)
  have hH : HP D CL (zA s0) (hset h a (.inr (5, [.ref nm, .int 0, .int 0])) t) H := hH
  have e1 : (hset h a (.inr (5, [.ref nm, .int 0, .int 0])) t) a = some (.inr (5, [.ref nm, .int 0, .int 0]), t) := hset_self _ _ _ _
  refine lv_aload_n hx hb dX4_init_9 rfl (lv_at hl 0 rfl) ?_
  refine lv_iload_n hx hb dX4_init_10 rfl (lv_at hl 2 rfl) ?_
  refine hp_putF (C := RX6) (T := TX6) (N := 3) (v := .int (nI num)) (ty := .int) hx hb hts in_X6 tyX6 tyX6_ok nmX6 hown hK hH hS e1 rfl 1 (by decide) (hts _ q553) (fun _ z => z) rfl hnm rfl (by decide +kernel) rfl rfl (Nat.le_of_ble_eq_true rfl) dX4_init_11 (fun H locs _ hH hS => ?_)
  have hH : HP D CL (zA s0) (hset (hset h a (.inr (5, [.ref nm, .int 0, .int 0])) t) a (.inr (5, [.ref nm, .int (nI num), .int 0])) t) H := hH
  have e2 : (hset (hset h a (.inr (5, [.ref nm, .int 0, .int 0])) t) a (.inr (5, [.ref nm, .int (nI num), .int 0])) t) a = some (.inr (5, [.ref nm, .int (nI num), .int 0]), t) := hset_self _ _ _ _
  exact hp_vret hx hb hr hlocks hH hS (by decide) (by decide) dX4_init_14 (⟨rfl, by simp only [hset_hset]⟩)
set_option maxHeartbeats 4000000 in
theorem mc_guest (hK0 : va_K D CL (TYS K) s0) {av : Nat → Nat} {ed mi : Nat} (hG : GX s0 wd av ed mi) {a t : Nat} (he : h a = some (.inr (4, [.null, .int 0, .int 0, .int 0, .int 0, .int 0]), t)) {nm : Nat} {num : Nat} : Met l yX5_init (ws_ yX5_init cX5_init 3 ((Option.none : Option Jvm.ClassFile.FieldType))) (rmk 2 0 0) (va_Pc [.ref a, .ref nm, .int (nI num)] (PB s0 D CL (h))) (QR s0 D CL (fun v h1 => v = none ∧ h1 = hset h a (.inr (4, [.ref nm, .int (nI num), .int (nI 1), .int 0, .int (-1), .int (-1)])) t)) 0 0 (zA s0) := by
  refine hp_met (by decide) (Nat.le_of_ble_eq_true rfl) hK0 ?_
  intro p e s m below meth cd ls hx hb hr hlocks hml hown hnm hts hK hPB hl hS hH hA
  have hl : lv_has ls 3 [(0, .ref a), (1, .ref nm), (2, .int (nI num))] := hl
  have hown : s.vm.findClass RX5 = some m.cls := hown
  refine lv_aload_n hx hb dX5_init_0 rfl (lv_at hl 0 rfl) ?_
  refine lv_aload_n hx hb dX5_init_1 rfl (lv_at hl 1 rfl) ?_
  refine lv_iload_n hx hb dX5_init_2 rfl (lv_at hl 2 rfl) ?_
  refine hp_callI (As := [.ref nm, .int (nI num)]) (rest := []) hx hb hml hown hts hPB hH hS (mc_side_X5 hK0 hG he) 2 q537 q538 q118 q539 rfl (by decide +kernel) ⟨rfl, rfl⟩ (by decide) rfl hl.1 rfl (Nat.le_of_ble_eq_true rfl) (by decide) dX5_init_3 (fun v1 h3 H locs hp2 _ hH hS => ?_)
  obtain ⟨rfl, hq⟩ := hp2
  rw [hq] at hH
  have he2 : (hset h a (.inr (4, [.ref nm, .int (nI num), .int 0, .int 0, .int 0, .int 0])) t) a = some (.inr (4, [.ref nm, .int (nI num), .int 0, .int 0, .int 0, .int 0]), t) := hset_self _ _ _ _
  refine lv_aload_n hx hb dX5_init_6 rfl (lv_at hl 0 rfl) ?_
  refine lv_iconst (v := nI 1) hx hb dX5_init_7 (by decide) ?_
  refine hp_put (C := RX5) (T := TX5) (N := 6) (v := .int (nI 1)) (ty := .boolean) hx hb hts in_X5 tyX5 tyX5_ok nmX5 hown hK hH hS he2 rfl 2 (by decide) (hts _ q541) (fun _ z => z) rfl (by decide +kernel) rfl rfl (Nat.le_of_ble_eq_true rfl) dX5_init_8 (fun H locs _ hH hS => ?_)
  have hH : HP D CL (zA s0) (hset (hset h a (.inr (4, [.ref nm, .int (nI num), .int 0, .int 0, .int 0, .int 0])) t) a (.inr (4, [.ref nm, .int (nI num), .int (nI 1), .int 0, .int 0, .int 0])) t) H := hH
  have e4 : (hset (hset h a (.inr (4, [.ref nm, .int (nI num), .int 0, .int 0, .int 0, .int 0])) t) a (.inr (4, [.ref nm, .int (nI num), .int (nI 1), .int 0, .int 0, .int 0])) t) a = some (.inr (4, [.ref nm, .int (nI num), .int (nI 1), .int 0, .int 0, .int 0]), t) := hset_self _ _ _ _
  refine lv_aload_n hx hb dX5_init_11 rfl (lv_at hl 0 rfl) ?_
  refine lv_iconst (v := (-1)) hx hb dX5_init_12 (by decide) ?_
  refine hp_put (C := RX5) (T := TX5) (N := 6) (v := .int (-1)) (ty := .int) hx hb hts in_X5 tyX5 tyX5_ok nmX5 hown hK hH hS e4 rfl 4 (by decide) (hts _ q546) (fun _ z => z) rfl (by decide +kernel) rfl rfl (Nat.le_of_ble_eq_true rfl) dX5_init_13 (fun H locs _ hH hS => ?_)
  have hH : HP D CL (zA s0) (hset (hset (hset h a (.inr (4, [.ref nm, .int (nI num), .int 0, .int 0, .int 0, .int 0])) t) a (.inr (4, [.ref nm, .int (nI num), .int (nI 1), .int 0, .int 0, .int 0])) t) a (.inr (4, [.ref nm, .int (nI num), .int (nI 1), .int 0, .int (-1), .int 0])) t) H := hH
  have e5 : (hset (hset (hset h a (.inr (4, [.ref nm, .int (nI num), .int 0, .int 0, .int 0, .int 0])) t) a (.inr (4, [.ref nm, .int (nI num), .int (nI 1), .int 0, .int 0, .int 0])) t) a (.inr (4, [.ref nm, .int (nI num), .int (nI 1), .int 0, .int (-1), .int 0])) t) a = some (.inr (4, [.ref nm, .int (nI num), .int (nI 1), .int 0, .int (-1), .int 0]), t) := hset_self _ _ _ _
  refine lv_aload_n hx hb dX5_init_16 rfl (lv_at hl 0 rfl) ?_
  refine lv_iconst (v := (-1)) hx hb dX5_init_17 (by decide) ?_
  refine hp_put (C := RX5) (T := TX5) (N := 6) (v := .int (-1)) (ty := .int) hx hb hts in_X5 tyX5 tyX5_ok nmX5 hown hK hH hS e5 rfl 5 (by decide) (hts _ q549) (fun _ z => z) rfl (by decide +kernel) rfl rfl (Nat.le_of_ble_eq_true rfl) dX5_init_18 (fun H locs _ hH hS => ?_)
  have hH : HP D CL (zA s0) (hset (hset (hset (hset h a (.inr (4, [.ref nm, .int (nI num), .int 0, .int 0, .int 0, .int 0])) t) a (.inr (4, [.ref nm, .int (nI num), .int (nI 1), .int 0, .int 0, .int 0])) t) a (.inr (4, [.ref nm, .int (nI num), .int (nI 1), .int 0, .int (-1), .int 0])) t) a (.inr (4, [.ref nm, .int (nI num), .int (nI 1), .int 0, .int (-1), .int (-1)])) t) H := hH
  have e6 : (hset (hset (hset (hset h a (.inr (4, [.ref nm, .int (nI num), .int 0, .int 0, .int 0, .int 0])) t) a (.inr (4, [.ref nm, .int (nI num), .int (nI 1), .int 0, .int 0, .int 0])) t) a (.inr (4, [.ref nm, .int (nI num), .int (nI 1), .int 0, .int (-1), .int 0])) t) a (.inr (4, [.ref nm, .int (nI num), .int (nI 1), .int 0, .int (-1), .int (-1)])) t) a = some (.inr (4, [.ref nm, .int (nI num), .int (nI 1), .int 0, .int (-1), .int (-1)]), t) := hset_self _ _ _ _
  exact hp_vret hx hb hr hlocks hH hS (by decide) (by decide) dX5_init_21 (⟨rfl, by simp only [hset_hset]⟩)
set_option maxHeartbeats 4000000 in
theorem mc_mark (hK0 : va_K D CL (TYS K) s0) {av : Nat → Nat} {ed mi : Nat} (hG : GX s0 wd av ed mi) {a t : Nat} (he : h a = some (.inr (5, [.null, .int 0, .int 0]), t)) {nm : Nat} {num : Nat} : Met l yX6_init (ws_ yX6_init cX6_init 3 ((Option.none : Option Jvm.ClassFile.FieldType))) (rmk 2 0 0) (va_Pc [.ref a, .ref nm, .int (nI num)] (PB s0 D CL (h))) (QR s0 D CL (fun v h1 => v = none ∧ h1 = hset h a (.inr (5, [.ref nm, .int (nI num), .int 0])) t)) 0 0 (zA s0) := by
  refine hp_met (by decide) (Nat.le_of_ble_eq_true rfl) hK0 ?_
  intro p e s m below meth cd ls hx hb hr hlocks hml hown hnm hts hK hPB hl hS hH hA
  have hl : lv_has ls 3 [(0, .ref a), (1, .ref nm), (2, .int (nI num))] := hl
  have hown : s.vm.findClass RX6 = some m.cls := hown
  refine lv_aload_n hx hb dX6_init_0 rfl (lv_at hl 0 rfl) ?_
  refine lv_aload_n hx hb dX6_init_1 rfl (lv_at hl 1 rfl) ?_
  refine lv_iload_n hx hb dX6_init_2 rfl (lv_at hl 2 rfl) ?_
  refine hp_callI (As := [.ref nm, .int (nI num)]) (rest := []) hx hb hml hown hts hPB hH hS (mc_side_X6 hK0 hG he) 2 q646 q538 q118 q539 rfl (by decide +kernel) ⟨rfl, rfl⟩ (by decide) rfl hl.1 rfl (Nat.le_of_ble_eq_true rfl) (by decide) dX6_init_3 (fun v1 h3 H locs hp2 _ hH hS => ?_)
  obtain ⟨rfl, hq⟩ := hp2
  rw [hq] at hH
  have he2 : (hset h a (.inr (5, [.ref nm, .int (nI num), .int 0])) t) a = some (.inr (5, [.ref nm, .int (nI num), .int 0]), t) := hset_self _ _ _ _
  exact hp_vret hx hb hr hlocks hH hS (by decide) (by decide) dX6_init_6 (⟨rfl, by simp only [hset_hset]⟩)
end MODEL
