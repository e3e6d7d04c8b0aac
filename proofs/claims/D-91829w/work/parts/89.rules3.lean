/-! by gen/mspec.py -/
set_option maxRecDepth 100000
section MODEL
variable {l : Launch} {s0 : State} {D : va_G} {K : Nat → ClassId} {wd : Nat → Nat} {o : Nat} {h : Hp} {I : Nat → Int32} {V : Nat → Nat → Int32} {J : Nat → Nat → Int64}
set_option maxHeartbeats 4000000 in
theorem mc_mkN_X8 (hK0 : va_K D CL (TYS K) s0) {av : Nat → Nat} {ed mi : Nat} (hG : GX s0 wd av ed mi) {a t tl tc s1 s2 w1 w2 b1 b2 wt : Nat} {rm : Int32} {bu : Option Nat} (he : h a = some (.inr (6, [.null, .null, .int 0, .int 0, .null, .int 0, .null]), t)) (hsd1 : SIDE h s1 w1 b1) (hsd2 : SIDE h s2 w2 b2) (hb1 : b1 < 1024) (hb2 : b2 < 1024) (hun : UNL h .null bu) (haw : awy t tl h s1 s2 .null) (htt : t ≠ tl) (htc : tc ≠ tl) : Met l yX8_init (ws_ yX8_init cX8_init 6 ((Option.none : Option Jvm.ClassFile.FieldType))) (rmk 8 110 700) (va_Pc [.ref a, .ref s1, .ref s2, .int (nI wt), .int rm, .null] (PB s0 D CL (h))) (QR s0 D CL (fun v h1 => v = none ∧ ∃ la L j, h1 a = some (.inr (6, [.ref s1, .ref s2, .int (nI wt), .int rm, .null, .int 0, .ref la]), t) ∧ AL (K 4) ed h1 la tl L j ∧ CPL tc h1 L (cpP 0 b1 b2 bu 10 0) ∧ frO t tl h h1 ∧ obK h h1)) 110 700 (zA s0) := by
  refine hp_met (by decide) (Nat.le_of_ble_eq_true rfl) hK0 ?_
  intro p e s m below meth cd ls hx hb hr hlocks hml hown hnm hts hK hPB hl hS hH hA
  have hl : lv_has ls 6 [(0, .ref a), (1, .ref s1), (2, .ref s2), (3, .int (nI wt)), (4, .int rm), (5, .null)] := hl
  have hown : s.vm.findClass RX8 = some m.cls := hown
  refine lv_aload_n hx hb dX8_init_0 rfl (lv_at hl 0 rfl) ?_
  refine lv_aload_n hx hb dX8_init_1 rfl (lv_at hl 1 rfl) ?_
  refine lv_aload_n hx hb dX8_init_2 rfl (lv_at hl 2 rfl) ?_
  refine lv_iload_n hx hb dX8_init_3 rfl (lv_at hl 3 rfl) ?_
  refine lv_iload hx hb dX8_init_4 (lv_at hl 4 rfl) ?_
  refine lv_aloadN hx hb dX8_init_6 (lv_at hl 5 rfl) ?_
  refine hp_callI (As := [.ref s1, .ref s2, .int (nI wt), .int rm, .null]) (rest := []) hx hb hml hown hts hPB hH hS (mc_ruleN_X8 hK0 hG he hsd1 hsd2 hb1 hb2 hun haw htt htc) 5 q681 q682 q125 q683 rfl (by decide +kernel) ⟨rfl, rfl⟩ (by decide) rfl hl.1 rfl (Nat.le_of_ble_eq_true rfl) (by decide) dX8_init_8 (fun v1 h3 H locs hp2 _ hH hS => ?_)
  obtain ⟨rfl, hpost⟩ := hp2
  exact hp_vret hx hb hr hlocks hH hS (by decide) (by decide) dX8_init_11 (⟨rfl, hpost⟩)
set_option maxHeartbeats 4000000 in
theorem mc_mutN_X11 (hK0 : va_K D CL (TYS K) s0) {av : Nat → Nat} {ed mi : Nat} (hG : GX s0 wd av ed mi) {a t tl tc s1 s2 w1 w2 b1 b2 wt : Nat} {rm : Int32} {bu : Option Nat} (he : h a = some (.inr (8, [.null, .null, .int 0, .int 0, .null, .int 0, .null]), t)) (hsd1 : SIDE h s1 w1 b1) (hsd2 : SIDE h s2 w2 b2) (hb1 : b1 < 1024) (hb2 : b2 < 1024) (hun : UNL h .null bu) (haw : awy t tl h s1 s2 .null) (htt : t ≠ tl) (htc : tc ≠ tl) : Met l yX10_init (ws_ yX10_init cX10_init 6 ((Option.none : Option Jvm.ClassFile.FieldType))) (rmk 8 110 700) (va_Pc [.ref a, .ref s1, .ref s2, .int (nI wt), .int rm, .null] (PB s0 D CL (h))) (QR s0 D CL (fun v h1 => v = none ∧ ∃ la L j, h1 a = some (.inr (8, [.ref s1, .ref s2, .int (nI wt), .int rm, .null, .int 0, .ref la]), t) ∧ AL (K 4) ed h1 la tl L j ∧ CPL tc h1 L (cpP 1 b1 b2 bu 10 0) ∧ frO t tl h h1 ∧ obK h h1)) 110 700 (zA s0) := by
  refine hp_met (by decide) (Nat.le_of_ble_eq_true rfl) hK0 ?_
  intro p e s m below meth cd ls hx hb hr hlocks hml hown hnm hts hK hPB hl hS hH hA
  have hl : lv_has ls 6 [(0, .ref a), (1, .ref s1), (2, .ref s2), (3, .int (nI wt)), (4, .int rm), (5, .null)] := hl
  have hown : s.vm.findClass RX10 = some m.cls := hown
  refine lv_aload_n hx hb dX10_init_0 rfl (lv_at hl 0 rfl) ?_
  refine lv_aload_n hx hb dX10_init_1 rfl (lv_at hl 1 rfl) ?_
  refine lv_aload_n hx hb dX10_init_2 rfl (lv_at hl 2 rfl) ?_
  refine lv_iload_n hx hb dX10_init_3 rfl (lv_at hl 3 rfl) ?_
  refine lv_iload hx hb dX10_init_4 (lv_at hl 4 rfl) ?_
  refine lv_aloadN hx hb dX10_init_6 (lv_at hl 5 rfl) ?_
  refine hp_callI (As := [.ref s1, .ref s2, .int (nI wt), .int rm, .null]) (rest := []) hx hb hml hown hts hPB hH hS (mc_ruleN_X11 hK0 hG he hsd1 hsd2 hb1 hb2 hun haw htt htc) 5 q770 q682 q125 q683 rfl (by decide +kernel) ⟨rfl, rfl⟩ (by decide) rfl hl.1 rfl (Nat.le_of_ble_eq_true rfl) (by decide) dX10_init_8 (fun v1 h3 H locs hp2 _ hH hS => ?_)
  obtain ⟨rfl, hpost⟩ := hp2
  exact hp_vret hx hb hr hlocks hH hS (by decide) (by decide) dX10_init_11 (⟨rfl, hpost⟩)
set_option maxHeartbeats 4000000 in
theorem mc_mkN_X11 (hK0 : va_K D CL (TYS K) s0) {av : Nat → Nat} {ed mi : Nat} (hG : GX s0 wd av ed mi) {a t tl tc s1 s2 w1 w2 b1 b2 wt : Nat} {rm : Int32} {bu : Option Nat} (he : h a = some (.inr (8, [.null, .null, .int 0, .int 0, .null, .int 0, .null]), t)) (hsd1 : SIDE h s1 w1 b1) (hsd2 : SIDE h s2 w2 b2) (hb1 : b1 < 1024) (hb2 : b2 < 1024) (hun : UNL h .null bu) (haw : awy t tl h s1 s2 .null) (htt : t ≠ tl) (htc : tc ≠ tl) : Met l yX11_init (ws_ yX11_init cX11_init 6 ((Option.none : Option Jvm.ClassFile.FieldType))) (rmk 9 110 700) (va_Pc [.ref a, .ref s1, .ref s2, .int (nI wt), .int rm, .null] (PB s0 D CL (h))) (QR s0 D CL (fun v h1 => v = none ∧ ∃ la L j, h1 a = some (.inr (8, [.ref s1, .ref s2, .int (nI wt), .int rm, .null, .int 0, .ref la]), t) ∧ AL (K 4) ed h1 la tl L j ∧ CPL tc h1 L (cpP 1 b1 b2 bu 10 0) ∧ frO t tl h h1 ∧ obK h h1)) 110 700 (zA s0) := by
  refine hp_met (by decide) (Nat.le_of_ble_eq_true rfl) hK0 ?_
  intro p e s m below meth cd ls hx hb hr hlocks hml hown hnm hts hK hPB hl hS hH hA
  have hl : lv_has ls 6 [(0, .ref a), (1, .ref s1), (2, .ref s2), (3, .int (nI wt)), (4, .int rm), (5, .null)] := hl
  have hown : s.vm.findClass RX11 = some m.cls := hown
  refine lv_aload_n hx hb dX11_init_0 rfl (lv_at hl 0 rfl) ?_
  refine lv_aload_n hx hb dX11_init_1 rfl (lv_at hl 1 rfl) ?_
  refine lv_aload_n hx hb dX11_init_2 rfl (lv_at hl 2 rfl) ?_
  refine lv_iload_n hx hb dX11_init_3 rfl (lv_at hl 3 rfl) ?_
  refine lv_iload hx hb dX11_init_4 (lv_at hl 4 rfl) ?_
  refine lv_aloadN hx hb dX11_init_6 (lv_at hl 5 rfl) ?_
  refine hp_callI (As := [.ref s1, .ref s2, .int (nI wt), .int rm, .null]) (rest := []) hx hb hml hown hts hPB hH hS (mc_mutN_X11 hK0 hG he hsd1 hsd2 hb1 hb2 hun haw htt htc) 5 q767 q768 q128 q769 rfl (by decide +kernel) ⟨rfl, rfl⟩ (by decide) rfl hl.1 rfl (Nat.le_of_ble_eq_true rfl) (by decide) dX11_init_8 (fun v1 h3 H locs hp2 _ hH hS => ?_)
  obtain ⟨rfl, hpost⟩ := hp2
  exact hp_vret hx hb hr hlocks hH hS (by decide) (by decide) dX11_init_11 (⟨rfl, hpost⟩)
set_option maxHeartbeats 4000000 in
theorem mc_mutN_X12 (hK0 : va_K D CL (TYS K) s0) {av : Nat → Nat} {ed mi : Nat} (hG : GX s0 wd av ed mi) {a t tl tc s1 s2 w1 w2 b1 b2 wt : Nat} {rm : Int32} {bu : Option Nat} (he : h a = some (.inr (9, [.null, .null, .int 0, .int 0, .null, .int 0, .null]), t)) (hsd1 : SIDE h s1 w1 b1) (hsd2 : SIDE h s2 w2 b2) (hb1 : b1 < 1024) (hb2 : b2 < 1024) (hun : UNL h .null bu) (haw : awy t tl h s1 s2 .null) (htt : t ≠ tl) (htc : tc ≠ tl) : Met l yX10_init (ws_ yX10_init cX10_init 6 ((Option.none : Option Jvm.ClassFile.FieldType))) (rmk 8 110 700) (va_Pc [.ref a, .ref s1, .ref s2, .int (nI wt), .int rm, .null] (PB s0 D CL (h))) (QR s0 D CL (fun v h1 => v = none ∧ ∃ la L j, h1 a = some (.inr (9, [.ref s1, .ref s2, .int (nI wt), .int rm, .null, .int 0, .ref la]), t) ∧ AL (K 4) ed h1 la tl L j ∧ CPL tc h1 L (cpP 2 b1 b2 bu 10 0) ∧ frO t tl h h1 ∧ obK h h1)) 110 700 (zA s0) := by
  refine hp_met (by decide) (Nat.le_of_ble_eq_true rfl) hK0 ?_
  intro p e s m below meth cd ls hx hb hr hlocks hml hown hnm hts hK hPB hl hS hH hA
  have hl : lv_has ls 6 [(0, .ref a), (1, .ref s1), (2, .ref s2), (3, .int (nI wt)), (4, .int rm), (5, .null)] := hl
  have hown : s.vm.findClass RX10 = some m.cls := hown
  refine lv_aload_n hx hb dX10_init_0 rfl (lv_at hl 0 rfl) ?_
  refine lv_aload_n hx hb dX10_init_1 rfl (lv_at hl 1 rfl) ?_
  refine lv_aload_n hx hb dX10_init_2 rfl (lv_at hl 2 rfl) ?_
  refine lv_iload_n hx hb dX10_init_3 rfl (lv_at hl 3 rfl) ?_
  refine lv_iload hx hb dX10_init_4 (lv_at hl 4 rfl) ?_
  refine lv_aloadN hx hb dX10_init_6 (lv_at hl 5 rfl) ?_
  refine hp_callI (As := [.ref s1, .ref s2, .int (nI wt), .int rm, .null]) (rest := []) hx hb hml hown hts hPB hH hS (mc_ruleN_X12 hK0 hG he hsd1 hsd2 hb1 hb2 hun haw htt htc) 5 q770 q682 q125 q683 rfl (by decide +kernel) ⟨rfl, rfl⟩ (by decide) rfl hl.1 rfl (Nat.le_of_ble_eq_true rfl) (by decide) dX10_init_8 (fun v1 h3 H locs hp2 _ hH hS => ?_)
  obtain ⟨rfl, hpost⟩ := hp2
  exact hp_vret hx hb hr hlocks hH hS (by decide) (by decide) dX10_init_11 (⟨rfl, hpost⟩)
set_option maxHeartbeats 4000000 in
theorem mc_mkN_X12 (hK0 : va_K D CL (TYS K) s0) {av : Nat → Nat} {ed mi : Nat} (hG : GX s0 wd av ed mi) {a t tl tc s1 s2 w1 w2 b1 b2 wt : Nat} {rm : Int32} {bu : Option Nat} (he : h a = some (.inr (9, [.null, .null, .int 0, .int 0, .null, .int 0, .null]), t)) (hsd1 : SIDE h s1 w1 b1) (hsd2 : SIDE h s2 w2 b2) (hb1 : b1 < 1024) (hb2 : b2 < 1024) (hun : UNL h .null bu) (haw : awy t tl h s1 s2 .null) (htt : t ≠ tl) (htc : tc ≠ tl) : Met l yX12_init (ws_ yX12_init cX12_init 6 ((Option.none : Option Jvm.ClassFile.FieldType))) (rmk 9 110 700) (va_Pc [.ref a, .ref s1, .ref s2, .int (nI wt), .int rm, .null] (PB s0 D CL (h))) (QR s0 D CL (fun v h1 => v = none ∧ ∃ la L j, h1 a = some (.inr (9, [.ref s1, .ref s2, .int (nI wt), .int rm, .null, .int 0, .ref la]), t) ∧ AL (K 4) ed h1 la tl L j ∧ CPL tc h1 L (cpP 2 b1 b2 bu 10 0) ∧ frO t tl h h1 ∧ obK h h1)) 110 700 (zA s0) := by
  refine hp_met (by decide) (Nat.le_of_ble_eq_true rfl) hK0 ?_
  intro p e s m below meth cd ls hx hb hr hlocks hml hown hnm hts hK hPB hl hS hH hA
  have hl : lv_has ls 6 [(0, .ref a), (1, .ref s1), (2, .ref s2), (3, .int (nI wt)), (4, .int rm), (5, .null)] := hl
  have hown : s.vm.findClass RX12 = some m.cls := hown
  refine lv_aload_n hx hb dX12_init_0 rfl (lv_at hl 0 rfl) ?_
  refine lv_aload_n hx hb dX12_init_1 rfl (lv_at hl 1 rfl) ?_
  refine lv_aload_n hx hb dX12_init_2 rfl (lv_at hl 2 rfl) ?_
  refine lv_iload_n hx hb dX12_init_3 rfl (lv_at hl 3 rfl) ?_
  refine lv_iload hx hb dX12_init_4 (lv_at hl 4 rfl) ?_
  refine lv_aloadN hx hb dX12_init_6 (lv_at hl 5 rfl) ?_
  refine hp_callI (As := [.ref s1, .ref s2, .int (nI wt), .int rm, .null]) (rest := []) hx hb hml hown hts hPB hH hS (mc_mutN_X12 hK0 hG he hsd1 hsd2 hb1 hb2 hun haw htt htc) 5 q784 q768 q128 q769 rfl (by decide +kernel) ⟨rfl, rfl⟩ (by decide) rfl hl.1 rfl (Nat.le_of_ble_eq_true rfl) (by decide) dX12_init_8 (fun v1 h3 H locs hp2 _ hH hS => ?_)
  obtain ⟨rfl, hpost⟩ := hp2
  exact hp_vret hx hb hr hlocks hH hS (by decide) (by decide) dX12_init_11 (⟨rfl, hpost⟩)
set_option maxHeartbeats 4000000 in
theorem mc_mkR_X8 (hK0 : va_K D CL (TYS K) s0) {av : Nat → Nat} {ed mi : Nat} (hG : GX s0 wd av ed mi) {a t z9 tl tc s1 s2 w1 w2 b1 b2 wt : Nat} {rm : Int32} {bu : Option Nat} (he : h a = some (.inr (6, [.null, .null, .int 0, .int 0, .null, .int 0, .null]), t)) (hsd1 : SIDE h s1 w1 b1) (hsd2 : SIDE h s2 w2 b2) (hb1 : b1 < 1024) (hb2 : b2 < 1024) (hun : UNL h (.ref z9) bu) (haw : awy t tl h s1 s2 (.ref z9)) (htt : t ≠ tl) (htc : tc ≠ tl) : Met l yX8_init (ws_ yX8_init cX8_init 6 ((Option.none : Option Jvm.ClassFile.FieldType))) (rmk 8 110 700) (va_Pc [.ref a, .ref s1, .ref s2, .int (nI wt), .int rm, .ref z9] (PB s0 D CL (h))) (QR s0 D CL (fun v h1 => v = none ∧ ∃ la L j, h1 a = some (.inr (6, [.ref s1, .ref s2, .int (nI wt), .int rm, .ref z9, .int 0, .ref la]), t) ∧ AL (K 4) ed h1 la tl L j ∧ CPL tc h1 L (cpP 0 b1 b2 bu 10 0) ∧ frO t tl h h1 ∧ obK h h1)) 110 700 (zA s0) := by
  refine hp_met (by decide) (Nat.le_of_ble_eq_true rfl) hK0 ?_
  intro p e s m below meth cd ls hx hb hr hlocks hml hown hnm hts hK hPB hl hS hH hA
  have hl : lv_has ls 6 [(0, .ref a), (1, .ref s1), (2, .ref s2), (3, .int (nI wt)), (4, .int rm), (5, .ref z9)] := hl
  have hown : s.vm.findClass RX8 = some m.cls := hown
  refine lv_aload_n hx hb dX8_init_0 rfl (lv_at hl 0 rfl) ?_
  refine lv_aload_n hx hb dX8_init_1 rfl (lv_at hl 1 rfl) ?_
  refine lv_aload_n hx hb dX8_init_2 rfl (lv_at hl 2 rfl) ?_
  refine lv_iload_n hx hb dX8_init_3 rfl (lv_at hl 3 rfl) ?_
  refine lv_iload hx hb dX8_init_4 (lv_at hl 4 rfl) ?_
  refine lv_aload hx hb dX8_init_6 (lv_at hl 5 rfl) ?_
  refine hp_callI (As := [.ref s1, .ref s2, .int (nI wt), .int rm, .ref z9]) (rest := []) hx hb hml hown hts hPB hH hS (mc_ruleR_X8 hK0 hG he hsd1 hsd2 hb1 hb2 hun haw htt htc) 5 q681 q682 q125 q683 rfl (by decide +kernel) ⟨rfl, rfl⟩ (by decide) rfl hl.1 rfl (Nat.le_of_ble_eq_true rfl) (by decide) dX8_init_8 (fun v1 h3 H locs hp2 _ hH hS => ?_)
  obtain ⟨rfl, hpost⟩ := hp2
  exact hp_vret hx hb hr hlocks hH hS (by decide) (by decide) dX8_init_11 (⟨rfl, hpost⟩)
set_option maxHeartbeats 4000000 in
theorem mc_mutR_X11 (hK0 : va_K D CL (TYS K) s0) {av : Nat → Nat} {ed mi : Nat} (hG : GX s0 wd av ed mi) {a t z9 tl tc s1 s2 w1 w2 b1 b2 wt : Nat} {rm : Int32} {bu : Option Nat} (he : h a = some (.inr (8, [.null, .null, .int 0, .int 0, .null, .int 0, .null]), t)) (hsd1 : SIDE h s1 w1 b1) (hsd2 : SIDE h s2 w2 b2) (hb1 : b1 < 1024) (hb2 : b2 < 1024) (hun : UNL h (.ref z9) bu) (haw : awy t tl h s1 s2 (.ref z9)) (htt : t ≠ tl) (htc : tc ≠ tl) : Met l yX10_init (ws_ yX10_init cX10_init 6 ((Option.none : Option Jvm.ClassFile.FieldType))) (rmk 8 110 700) (va_Pc [.ref a, .ref s1, .ref s2, .int (nI wt), .int rm, .ref z9] (PB s0 D CL (h))) (QR s0 D CL (fun v h1 => v = none ∧ ∃ la L j, h1 a = some (.inr (8, [.ref s1, .ref s2, .int (nI wt), .int rm, .ref z9, .int 0, .ref la]), t) ∧ AL (K 4) ed h1 la tl L j ∧ CPL tc h1 L (cpP 1 b1 b2 bu 10 0) ∧ frO t tl h h1 ∧ obK h h1)) 110 700 (zA s0) := by
  refine hp_met (by decide) (Nat.le_of_ble_eq_true rfl) hK0 ?_
  intro p e s m below meth cd ls hx hb hr hlocks hml hown hnm hts hK hPB hl hS hH hA
  have hl : lv_has ls 6 [(0, .ref a), (1, .ref s1), (2, .ref s2), (3, .int (nI wt)), (4, .int rm), (5, .ref z9)] := hl
  have hown : s.vm.findClass RX10 = some m.cls := hown
  refine lv_aload_n hx hb dX10_init_0 rfl (lv_at hl 0 rfl) ?_
  refine lv_aload_n hx hb dX10_init_1 rfl (lv_at hl 1 rfl) ?_
  refine lv_aload_n hx hb dX10_init_2 rfl (lv_at hl 2 rfl) ?_
  refine lv_iload_n hx hb dX10_init_3 rfl (lv_at hl 3 rfl) ?_
  refine lv_iload hx hb dX10_init_4 (lv_at hl 4 rfl) ?_
  refine lv_aload hx hb dX10_init_6 (lv_at hl 5 rfl) ?_
  refine hp_callI (As := [.ref s1, .ref s2, .int (nI wt), .int rm, .ref z9]) (rest := []) hx hb hml hown hts hPB hH hS (mc_ruleR_X11 hK0 hG he hsd1 hsd2 hb1 hb2 hun haw htt htc) 5 q770 q682 q125 q683 rfl (by decide +kernel) ⟨rfl, rfl⟩ (by decide) rfl hl.1 rfl (Nat.le_of_ble_eq_true rfl) (by decide) dX10_init_8 (fun v1 h3 H locs hp2 _ hH hS => ?_)
  obtain ⟨rfl, hpost⟩ := hp2
  exact hp_vret hx hb hr hlocks hH hS (by decide) (by decide) dX10_init_11 (⟨rfl, hpost⟩)
set_option maxHeartbeats 4000000 in
theorem mc_mkR_X11 (hK0 : va_K D CL (TYS K) s0) {av : Nat → Nat} {ed mi : Nat} (hG : GX s0 wd av ed mi) {a t z9 tl tc s1 s2 w1 w2 b1 b2 wt : Nat} {rm : Int32} {bu : Option Nat} (he : h a = some (.inr (8, [.null, .null, .int 0, .int 0, .null, .int 0, .null]), t)) (hsd1 : SIDE h s1 w1 b1) (hsd2 : SIDE h s2 w2 b2) (hb1 : b1 < 1024) (hb2 : b2 < 1024) (hun : UNL h (.ref z9) bu) (haw : awy t tl h s1 s2 (.ref z9)) (htt : t ≠ tl) (htc : tc ≠ tl) : Met l yX11_init (ws_ yX11_init cX11_init 6 ((Option.none : Option Jvm.ClassFile.FieldType))) (rmk 9 110 700) (va_Pc [.ref a, .ref s1, .ref s2, .int (nI wt), .int rm, .ref z9] (PB s0 D CL (h))) (QR s0 D CL (fun v h1 => v = none ∧ ∃ la L j, h1 a = some (.inr (8, [.ref s1, .ref s2, .int (nI wt), .int rm, .ref z9, .int 0, .ref la]), t) ∧ AL (K 4) ed h1 la tl L j ∧ CPL tc h1 L (cpP 1 b1 b2 bu 10 0) ∧ frO t tl h h1 ∧ obK h h1)) 110 700 (zA s0) := by
  refine hp_met (by decide) (Nat.le_of_ble_eq_true rfl) hK0 ?_
  intro p e s m below meth cd ls hx hb hr hlocks hml hown hnm hts hK hPB hl hS hH hA
  have hl : lv_has ls 6 [(0, .ref a), (1, .ref s1), (2, .ref s2), (3, .int (nI wt)), (4, .int rm), (5, .ref z9)] := hl
  have hown : s.vm.findClass RX11 = some m.cls := hown
  refine lv_aload_n hx hb dX11_init_0 rfl (lv_at hl 0 rfl) ?_
  refine lv_aload_n hx hb dX11_init_1 rfl (lv_at hl 1 rfl) ?_
  refine lv_aload_n hx hb dX11_init_2 rfl (lv_at hl 2 rfl) ?_
  refine lv_iload_n hx hb dX11_init_3 rfl (lv_at hl 3 rfl) ?_
  refine lv_iload hx hb dX11_init_4 (lv_at hl 4 rfl) ?_
  refine lv_aload hx hb dX11_init_6 (lv_at hl 5 rfl) ?_
  refine hp_callI (As := [.ref s1, .ref s2, .int (nI wt), .int rm, .ref z9]) (rest := []) hx hb hml hown hts hPB hH hS (mc_mutR_X11 hK0 hG he hsd1 hsd2 hb1 hb2 hun haw htt htc) 5 q767 q768 q128 q769 rfl (by decide +kernel) ⟨rfl, rfl⟩ (by decide) rfl hl.1 rfl (Nat.le_of_ble_eq_true rfl) (by decide) dX11_init_8 (fun v1 h3 H locs hp2 _ hH hS => ?_)
  obtain ⟨rfl, hpost⟩ := hp2
  exact hp_vret hx hb hr hlocks hH hS (by decide) (by decide) dX11_init_11 (⟨rfl, hpost⟩)
set_option maxHeartbeats 4000000 in
theorem mc_mutR_X12 (hK0 : va_K D CL (TYS K) s0) {av : Nat → Nat} {ed mi : Nat} (hG : GX s0 wd av ed mi) {a t z9 tl tc s1 s2 w1 w2 b1 b2 wt : Nat} {rm : Int32} {bu : Option Nat} (he : h a = some (.inr (9, [.null, .null, .int 0, .int 0, .null, .int 0, .null]), t)) (hsd1 : SIDE h s1 w1 b1) (hsd2 : SIDE h s2 w2 b2) (hb1 : b1 < 1024) (hb2 : b2 < 1024) (hun : UNL h (.ref z9) bu) (haw : awy t tl h s1 s2 (.ref z9)) (htt : t ≠ tl) (htc : tc ≠ tl) : Met l yX10_init (ws_ yX10_init cX10_init 6 ((Option.none : Option Jvm.ClassFile.FieldType))) (rmk 8 110 700) (va_Pc [.ref a, .ref s1, .ref s2, .int (nI wt), .int rm, .ref z9] (PB s0 D CL (h))) (QR s0 D CL (fun v h1 => v = none ∧ ∃ la L j, h1 a = some (.inr (9, [.ref s1, .ref s2, .int (nI wt), .int rm, .ref z9, .int 0, .ref la]), t) ∧ AL (K 4) ed h1 la tl L j ∧ CPL tc h1 L (cpP 2 b1 b2 bu 10 0) ∧ frO t tl h h1 ∧ obK h h1)) 110 700 (zA s0) := by
  refine hp_met (by decide) (Nat.le_of_ble_eq_true rfl) hK0 ?_
  intro p e s m below meth cd ls hx hb hr hlocks hml hown hnm hts hK hPB hl hS hH hA
  have hl : lv_has ls 6 [(0, .ref a), (1, .ref s1), (2, .ref s2), (3, .int (nI wt)), (4, .int rm), (5, .ref z9)] := hl
  have hown : s.vm.findClass RX10 = some m.cls := hown
  refine lv_aload_n hx hb dX10_init_0 rfl (lv_at hl 0 rfl) ?_
  refine lv_aload_n hx hb dX10_init_1 rfl (lv_at hl 1 rfl) ?_
  refine lv_aload_n hx hb dX10_init_2 rfl (lv_at hl 2 rfl) ?_
  refine lv_iload_n hx hb dX10_init_3 rfl (lv_at hl 3 rfl) ?_
  refine lv_iload hx hb dX10_init_4 (lv_at hl 4 rfl) ?_
  refine lv_aload hx hb dX10_init_6 (lv_at hl 5 rfl) ?_
  refine hp_callI (As := [.ref s1, .ref s2, .int (nI wt), .int rm, .ref z9]) (rest := []) hx hb hml hown hts hPB hH hS (mc_ruleR_X12 hK0 hG he hsd1 hsd2 hb1 hb2 hun haw htt htc) 5 q770 q682 q125 q683 rfl (by decide +kernel) ⟨rfl, rfl⟩ (by decide) rfl hl.1 rfl (Nat.le_of_ble_eq_true rfl) (by decide) dX10_init_8 (fun v1 h3 H locs hp2 _ hH hS => ?_)
  obtain ⟨rfl, hpost⟩ := hp2
  exact hp_vret hx hb hr hlocks hH hS (by decide) (by decide) dX10_init_11 (⟨rfl, hpost⟩)
set_option maxHeartbeats 4000000 in
theorem mc_mkR_X12 (hK0 : va_K D CL (TYS K) s0) {av : Nat → Nat} {ed mi : Nat} (hG : GX s0 wd av ed mi) {a t z9 tl tc s1 s2 w1 w2 b1 b2 wt : Nat} {rm : Int32} {bu : Option Nat} (he : h a = some (.inr (9, [.null, .null, .int 0, .int 0, .null, .int 0, .null]), t)) (hsd1 : SIDE h s1 w1 b1) (hsd2 : SIDE h s2 w2 b2) (hb1 : b1 < 1024) (hb2 : b2 < 1024) (hun : UNL h (.ref z9) bu) (haw : awy t tl h s1 s2 (.ref z9)) (htt : t ≠ tl) (htc : tc ≠ tl) : Met l yX12_init (ws_ yX12_init cX12_init 6 ((Option.none : Option Jvm.ClassFile.FieldType))) (rmk 9 110 700) (va_Pc [.ref a, .ref s1, .ref s2, .int (nI wt), .int rm, .ref z9] (PB s0 D CL (h))) (QR s0 D CL (fun v h1 => v = none ∧ ∃ la L j, h1 a = some (.inr (9, [.ref s1, .ref s2, .int (nI wt), .int rm, .ref z9, .int 0, .ref la]), t) ∧ AL (K 4) ed h1 la tl L j ∧ CPL tc h1 L (cpP 2 b1 b2 bu 10 0) ∧ frO t tl h h1 ∧ obK h h1)) 110 700 (zA s0) := by
  refine hp_met (by decide) (Nat.le_of_ble_eq_true rfl) hK0 ?_
  intro p e s m below meth cd ls hx hb hr hlocks hml hown hnm hts hK hPB hl hS hH hA
  have hl : lv_has ls 6 [(0, .ref a), (1, .ref s1), (2, .ref s2), (3, .int (nI wt)), (4, .int rm), (5, .ref z9)] := hl
  have hown : s.vm.findClass RX12 = some m.cls := hown
  refine lv_aload_n hx hb dX12_init_0 rfl (lv_at hl 0 rfl) ?_
  refine lv_aload_n hx hb dX12_init_1 rfl (lv_at hl 1 rfl) ?_
  refine lv_aload_n hx hb dX12_init_2 rfl (lv_at hl 2 rfl) ?_
  refine lv_iload_n hx hb dX12_init_3 rfl (lv_at hl 3 rfl) ?_
  refine lv_iload hx hb dX12_init_4 (lv_at hl 4 rfl) ?_
  refine lv_aload hx hb dX12_init_6 (lv_at hl 5 rfl) ?_
  refine hp_callI (As := [.ref s1, .ref s2, .int (nI wt), .int rm, .ref z9]) (rest := []) hx hb hml hown hts hPB hH hS (mc_mutR_X12 hK0 hG he hsd1 hsd2 hb1 hb2 hun haw htt htc) 5 q784 q768 q128 q769 rfl (by decide +kernel) ⟨rfl, rfl⟩ (by decide) rfl hl.1 rfl (Nat.le_of_ble_eq_true rfl) (by decide) dX12_init_8 (fun v1 h3 H locs hp2 _ hH hS => ?_)
  obtain ⟨rfl, hpost⟩ := hp2
  exact hp_vret hx hb hr hlocks hH hS (by decide) (by decide) dX12_init_11 (⟨rfl, hpost⟩)
end MODEL
