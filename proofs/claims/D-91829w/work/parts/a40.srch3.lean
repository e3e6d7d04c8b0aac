/-! by gen/mspec.py -/
set_option maxRecDepth 100000
section MODEL
variable {l : Launch} {s0 : State} {D : va_G} {K : Nat → ClassId} {wd : Nat → Nat} {o : Nat} {h : Hp} {I : Nat → Int32} {V : Nat → Nat → Int32} {J : Nat → Nat → Int64}
theorem at_nil (mem : List Nat) (g : Nat) : atN mem [] g = none := if_neg (Nat.not_lt_zero _)
set_option maxHeartbeats 4000000 in
theorem mc_run_L (hK0 : va_K D CL (TYS K) s0) {av : Nat → Nat} {ed mi : Nat} (hG : GX s0 wd av ed mi) {S : Ab} {w : Nat → Nat} {Ls : Nat → List Nat} {Jn : Nat → Nat} {Z : Nat → Nat → Int32} (hO : SOK S) (hO2 : SO2 S) {q x lb lg aa fa pa tg : Nat} (hqq : q < aRm S) (hm7 : (comP S (aN S)).length ≤ 7) (hn8 : aRp S q ≤ 8) (naf : aa ≠ fa) (nap : aa ≠ pa) (nfp : fa ≠ pa) (htg : 30 ≤ tg) (hW : CW K ed S h w Ls Jn Z) (hX : SRX S q K ed Ls h lb lg tg) (hs : SRL K (comP S (aN S)) h x ((Ls 3).getD q 0) lb lg aa fa pa tg 0 ([]) none) : Met l yX20_run (ws_ yX20_run cX20_run 1 ((Option.none : Option Jvm.ClassFile.FieldType))) (rmk 14 0 0) (va_Pc [.ref x] (PB s0 D CL (h))) (QR s0 D CL (fun v h1 => v = none ∧ SRL K (comP S (aN S)) h1 x ((Ls 3).getD q 0) lb lg aa fa pa tg 0 ([]) (srF S q (aRp S q) (comP S (aN S)) ok1 lfL (comP S (aN S)).length [] 0 0 none) ∧ frT tg h h1 ∧ obK h h1)) 0 0 (zA s0) := by
  refine hp_met (by decide) (Nat.le_of_ble_eq_true rfl) hK0 ?_
  intro p e s m below meth cd ls hx hb hr hlocks hml hown hnm hts hK hPB hl hS hH hA
  have hl : lv_has ls 1 [(0, .ref x)] := hl
  have hown : s.vm.findClass RX20 = some m.cls := hown
  have hs0 := hs
  obtain ⟨hok, hsx, ⟨af, haa, hat⟩, ⟨ff, hfa, hff⟩, pf, hpa, hpf⟩ := hs
  refine lv_aload_n hx hb dX20_run_0 rfl (lv_at hl 0 rfl) ?_
  refine lv_iconst (v := nI 0) hx hb dX20_run_1 (by decide) ?_
  refine lv_iconst (v := nI 0) hx hb dX20_run_2 (by decide) ?_
  refine lv_iconst (v := nI 0) hx hb dX20_run_3 (by decide) ?_
  refine lv_iconst (v := nI 0) hx hb dX20_run_4 (by decide) ?_
  refine hp_callU (As := [.int (nI 0), .int (nI 0), .int (nI 0), .int (nI 0)]) (rest := []) (owner := "FirstIn$Search") (x := yX20_goes) hx hb hml hown hts hPB hK hH hS (mc_goes_L hK0 hG hO hO2 hqq hm7 hn8 naf nap nfp htg (comP S (aN S)).length (pl := []) (tk := 0) (sm := 0) (wo := 0) (mv := 0) (z := none) hW hX hs0 (fun j hj => absurd hj (Nat.not_lt_zero _)) (Nat.zero_le _) (fun x _ => by rw [Nat.zero_testBit]; rfl) (by decide) (Nat.zero_le _) (Nat.zero_le _) rfl) hsx rfl rfl 4 (va_cwPr 4 hts q1279 q1998 q1281 q139 q1282 (sel_priv (hts _ q1276) rfl (hts _ q1281) (hG.pv hPB q1280) (by decide +kernel)) rfl rfl (by decide +kernel) (by first | decide | omega | (simp only [rmk]; omega))) rfl hl.1 rfl (Nat.le_of_ble_eq_true rfl) (by first | decide | omega | (simp only [rmk]; omega)) dX20_run_5 (fun v1 h3 H locs hp2 _ hH hS => ?_)
  obtain ⟨rfl, hs3, hf3, ho3⟩ := hp2
  exact hp_vret hx hb hr hlocks hH hS (by first | decide | omega | (simp only [rmk]; omega)) (by first | decide | omega | (simp only [rmk]; omega)) dX20_run_8 (⟨rfl, hs3, hf3, ho3⟩)
set_option maxHeartbeats 4000000 in
theorem mc_run_M (hK0 : va_K D CL (TYS K) s0) {av : Nat → Nat} {ed mi : Nat} (hG : GX s0 wd av ed mi) {S : Ab} {w : Nat → Nat} {Ls : Nat → List Nat} {Jn : Nat → Nat} {Z : Nat → Nat → Int32} (hO : SOK S) (hO2 : SO2 S) {q x lb lg aa fa tg : Nat} (hqq : q < aRm S) (hm7 : (comP S (aN S)).length ≤ 7) (hn8 : aRp S q ≤ 8) (naf : aa ≠ fa) (htg : 30 ≤ tg) (hW : CW K ed S h w Ls Jn Z) (hX : SRX S q K ed Ls h lb lg tg) (hs : SRM K (comP S (aN S)) h x ((Ls 3).getD q 0) lb lg aa fa tg 0 ([]) none) : Met l yX20_run (ws_ yX20_run cX20_run 1 ((Option.none : Option Jvm.ClassFile.FieldType))) (rmk 14 0 0) (va_Pc [.ref x] (PB s0 D CL (h))) (QR s0 D CL (fun v h1 => v = none ∧ SRM K (comP S (aN S)) h1 x ((Ls 3).getD q 0) lb lg aa fa tg 0 ([]) (srF S q (aRp S q) (comP S (aN S)) ok1 lfM (comP S (aN S)).length [] 0 0 none) ∧ frT tg h h1 ∧ obK h h1)) 0 0 (zA s0) := by
  refine hp_met (by decide) (Nat.le_of_ble_eq_true rfl) hK0 ?_
  intro p e s m below meth cd ls hx hb hr hlocks hml hown hnm hts hK hPB hl hS hH hA
  have hl : lv_has ls 1 [(0, .ref x)] := hl
  have hown : s.vm.findClass RX20 = some m.cls := hown
  have hs0 := hs
  obtain ⟨hok, hsx, ⟨af, haa, hat⟩, ff, hfa, hff⟩ := hs
  refine lv_aload_n hx hb dX20_run_0 rfl (lv_at hl 0 rfl) ?_
  refine lv_iconst (v := nI 0) hx hb dX20_run_1 (by decide) ?_
  refine lv_iconst (v := nI 0) hx hb dX20_run_2 (by decide) ?_
  refine lv_iconst (v := nI 0) hx hb dX20_run_3 (by decide) ?_
  refine lv_iconst (v := nI 0) hx hb dX20_run_4 (by decide) ?_
  refine hp_callU (As := [.int (nI 0), .int (nI 0), .int (nI 0), .int (nI 0)]) (rest := []) (owner := "FirstIn$Search") (x := yX20_goes) hx hb hml hown hts hPB hK hH hS (mc_goes_M hK0 hG hO hO2 hqq hm7 hn8 naf htg (comP S (aN S)).length (pl := []) (tk := 0) (sm := 0) (wo := 0) (mv := 0) (z := none) hW hX hs0 (fun j hj => absurd hj (Nat.not_lt_zero _)) (Nat.zero_le _) (fun x _ => by rw [Nat.zero_testBit]; rfl) (by decide) (Nat.zero_le _) (Nat.zero_le _) rfl) hsx rfl rfl 4 (va_cwPr 4 hts q1279 q1998 q1281 q139 q1282 (sel_priv (hts _ q1323) rfl (hts _ q1281) (hG.pv hPB q1280) (by decide +kernel)) rfl rfl (by decide +kernel) (by first | decide | omega | (simp only [rmk]; omega))) rfl hl.1 rfl (Nat.le_of_ble_eq_true rfl) (by first | decide | omega | (simp only [rmk]; omega)) dX20_run_5 (fun v1 h3 H locs hp2 _ hH hS => ?_)
  obtain ⟨rfl, hs3, hf3, ho3⟩ := hp2
  exact hp_vret hx hb hr hlocks hH hS (by first | decide | omega | (simp only [rmk]; omega)) (by first | decide | omega | (simp only [rmk]; omega)) dX20_run_8 (⟨rfl, hs3, hf3, ho3⟩)
set_option maxHeartbeats 4000000 in
theorem mc_run_D (hK0 : va_K D CL (TYS K) s0) {av : Nat → Nat} {ed mi : Nat} (hG : GX s0 wd av ed mi) {S : Ab} {w : Nat → Nat} {Ls : Nat → List Nat} {Jn : Nat → Nat} {Z : Nat → Nat → Int32} (hO : SOK S) (hO2 : SO2 S) {q x lb lg aa fa tg : Nat} {lim : Int32} (hqq : q < aRm S) (hm7 : (comP S (aN S)).length ≤ 7) (hn8 : aRp S q ≤ 8) (naf : aa ≠ fa) (htg : 30 ≤ tg) (hW : CW K ed S h w Ls Jn Z) (hX : SRX S q K ed Ls h lb lg tg) (hs : SRD q lim K (comP S (aN S)) h x ((Ls 3).getD q 0) lb lg aa fa tg 0 ([]) none) : Met l yX20_run (ws_ yX20_run cX20_run 1 ((Option.none : Option Jvm.ClassFile.FieldType))) (rmk 14 0 0) (va_Pc [.ref x] (PB s0 D CL (h))) (QR s0 D CL (fun v h1 => v = none ∧ SRD q lim K (comP S (aN S)) h1 x ((Ls 3).getD q 0) lb lg aa fa tg 0 ([]) (srF S q (aRp S q) (comP S (aN S)) (seOk S q (comP S (aN S)) true) (lfD S q (comP S (aN S)) lim) (comP S (aN S)).length [] 0 0 none) ∧ frT tg h h1 ∧ obK h h1)) 0 0 (zA s0) := by
  refine hp_met (by decide) (Nat.le_of_ble_eq_true rfl) hK0 ?_
  intro p e s m below meth cd ls hx hb hr hlocks hml hown hnm hts hK hPB hl hS hH hA
  have hl : lv_has ls 1 [(0, .ref x)] := hl
  have hown : s.vm.findClass RX20 = some m.cls := hown
  have hs0 := hs
  obtain ⟨hok, hsx, ⟨af, haa, hat⟩, ff, hfa, hff⟩ := hs
  refine lv_aload_n hx hb dX20_run_0 rfl (lv_at hl 0 rfl) ?_
  refine lv_iconst (v := nI 0) hx hb dX20_run_1 (by decide) ?_
  refine lv_iconst (v := nI 0) hx hb dX20_run_2 (by decide) ?_
  refine lv_iconst (v := nI 0) hx hb dX20_run_3 (by decide) ?_
  refine lv_iconst (v := nI 0) hx hb dX20_run_4 (by decide) ?_
  refine hp_callU (As := [.int (nI 0), .int (nI 0), .int (nI 0), .int (nI 0)]) (rest := []) (owner := "FirstIn$Search") (x := yX20_goes) hx hb hml hown hts hPB hK hH hS (mc_goes_D hK0 hG hO hO2 hqq hm7 hn8 naf htg (comP S (aN S)).length (pl := []) (tk := 0) (sm := 0) (wo := 0) (z := none) hW hX hs0 (fun j hj => absurd hj (Nat.not_lt_zero _)) (Nat.zero_le _) (fun x _ => by rw [Nat.zero_testBit]; rfl) (by decide) (Nat.zero_le _) (Nat.zero_le _) rfl) hsx rfl rfl 4 (va_cwPr 4 hts q1279 q1998 q1281 q139 q1282 (sel_priv (hts _ q1317) rfl (hts _ q1281) (hG.pv hPB q1280) (by decide +kernel)) rfl rfl (by decide +kernel) (by first | decide | omega | (simp only [rmk]; omega))) rfl hl.1 rfl (Nat.le_of_ble_eq_true rfl) (by first | decide | omega | (simp only [rmk]; omega)) dX20_run_5 (fun v1 h3 H locs hp2 _ hH hS => ?_)
  obtain ⟨rfl, hs3, hf3, ho3⟩ := hp2
  exact hp_vret hx hb hr hlocks hH hS (by first | decide | omega | (simp only [rmk]; omega)) (by first | decide | omega | (simp only [rmk]; omega)) dX20_run_8 (⟨rfl, hs3, hf3, ho3⟩)
set_option maxHeartbeats 4000000 in
theorem mc_sinit_L (hK0 : va_K D CL (TYS K) s0) {av : Nat → Nat} {ed mi : Nat} (hG : GX s0 wd av ed mi) {x ra lb lg tg : Nat} (hsx : h x = some (.inr (16, [.null, .null, .null, .null, .null, .int 0, .int 0, .int 0, .null]), tg)) : Met l yX20_init (ws_ yX20_init cX20_init 5 ((Option.none : Option Jvm.ClassFile.FieldType))) (rmk 2 2 20) (va_Pc [.ref x, .ref ra, .ref lb, .ref lg] (PB s0 D CL (h))) (QR s0 D CL (fun v h1 => v = none ∧ ∃ aa fa, aa ≠ fa ∧ h1 x = some (.inr (16, [.ref ra, .ref lb, .ref lg, .ref aa, .ref fa, .int 0, .int 0, .int 0, .null]), tg) ∧ AR10 K h1 aa tg (fun _ => -1) ∧ AR10 K h1 fa tg (fun _ => -1) ∧ frT tg h h1 ∧ obK h h1)) 2 20 (zA s0) := by
  refine hp_met (by decide) (Nat.le_of_ble_eq_true rfl) hK0 ?_
  intro p e s m below meth cd ls hx hb hr hlocks hml hown hnm hts hK hPB hl hS hH hA
  have hl : lv_has ls 5 [(0, .ref x), (1, .ref ra), (2, .ref lb), (3, .ref lg)] := hl
  have hown : s.vm.findClass RX20 = some m.cls := hown
  have hfr9 : frT tg h h := frT.rf
  have hob9 : obK h h := obK.rf
  refine lv_aload_n hx hb dX20_init_0 rfl (lv_at hl 0 rfl) ?_
  refine hp_oinit hx hb hown hts q1233 q150 q151 (hl.1.trans hml.symm) (by decide) (Nat.le_of_ble_eq_true rfl) dX20_init_1 ?_
  refine lv_aload_n hx hb dX20_init_4 rfl (lv_at hl 0 rfl) ?_
  refine lv_bipush (v := nI 10) hx hb dX20_init_5 (by decide) ?_
  obtain ⟨aa, haa, naa⟩ := hH.fr
  refine hp_newa (atype := .int) (ty := .int) (n := nI 10) (N' := 10) (a0 := (10, .inl (fun _ => 0))) hx hb (hts _ q255) rfl hK hH hS hA 0 rfl (fun z => z) (fun _ => rfl) (nI_pos (by first | omega | (refine Nat.lt_of_lt_of_le (Nat.mod_lt _ ?_) ?_ <;> omega))) (nI_clamp (by first | omega | (refine Nat.lt_of_lt_of_le (Nat.mod_lt _ ?_) ?_ <;> omega))) (by show _ * 4 ≤ _; omega) (by first | decide | omega | (simp only [rmk]; omega)) (by first | decide | omega | (simp only [rmk]; omega)) tg dX20_init_7 (fun H _ hH hS => ?_)
  rw [← haa] at hH ⊢
  have hH : HP D CL (zA s0) (hset h aa (.inl (K 0, 10, .inl (fun _ => 0))) tg) H := hH
  have hfr9 := hfr9.new (e1 := .inl (K 0, 10, .inl (fun _ => 0))) (u1 := tg) naa
  have hob9 := hob9.tr (exH.ob (exH.new (e1 := .inl (K 0, 10, .inl (fun _ => 0))) (u1 := tg) naa))
  have x1 : x ≠ aa := ne_new hsx naa
  have e2 : (hset h aa (.inl (K 0, 10, .inl (fun _ => 0))) tg) x = some (.inr (16, [.null, .null, .null, .null, .null, .int 0, .int 0, .int 0, .null]), tg) := (hset_ne _ _ _ (x1)).trans hsx
  have e3 : (hset h aa (.inl (K 0, 10, .inl (fun _ => 0))) tg) aa = some (.inl (K 0, 10, .inl (fun _ => 0)), tg) := hset_self _ _ _ _
  refine hp_putF (C := RX21) (T := TX21) (N := 9) (v := .ref aa) (ty := (.array .int)) hx hb hts in_X21 tyX21 tyX21_ok nmX21 hown hK hH hS e2 rfl 3 (by decide) (hts _ q1246) (fun _ z => z) rfl hnm rfl (by decide +kernel) rfl rfl (Nat.le_of_ble_eq_true rfl) dX20_init_9 (fun H locs _ hH hS => ?_)
  have hH : HP D CL (zA s0) (hset (hset h aa (.inl (K 0, 10, .inl (fun _ => 0))) tg) x (.inr (16, [.null, .null, .null, .ref aa, .null, .int 0, .int 0, .int 0, .null])) tg) H := hH
  have hfr9 := hfr9.tr (set_fr (c1 := .inr (16, [.null, .null, .null, .ref aa, .null, .int 0, .int 0, .int 0, .null])) e2)
  have hob9 := hob9.tr (ob_o (ci := 16) (fs := [.null, .null, .null, .ref aa, .null, .int 0, .int 0, .int 0, .null]) (t2 := tg) e2)
  have e4 : (hset (hset h aa (.inl (K 0, 10, .inl (fun _ => 0))) tg) x (.inr (16, [.null, .null, .null, .ref aa, .null, .int 0, .int 0, .int 0, .null])) tg) aa = some (.inl (K 0, 10, .inl (fun _ => 0)), tg) := (hset_ne _ _ _ ((Ne.symm x1))).trans e3
  have e5 : (hset (hset h aa (.inl (K 0, 10, .inl (fun _ => 0))) tg) x (.inr (16, [.null, .null, .null, .ref aa, .null, .int 0, .int 0, .int 0, .null])) tg) x = some (.inr (16, [.null, .null, .null, .ref aa, .null, .int 0, .int 0, .int 0, .null]), tg) := hset_self _ _ _ _
  refine lv_aload_n hx hb dX20_init_12 rfl (lv_at hl 0 rfl) ?_
  refine lv_bipush (v := nI 10) hx hb dX20_init_13 (by decide) ?_
  obtain ⟨fa, hfa, nfa⟩ := hH.fr
  refine hp_newa (atype := .int) (ty := .int) (n := nI 10) (N' := 10) (a0 := (10, .inl (fun _ => 0))) hx hb (hts _ q255) rfl hK hH hS hA 0 rfl (fun z => z) (fun _ => rfl) (nI_pos (by first | omega | (refine Nat.lt_of_lt_of_le (Nat.mod_lt _ ?_) ?_ <;> omega))) (nI_clamp (by first | omega | (refine Nat.lt_of_lt_of_le (Nat.mod_lt _ ?_) ?_ <;> omega))) (by show _ * 4 ≤ _; omega) (by first | decide | omega | (simp only [rmk]; omega)) (by first | decide | omega | (simp only [rmk]; omega)) tg dX20_init_15 (fun H _ hH hS => ?_)
  rw [← hfa] at hH ⊢
  have hH : HP D CL (zA s0) (hset (hset (hset h aa (.inl (K 0, 10, .inl (fun _ => 0))) tg) x (.inr (16, [.null, .null, .null, .ref aa, .null, .int 0, .int 0, .int 0, .null])) tg) fa (.inl (K 0, 10, .inl (fun _ => 0))) tg) H := hH
  have hfr9 := hfr9.new (e1 := .inl (K 0, 10, .inl (fun _ => 0))) (u1 := tg) nfa
  have hob9 := hob9.tr (exH.ob (exH.new (e1 := .inl (K 0, 10, .inl (fun _ => 0))) (u1 := tg) nfa))
  have x6 : aa ≠ fa := ne_new e4 nfa
  have x7 : x ≠ fa := ne_new e5 nfa
  have e8 : (hset (hset (hset h aa (.inl (K 0, 10, .inl (fun _ => 0))) tg) x (.inr (16, [.null, .null, .null, .ref aa, .null, .int 0, .int 0, .int 0, .null])) tg) fa (.inl (K 0, 10, .inl (fun _ => 0))) tg) aa = some (.inl (K 0, 10, .inl (fun _ => 0)), tg) := (hset_ne _ _ _ (x6)).trans e4
  have e9 : (hset (hset (hset h aa (.inl (K 0, 10, .inl (fun _ => 0))) tg) x (.inr (16, [.null, .null, .null, .ref aa, .null, .int 0, .int 0, .int 0, .null])) tg) fa (.inl (K 0, 10, .inl (fun _ => 0))) tg) x = some (.inr (16, [.null, .null, .null, .ref aa, .null, .int 0, .int 0, .int 0, .null]), tg) := (hset_ne _ _ _ (x7)).trans e5
  have e10 : (hset (hset (hset h aa (.inl (K 0, 10, .inl (fun _ => 0))) tg) x (.inr (16, [.null, .null, .null, .ref aa, .null, .int 0, .int 0, .int 0, .null])) tg) fa (.inl (K 0, 10, .inl (fun _ => 0))) tg) fa = some (.inl (K 0, 10, .inl (fun _ => 0)), tg) := hset_self _ _ _ _
  refine hp_putF (C := RX21) (T := TX21) (N := 9) (v := .ref fa) (ty := (.array .int)) hx hb hts in_X21 tyX21 tyX21_ok nmX21 hown hK hH hS e9 rfl 4 (by decide) (hts _ q1249) (fun _ z => z) rfl hnm rfl (by decide +kernel) rfl rfl (Nat.le_of_ble_eq_true rfl) dX20_init_17 (fun H locs _ hH hS => ?_)
  have hH : HP D CL (zA s0) (hset (hset (hset (hset h aa (.inl (K 0, 10, .inl (fun _ => 0))) tg) x (.inr (16, [.null, .null, .null, .ref aa, .null, .int 0, .int 0, .int 0, .null])) tg) fa (.inl (K 0, 10, .inl (fun _ => 0))) tg) x (.inr (16, [.null, .null, .null, .ref aa, .ref fa, .int 0, .int 0, .int 0, .null])) tg) H := hH
  have hfr9 := hfr9.tr (set_fr (c1 := .inr (16, [.null, .null, .null, .ref aa, .ref fa, .int 0, .int 0, .int 0, .null])) e9)
  have hob9 := hob9.tr (ob_o (ci := 16) (fs := [.null, .null, .null, .ref aa, .ref fa, .int 0, .int 0, .int 0, .null]) (t2 := tg) e9)
  have e11 : (hset (hset (hset (hset h aa (.inl (K 0, 10, .inl (fun _ => 0))) tg) x (.inr (16, [.null, .null, .null, .ref aa, .null, .int 0, .int 0, .int 0, .null])) tg) fa (.inl (K 0, 10, .inl (fun _ => 0))) tg) x (.inr (16, [.null, .null, .null, .ref aa, .ref fa, .int 0, .int 0, .int 0, .null])) tg) aa = some (.inl (K 0, 10, .inl (fun _ => 0)), tg) := (hset_ne _ _ _ ((Ne.symm x1))).trans e8
  have e12 : (hset (hset (hset (hset h aa (.inl (K 0, 10, .inl (fun _ => 0))) tg) x (.inr (16, [.null, .null, .null, .ref aa, .null, .int 0, .int 0, .int 0, .null])) tg) fa (.inl (K 0, 10, .inl (fun _ => 0))) tg) x (.inr (16, [.null, .null, .null, .ref aa, .ref fa, .int 0, .int 0, .int 0, .null])) tg) fa = some (.inl (K 0, 10, .inl (fun _ => 0)), tg) := (hset_ne _ _ _ ((Ne.symm x7))).trans e10
  have e13 : (hset (hset (hset (hset h aa (.inl (K 0, 10, .inl (fun _ => 0))) tg) x (.inr (16, [.null, .null, .null, .ref aa, .null, .int 0, .int 0, .int 0, .null])) tg) fa (.inl (K 0, 10, .inl (fun _ => 0))) tg) x (.inr (16, [.null, .null, .null, .ref aa, .ref fa, .int 0, .int 0, .int 0, .null])) tg) x = some (.inr (16, [.null, .null, .null, .ref aa, .ref fa, .int 0, .int 0, .int 0, .null]), tg) := hset_self _ _ _ _
  refine lv_aload_n hx hb dX20_init_20 rfl (lv_at hl 0 rfl) ?_
  refine lv_aload_n hx hb dX20_init_21 rfl (lv_at hl 1 rfl) ?_
  refine hp_putF (C := RX21) (T := TX21) (N := 9) (v := .ref ra) (ty := (.object "FirstIn$Room")) hx hb hts in_X21 tyX21 tyX21_ok nmX21 hown hK hH hS e13 rfl 0 (by decide) (hts _ q1241) (fun _ z => z) rfl hnm rfl (by decide +kernel) rfl rfl (Nat.le_of_ble_eq_true rfl) dX20_init_22 (fun H locs _ hH hS => ?_)
  have hH : HP D CL (zA s0) (hset (hset (hset (hset (hset h aa (.inl (K 0, 10, .inl (fun _ => 0))) tg) x (.inr (16, [.null, .null, .null, .ref aa, .null, .int 0, .int 0, .int 0, .null])) tg) fa (.inl (K 0, 10, .inl (fun _ => 0))) tg) x (.inr (16, [.null, .null, .null, .ref aa, .ref fa, .int 0, .int 0, .int 0, .null])) tg) x (.inr (16, [.ref ra, .null, .null, .ref aa, .ref fa, .int 0, .int 0, .int 0, .null])) tg) H := hH
  have hfr9 := hfr9.tr (set_fr (c1 := .inr (16, [.ref ra, .null, .null, .ref aa, .ref fa, .int 0, .int 0, .int 0, .null])) e13)
  have hob9 := hob9.tr (ob_o (ci := 16) (fs := [.ref ra, .null, .null, .ref aa, .ref fa, .int 0, .int 0, .int 0, .null]) (t2 := tg) e13)
  have e14 : (hset (hset (hset (hset (hset h aa (.inl (K 0, 10, .inl (fun _ => 0))) tg) x (.inr (16, [.null, .null, .null, .ref aa, .null, .int 0, .int 0, .int 0, .null])) tg) fa (.inl (K 0, 10, .inl (fun _ => 0))) tg) x (.inr (16, [.null, .null, .null, .ref aa, .ref fa, .int 0, .int 0, .int 0, .null])) tg) x (.inr (16, [.ref ra, .null, .null, .ref aa, .ref fa, .int 0, .int 0, .int 0, .null])) tg) aa = some (.inl (K 0, 10, .inl (fun _ => 0)), tg) := (hset_ne _ _ _ ((Ne.symm x1))).trans e11
  have e15 : (hset (hset (hset (hset (hset h aa (.inl (K 0, 10, .inl (fun _ => 0))) tg) x (.inr (16, [.null, .null, .null, .ref aa, .null, .int 0, .int 0, .int 0, .null])) tg) fa (.inl (K 0, 10, .inl (fun _ => 0))) tg) x (.inr (16, [.null, .null, .null, .ref aa, .ref fa, .int 0, .int 0, .int 0, .null])) tg) x (.inr (16, [.ref ra, .null, .null, .ref aa, .ref fa, .int 0, .int 0, .int 0, .null])) tg) fa = some (.inl (K 0, 10, .inl (fun _ => 0)), tg) := (hset_ne _ _ _ ((Ne.symm x7))).trans e12
  have e16 : (hset (hset (hset (hset (hset h aa (.inl (K 0, 10, .inl (fun _ => 0))) tg) x (.inr (16, [.null, .null, .null, .ref aa, .null, .int 0, .int 0, .int 0, .null])) tg) fa (.inl (K 0, 10, .inl (fun _ => 0))) tg) x (.inr (16, [.null, .null, .null, .ref aa, .ref fa, .int 0, .int 0, .int 0, .null])) tg) x (.inr (16, [.ref ra, .null, .null, .ref aa, .ref fa, .int 0, .int 0, .int 0, .null])) tg) x = some (.inr (16, [.ref ra, .null, .null, .ref aa, .ref fa, .int 0, .int 0, .int 0, .null]), tg) := hset_self _ _ _ _
  refine lv_aload_n hx hb dX20_init_25 rfl (lv_at hl 0 rfl) ?_
  refine lv_aload_n hx hb dX20_init_26 rfl (lv_at hl 2 rfl) ?_
  refine hp_putF (C := RX21) (T := TX21) (N := 9) (v := .ref lb) (ty := (.object "java/util/ArrayList")) hx hb hts in_X21 tyX21 tyX21_ok nmX21 hown hK hH hS e16 rfl 1 (by decide) (hts _ q1242) (fun _ z => z) rfl hnm rfl (by decide +kernel) rfl rfl (Nat.le_of_ble_eq_true rfl) dX20_init_27 (fun H locs _ hH hS => ?_)
  have hH : HP D CL (zA s0) (hset (hset (hset (hset (hset (hset h aa (.inl (K 0, 10, .inl (fun _ => 0))) tg) x (.inr (16, [.null, .null, .null, .ref aa, .null, .int 0, .int 0, .int 0, .null])) tg) fa (.inl (K 0, 10, .inl (fun _ => 0))) tg) x (.inr (16, [.null, .null, .null, .ref aa, .ref fa, .int 0, .int 0, .int 0, .null])) tg) x (.inr (16, [.ref ra, .null, .null, .ref aa, .ref fa, .int 0, .int 0, .int 0, .null])) tg) x (.inr (16, [.ref ra, .ref lb, .null, .ref aa, .ref fa, .int 0, .int 0, .int 0, .null])) tg) H := hH
  have hfr9 := hfr9.tr (set_fr (c1 := .inr (16, [.ref ra, .ref lb, .null, .ref aa, .ref fa, .int 0, .int 0, .int 0, .null])) e16)
  have hob9 := hob9.tr (ob_o (ci := 16) (fs := [.ref ra, .ref lb, .null, .ref aa, .ref fa, .int 0, .int 0, .int 0, .null]) (t2 := tg) e16)
  have e17 : (hset (hset (hset (hset (hset (hset h aa (.inl (K 0, 10, .inl (fun _ => 0))) tg) x (.inr (16, [.null, .null, .null, .ref aa, .null, .int 0, .int 0, .int 0, .null])) tg) fa (.inl (K 0, 10, .inl (fun _ => 0))) tg) x (.inr (16, [.null, .null, .null, .ref aa, .ref fa, .int 0, .int 0, .int 0, .null])) tg) x (.inr (16, [.ref ra, .null, .null, .ref aa, .ref fa, .int 0, .int 0, .int 0, .null])) tg) x (.inr (16, [.ref ra, .ref lb, .null, .ref aa, .ref fa, .int 0, .int 0, .int 0, .null])) tg) aa = some (.inl (K 0, 10, .inl (fun _ => 0)), tg) := (hset_ne _ _ _ ((Ne.symm x1))).trans e14
  have e18 : (hset (hset (hset (hset (hset (hset h aa (.inl (K 0, 10, .inl (fun _ => 0))) tg) x (.inr (16, [.null, .null, .null, .ref aa, .null, .int 0, .int 0, .int 0, .null])) tg) fa (.inl (K 0, 10, .inl (fun _ => 0))) tg) x (.inr (16, [.null, .null, .null, .ref aa, .ref fa, .int 0, .int 0, .int 0, .null])) tg) x (.inr (16, [.ref ra, .null, .null, .ref aa, .ref fa, .int 0, .int 0, .int 0, .null])) tg) x (.inr (16, [.ref ra, .ref lb, .null, .ref aa, .ref fa, .int 0, .int 0, .int 0, .null])) tg) fa = some (.inl (K 0, 10, .inl (fun _ => 0)), tg) := (hset_ne _ _ _ ((Ne.symm x7))).trans e15
  have e19 : (hset (hset (hset (hset (hset (hset h aa (.inl (K 0, 10, .inl (fun _ => 0))) tg) x (.inr (16, [.null, .null, .null, .ref aa, .null, .int 0, .int 0, .int 0, .null])) tg) fa (.inl (K 0, 10, .inl (fun _ => 0))) tg) x (.inr (16, [.null, .null, .null, .ref aa, .ref fa, .int 0, .int 0, .int 0, .null])) tg) x (.inr (16, [.ref ra, .null, .null, .ref aa, .ref fa, .int 0, .int 0, .int 0, .null])) tg) x (.inr (16, [.ref ra, .ref lb, .null, .ref aa, .ref fa, .int 0, .int 0, .int 0, .null])) tg) x = some (.inr (16, [.ref ra, .ref lb, .null, .ref aa, .ref fa, .int 0, .int 0, .int 0, .null]), tg) := hset_self _ _ _ _
  refine lv_aload_n hx hb dX20_init_30 rfl (lv_at hl 0 rfl) ?_
  refine lv_aload_n hx hb dX20_init_31 rfl (lv_at hl 3 rfl) ?_
  refine hp_putF (C := RX21) (T := TX21) (N := 9) (v := .ref lg) (ty := (.object "java/util/ArrayList")) hx hb hts in_X21 tyX21 tyX21_ok nmX21 hown hK hH hS e19 rfl 2 (by decide) (hts _ q1243) (fun _ z => z) rfl hnm rfl (by decide +kernel) rfl rfl (Nat.le_of_ble_eq_true rfl) dX20_init_32 (fun H locs _ hH hS => ?_)
  have hH : HP D CL (zA s0) (hset (hset (hset (hset (hset (hset (hset h aa (.inl (K 0, 10, .inl (fun _ => 0))) tg) x (.inr (16, [.null, .null, .null, .ref aa, .null, .int 0, .int 0, .int 0, .null])) tg) fa (.inl (K 0, 10, .inl (fun _ => 0))) tg) x (.inr (16, [.null, .null, .null, .ref aa, .ref fa, .int 0, .int 0, .int 0, .null])) tg) x (.inr (16, [.ref ra, .null, .null, .ref aa, .ref fa, .int 0, .int 0, .int 0, .null])) tg) x (.inr (16, [.ref ra, .ref lb, .null, .ref aa, .ref fa, .int 0, .int 0, .int 0, .null])) tg) x (.inr (16, [.ref ra, .ref lb, .ref lg, .ref aa, .ref fa, .int 0, .int 0, .int 0, .null])) tg) H := hH
  have hfr9 := hfr9.tr (set_fr (c1 := .inr (16, [.ref ra, .ref lb, .ref lg, .ref aa, .ref fa, .int 0, .int 0, .int 0, .null])) e19)
  have hob9 := hob9.tr (ob_o (ci := 16) (fs := [.ref ra, .ref lb, .ref lg, .ref aa, .ref fa, .int 0, .int 0, .int 0, .null]) (t2 := tg) e19)
  have e20 : (hset (hset (hset (hset (hset (hset (hset h aa (.inl (K 0, 10, .inl (fun _ => 0))) tg) x (.inr (16, [.null, .null, .null, .ref aa, .null, .int 0, .int 0, .int 0, .null])) tg) fa (.inl (K 0, 10, .inl (fun _ => 0))) tg) x (.inr (16, [.null, .null, .null, .ref aa, .ref fa, .int 0, .int 0, .int 0, .null])) tg) x (.inr (16, [.ref ra, .null, .null, .ref aa, .ref fa, .int 0, .int 0, .int 0, .null])) tg) x (.inr (16, [.ref ra, .ref lb, .null, .ref aa, .ref fa, .int 0, .int 0, .int 0, .null])) tg) x (.inr (16, [.ref ra, .ref lb, .ref lg, .ref aa, .ref fa, .int 0, .int 0, .int 0, .null])) tg) aa = some (.inl (K 0, 10, .inl (fun _ => 0)), tg) := (hset_ne _ _ _ ((Ne.symm x1))).trans e17
  have e21 : (hset (hset (hset (hset (hset (hset (hset h aa (.inl (K 0, 10, .inl (fun _ => 0))) tg) x (.inr (16, [.null, .null, .null, .ref aa, .null, .int 0, .int 0, .int 0, .null])) tg) fa (.inl (K 0, 10, .inl (fun _ => 0))) tg) x (.inr (16, [.null, .null, .null, .ref aa, .ref fa, .int 0, .int 0, .int 0, .null])) tg) x (.inr (16, [.ref ra, .null, .null, .ref aa, .ref fa, .int 0, .int 0, .int 0, .null])) tg) x (.inr (16, [.ref ra, .ref lb, .null, .ref aa, .ref fa, .int 0, .int 0, .int 0, .null])) tg) x (.inr (16, [.ref ra, .ref lb, .ref lg, .ref aa, .ref fa, .int 0, .int 0, .int 0, .null])) tg) fa = some (.inl (K 0, 10, .inl (fun _ => 0)), tg) := (hset_ne _ _ _ ((Ne.symm x7))).trans e18
  have e22 : (hset (hset (hset (hset (hset (hset (hset h aa (.inl (K 0, 10, .inl (fun _ => 0))) tg) x (.inr (16, [.null, .null, .null, .ref aa, .null, .int 0, .int 0, .int 0, .null])) tg) fa (.inl (K 0, 10, .inl (fun _ => 0))) tg) x (.inr (16, [.null, .null, .null, .ref aa, .ref fa, .int 0, .int 0, .int 0, .null])) tg) x (.inr (16, [.ref ra, .null, .null, .ref aa, .ref fa, .int 0, .int 0, .int 0, .null])) tg) x (.inr (16, [.ref ra, .ref lb, .null, .ref aa, .ref fa, .int 0, .int 0, .int 0, .null])) tg) x (.inr (16, [.ref ra, .ref lb, .ref lg, .ref aa, .ref fa, .int 0, .int 0, .int 0, .null])) tg) x = some (.inr (16, [.ref ra, .ref lb, .ref lg, .ref aa, .ref fa, .int 0, .int 0, .int 0, .null]), tg) := hset_self _ _ _ _
  refine lv_iconst (v := nI 0) hx hb dX20_init_35 (by decide) ?_
  refine lv_istore (lv' := [(4, .int (nI 0)), (0, .ref x), (1, .ref ra), (2, .ref lb), (3, .ref lg)]) hx hb dX20_init_36 hl (by decide) rfl (fun ls hl => ?_)
  refine w_loop4 (fun (k : Nat) (f1 : Nat → Int32) (f2 : Nat → Int32) (hh : Hp) => 10 - k) (fun (k : Nat) (f1 : Nat → Int32) (f2 : Nat → Int32) (hh : Hp) H locs ls => (k ≤ 10) ∧ (∀ g, g < 10 → g < k → f1 g = -1) ∧ (∀ g, g < 10 → g < k → f2 g = -1) ∧ (hh aa = some (.inl (K 0, 10, .inl f1), tg)) ∧ (hh fa = some (.inl (K 0, 10, .inl f2), tg)) ∧ (hh x = some (.inr (16, [.ref ra, .ref lb, .ref lg, .ref aa, .ref fa, .int 0, .int 0, .int 0, .null]), tg)) ∧ (frT tg h hh) ∧ (obK h hh) ∧ HP D CL (zA s0) hh H ∧ va_S (zA s0) s.heap H locs ∧ lv_has ls 5 [(0, .ref x), (4, .int (nI k))]) ?_ 0 (fun _ => 0) (fun _ => 0) (hset (hset (hset (hset (hset (hset (hset h aa (.inl (K 0, 10, .inl (fun _ => 0))) tg) x (.inr (16, [.null, .null, .null, .ref aa, .null, .int 0, .int 0, .int 0, .null])) tg) fa (.inl (K 0, 10, .inl (fun _ => 0))) tg) x (.inr (16, [.null, .null, .null, .ref aa, .ref fa, .int 0, .int 0, .int 0, .null])) tg) x (.inr (16, [.ref ra, .null, .null, .ref aa, .ref fa, .int 0, .int 0, .int 0, .null])) tg) x (.inr (16, [.ref ra, .ref lb, .null, .ref aa, .ref fa, .int 0, .int 0, .int 0, .null])) tg) x (.inr (16, [.ref ra, .ref lb, .ref lg, .ref aa, .ref fa, .int 0, .int 0, .int 0, .null])) tg) ⟨Nat.zero_le _, fun g _ h => absurd h (Nat.not_lt_zero _), fun g _ h => absurd h (Nat.not_lt_zero _), e20, e21, e22, hfr9, hob9, hH, hS, lv_sub hl [1, 0] rfl⟩
  intro k f1 f2 hh ih38 H locs ls hP
  obtain ⟨hk, h1z, h2z, k1, k2, kx, hfr, hob, hH, hS, hl⟩ := hP
  have hfr9 := hfr
  have hob9 := hob
  refine lv_iload hx hb dX20_init_38 (lv_at hl 1 rfl) ?_
  refine lv_bipush (v := nI 10) hx hb dX20_init_40 (by decide) ?_
  refine lvN_ge (tgt := 67) hx hb (by first | omega | (refine Nat.lt_of_lt_of_le (Nat.mod_lt _ ?_) ?_ <;> omega)) (by first | omega | (refine Nat.lt_of_lt_of_le (Nat.mod_lt _ ?_) ?_ <;> omega)) dX20_init_42 (by decide) (fun ck => ?_) (fun ck => ?_)
  · exact hp_vret hx hb hr hlocks hH hS (by first | decide | omega | (simp only [rmk]; omega)) (by first | decide | omega | (simp only [rmk]; omega)) dX20_init_67 (⟨rfl, aa, fa, x6, kx, ⟨f1, k1, fun g hg => h1z g hg (by omega)⟩, ⟨f2, k2, fun g hg => h2z g hg (by omega)⟩, hfr, hob⟩)
  · refine lv_aload_n hx hb dX20_init_45 rfl (lv_at hl 0 rfl) ?_
    refine hp_get (C := RX21) (T := TX21) (N := 9) (v := .ref aa) hx hb hts in_X21 hown hK hH kx rfl 3 (by decide) (hts _ q1246) (fun _ z => z) rfl dX20_init_46 ?_
    refine lv_iload hx hb dX20_init_49 (lv_at hl 1 rfl) ?_
    refine lv_iconst (v := (-1)) hx hb dX20_init_51 (by decide) ?_
    refine hp_ist (n := 10) (j := k) hx hb hK hH hS 0 k1 rfl (by first | omega | (refine Nat.lt_of_lt_of_le (Nat.mod_lt _ ?_) ?_ <;> omega)) (by first | omega | (refine Nat.lt_of_lt_of_le (Nat.mod_lt _ ?_) ?_ <;> omega)) dX20_init_52 (fun H locs _ hH hS => ?_)
    have hH : HP D CL (zA s0) (hset hh aa (.inl (K 0, 10, .inl (upd f1 k (-1)))) tg) H := hH
    have hfr9 := hfr9.tr (set_fr (c1 := .inl (K 0, 10, .inl (upd f1 k (-1)))) k1)
    have hob9 := hob9.tr (ob_a (e := .inl (K 0, 10, .inl (upd f1 k (-1)))) (t2 := tg) k1)
    have e23 : (hset hh aa (.inl (K 0, 10, .inl (upd f1 k (-1)))) tg) x = some (.inr (16, [.ref ra, .ref lb, .ref lg, .ref aa, .ref fa, .int 0, .int 0, .int 0, .null]), tg) := (hset_ne _ _ _ (x1)).trans kx
    have e24 : (hset hh aa (.inl (K 0, 10, .inl (upd f1 k (-1)))) tg) fa = some (.inl (K 0, 10, .inl f2), tg) := (hset_ne _ _ _ ((Ne.symm x6))).trans k2
    have e25 : (hset hh aa (.inl (K 0, 10, .inl (upd f1 k (-1)))) tg) aa = some (.inl (K 0, 10, .inl (upd f1 k (-1))), tg) := hset_self _ _ _ _
    refine lv_aload_n hx hb dX20_init_53 rfl (lv_at hl 0 rfl) ?_
    refine hp_get (C := RX21) (T := TX21) (N := 9) (v := .ref fa) hx hb hts in_X21 hown hK hH e23 rfl 4 (by decide) (hts _ q1249) (fun _ z => z) rfl dX20_init_54 ?_
    refine lv_iload hx hb dX20_init_57 (lv_at hl 1 rfl) ?_
    refine lv_iconst (v := (-1)) hx hb dX20_init_59 (by decide) ?_
    refine hp_ist (n := 10) (j := k) hx hb hK hH hS 0 e24 rfl (by first | omega | (refine Nat.lt_of_lt_of_le (Nat.mod_lt _ ?_) ?_ <;> omega)) (by first | omega | (refine Nat.lt_of_lt_of_le (Nat.mod_lt _ ?_) ?_ <;> omega)) dX20_init_60 (fun H locs _ hH hS => ?_)
    have hH : HP D CL (zA s0) (hset (hset hh aa (.inl (K 0, 10, .inl (upd f1 k (-1)))) tg) fa (.inl (K 0, 10, .inl (upd f2 k (-1)))) tg) H := hH
    have hfr9 := hfr9.tr (set_fr (c1 := .inl (K 0, 10, .inl (upd f2 k (-1)))) e24)
    have hob9 := hob9.tr (ob_a (e := .inl (K 0, 10, .inl (upd f2 k (-1)))) (t2 := tg) e24)
    have e26 : (hset (hset hh aa (.inl (K 0, 10, .inl (upd f1 k (-1)))) tg) fa (.inl (K 0, 10, .inl (upd f2 k (-1)))) tg) x = some (.inr (16, [.ref ra, .ref lb, .ref lg, .ref aa, .ref fa, .int 0, .int 0, .int 0, .null]), tg) := (hset_ne _ _ _ (x7)).trans e23
    have e27 : (hset (hset hh aa (.inl (K 0, 10, .inl (upd f1 k (-1)))) tg) fa (.inl (K 0, 10, .inl (upd f2 k (-1)))) tg) aa = some (.inl (K 0, 10, .inl (upd f1 k (-1))), tg) := (hset_ne _ _ _ (x6)).trans e25
    have e28 : (hset (hset hh aa (.inl (K 0, 10, .inl (upd f1 k (-1)))) tg) fa (.inl (K 0, 10, .inl (upd f2 k (-1)))) tg) fa = some (.inl (K 0, 10, .inl (upd f2 k (-1))), tg) := hset_self _ _ _ _
    refine lv_iinc (v := nI (k + 1)) (lv' := [(4, .int (nI (k + 1))), (0, .ref x)]) hx hb dX20_init_61 hl (k := 1) rfl (nI_add k 1) (by decide) rfl (fun ls hl => ?_)
    refine lv_goto (tgt := 38) hx hb dX20_init_64 (by decide) ?_
    exact ih38 (k + 1) _ _ (hset (hset hh aa (.inl (K 0, 10, .inl (upd f1 k (-1)))) tg) fa (.inl (K 0, 10, .inl (upd f2 k (-1)))) tg) (by omega) H locs ls ⟨by omega, fun g hg hk9 => by by_cases e : g = k; (rw [e]; exact if_pos rfl); exact (if_neg e).trans (h1z g hg (by omega)), fun g hg hk9 => by by_cases e : g = k; (rw [e]; exact if_pos rfl); exact (if_neg e).trans (h2z g hg (by omega)), e27, e28, e26, hfr9, hob9, hH, hS, lv_sub hl [1, 0] rfl⟩
set_option maxHeartbeats 4000000 in
theorem mc_init_L (hK0 : va_K D CL (TYS K) s0) {av : Nat → Nat} {ed mi : Nat} (hG : GX s0 wd av ed mi) {mem : List Nat} {x ra lb lg tg : Nat} (hsx : h x = some (.inr (16, [.null, .null, .null, .null, .null, .int 0, .int 0, .int 0, .null]), tg)) : Met l yX21_init (ws_ yX21_init cX21_init 4 ((Option.none : Option Jvm.ClassFile.FieldType))) (rmk 3 3 30) (va_Pc [.ref x, .ref ra, .ref lb, .ref lg] (PB s0 D CL (h))) (QR s0 D CL (fun v h1 => v = none ∧ ∃ aa fa pa, aa ≠ fa ∧ aa ≠ pa ∧ fa ≠ pa ∧ SRL K mem h1 x ra lb lg aa fa pa tg 0 [] none ∧ frT tg h h1 ∧ obK h h1)) 3 30 (zA s0) := by
  refine hp_met (by decide) (Nat.le_of_ble_eq_true rfl) hK0 ?_
  intro p e s m below meth cd ls hx hb hr hlocks hml hown hnm hts hK hPB hl hS hH hA
  have hl : lv_has ls 4 [(0, .ref x), (1, .ref ra), (2, .ref lb), (3, .ref lg)] := hl
  have hown : s.vm.findClass RX21 = some m.cls := hown
  have hfr9 : frT tg h h := frT.rf
  have hob9 : obK h h := obK.rf
  refine lv_aload_n hx hb dX21_init_0 rfl (lv_at hl 0 rfl) ?_
  refine lv_aload_n hx hb dX21_init_1 rfl (lv_at hl 1 rfl) ?_
  refine lv_aload_n hx hb dX21_init_2 rfl (lv_at hl 2 rfl) ?_
  refine lv_aload_n hx hb dX21_init_3 rfl (lv_at hl 3 rfl) ?_
  refine hp_callI (As := [.ref ra, .ref lb, .ref lg]) (rest := []) hx hb hml hown hts hPB hH hS (mc_sinit_L hK0 hG hsx) 3 q1230 q1231 q139 q1232 rfl (by decide +kernel) ⟨rfl, rfl⟩ (by first | decide | omega | (simp only [rmk]; omega)) rfl hl.1 rfl (Nat.le_of_ble_eq_true rfl) (by first | decide | omega | (simp only [rmk]; omega)) dX21_init_4 (fun v1 h3 H locs hp2 _ hH hS => ?_)
  obtain ⟨rfl, aa, fa, naf, hsx3, ⟨f1, k1, h1z⟩, ⟨f2, k2, h2z⟩, hf3, ho3⟩ := hp2
  have hfr9 := hfr9.tr hf3
  have hob9 := hob9.tr ho3
  refine lv_aload_n hx hb dX21_init_7 rfl (lv_at hl 0 rfl) ?_
  refine lv_ldc (v := 1000000) hx hb hown (hts _ q1234) dX21_init_8 ?_
  refine lv_top (y := nI 1000000) (by decide) ?_
  refine hp_put (C := RX21) (T := TX21) (N := 9) (v := .int (nI 1000000)) (ty := .int) hx hb hts in_X21 tyX21 tyX21_ok nmX21 hown hK hH hS hsx3 rfl 6 (by decide) (hts _ q1235) (fun _ z => z) rfl (by decide +kernel) rfl rfl (Nat.le_of_ble_eq_true rfl) dX21_init_10 (fun H locs _ hH hS => ?_)
  have hH : HP D CL (zA s0) (hset h3 x (.inr (16, [.ref ra, .ref lb, .ref lg, .ref aa, .ref fa, .int 0, .int (nI 1000000), .int 0, .null])) tg) H := hH
  have hfr9 := hfr9.tr (set_fr (c1 := .inr (16, [.ref ra, .ref lb, .ref lg, .ref aa, .ref fa, .int 0, .int (nI 1000000), .int 0, .null])) hsx3)
  have hob9 := hob9.tr (ob_o (ci := 16) (fs := [.ref ra, .ref lb, .ref lg, .ref aa, .ref fa, .int 0, .int (nI 1000000), .int 0, .null]) (t2 := tg) hsx3)
  have e4 : (hset h3 x (.inr (16, [.ref ra, .ref lb, .ref lg, .ref aa, .ref fa, .int 0, .int (nI 1000000), .int 0, .null])) tg) aa = some (.inl (K 0, 10, .inl f1), tg) := (hset_ne _ _ _ (ne_ao k1 hsx3)).trans k1
  have e5 : (hset h3 x (.inr (16, [.ref ra, .ref lb, .ref lg, .ref aa, .ref fa, .int 0, .int (nI 1000000), .int 0, .null])) tg) fa = some (.inl (K 0, 10, .inl f2), tg) := (hset_ne _ _ _ (ne_ao k2 hsx3)).trans k2
  have e6 : (hset h3 x (.inr (16, [.ref ra, .ref lb, .ref lg, .ref aa, .ref fa, .int 0, .int (nI 1000000), .int 0, .null])) tg) x = some (.inr (16, [.ref ra, .ref lb, .ref lg, .ref aa, .ref fa, .int 0, .int (nI 1000000), .int 0, .null]), tg) := hset_self _ _ _ _
  refine lv_aload_n hx hb dX21_init_13 rfl (lv_at hl 0 rfl) ?_
  refine lv_bipush (v := nI 10) hx hb dX21_init_14 (by decide) ?_
  obtain ⟨pa, hpa, npa⟩ := hH.fr
  refine hp_newa (atype := .int) (ty := .int) (n := nI 10) (N' := 10) (a0 := (10, .inl (fun _ => 0))) hx hb (hts _ q255) rfl hK hH hS hA 0 rfl (fun z => z) (fun _ => rfl) (nI_pos (by first | omega | (refine Nat.lt_of_lt_of_le (Nat.mod_lt _ ?_) ?_ <;> omega))) (nI_clamp (by first | omega | (refine Nat.lt_of_lt_of_le (Nat.mod_lt _ ?_) ?_ <;> omega))) (by show _ * 4 ≤ _; omega) (by first | decide | omega | (simp only [rmk]; omega)) (by first | decide | omega | (simp only [rmk]; omega)) tg dX21_init_16 (fun H _ hH hS => ?_)
  rw [← hpa] at hH ⊢
  have hH : HP D CL (zA s0) (hset (hset h3 x (.inr (16, [.ref ra, .ref lb, .ref lg, .ref aa, .ref fa, .int 0, .int (nI 1000000), .int 0, .null])) tg) pa (.inl (K 0, 10, .inl (fun _ => 0))) tg) H := hH
  have hfr9 := hfr9.new (e1 := .inl (K 0, 10, .inl (fun _ => 0))) (u1 := tg) npa
  have hob9 := hob9.tr (exH.ob (exH.new (e1 := .inl (K 0, 10, .inl (fun _ => 0))) (u1 := tg) npa))
  have x7 : aa ≠ pa := ne_new e4 npa
  have x8 : fa ≠ pa := ne_new e5 npa
  have x9 : x ≠ pa := ne_new e6 npa
  have e10 : (hset (hset h3 x (.inr (16, [.ref ra, .ref lb, .ref lg, .ref aa, .ref fa, .int 0, .int (nI 1000000), .int 0, .null])) tg) pa (.inl (K 0, 10, .inl (fun _ => 0))) tg) aa = some (.inl (K 0, 10, .inl f1), tg) := (hset_ne _ _ _ (x7)).trans e4
  have e11 : (hset (hset h3 x (.inr (16, [.ref ra, .ref lb, .ref lg, .ref aa, .ref fa, .int 0, .int (nI 1000000), .int 0, .null])) tg) pa (.inl (K 0, 10, .inl (fun _ => 0))) tg) fa = some (.inl (K 0, 10, .inl f2), tg) := (hset_ne _ _ _ (x8)).trans e5
  have e12 : (hset (hset h3 x (.inr (16, [.ref ra, .ref lb, .ref lg, .ref aa, .ref fa, .int 0, .int (nI 1000000), .int 0, .null])) tg) pa (.inl (K 0, 10, .inl (fun _ => 0))) tg) x = some (.inr (16, [.ref ra, .ref lb, .ref lg, .ref aa, .ref fa, .int 0, .int (nI 1000000), .int 0, .null]), tg) := (hset_ne _ _ _ (x9)).trans e6
  have e13 : (hset (hset h3 x (.inr (16, [.ref ra, .ref lb, .ref lg, .ref aa, .ref fa, .int 0, .int (nI 1000000), .int 0, .null])) tg) pa (.inl (K 0, 10, .inl (fun _ => 0))) tg) pa = some (.inl (K 0, 10, .inl (fun _ => 0)), tg) := hset_self _ _ _ _
  refine hp_putF (C := RX21) (T := TX21) (N := 9) (v := .ref pa) (ty := (.array .int)) hx hb hts in_X21 tyX21 tyX21_ok nmX21 hown hK hH hS e12 rfl 8 (by decide) (hts _ q1239) (fun _ z => z) rfl hnm rfl (by decide +kernel) rfl rfl (Nat.le_of_ble_eq_true rfl) dX21_init_18 (fun H locs _ hH hS => ?_)
  have hH : HP D CL (zA s0) (hset (hset (hset h3 x (.inr (16, [.ref ra, .ref lb, .ref lg, .ref aa, .ref fa, .int 0, .int (nI 1000000), .int 0, .null])) tg) pa (.inl (K 0, 10, .inl (fun _ => 0))) tg) x (.inr (16, [.ref ra, .ref lb, .ref lg, .ref aa, .ref fa, .int 0, .int (nI 1000000), .int 0, .ref pa])) tg) H := hH
  have hfr9 := hfr9.tr (set_fr (c1 := .inr (16, [.ref ra, .ref lb, .ref lg, .ref aa, .ref fa, .int 0, .int (nI 1000000), .int 0, .ref pa])) e12)
  have hob9 := hob9.tr (ob_o (ci := 16) (fs := [.ref ra, .ref lb, .ref lg, .ref aa, .ref fa, .int 0, .int (nI 1000000), .int 0, .ref pa]) (t2 := tg) e12)
  have e14 : (hset (hset (hset h3 x (.inr (16, [.ref ra, .ref lb, .ref lg, .ref aa, .ref fa, .int 0, .int (nI 1000000), .int 0, .null])) tg) pa (.inl (K 0, 10, .inl (fun _ => 0))) tg) x (.inr (16, [.ref ra, .ref lb, .ref lg, .ref aa, .ref fa, .int 0, .int (nI 1000000), .int 0, .ref pa])) tg) aa = some (.inl (K 0, 10, .inl f1), tg) := (hset_ne _ _ _ (ne_ao e10 e12)).trans e10
  have e15 : (hset (hset (hset h3 x (.inr (16, [.ref ra, .ref lb, .ref lg, .ref aa, .ref fa, .int 0, .int (nI 1000000), .int 0, .null])) tg) pa (.inl (K 0, 10, .inl (fun _ => 0))) tg) x (.inr (16, [.ref ra, .ref lb, .ref lg, .ref aa, .ref fa, .int 0, .int (nI 1000000), .int 0, .ref pa])) tg) fa = some (.inl (K 0, 10, .inl f2), tg) := (hset_ne _ _ _ (ne_ao e11 e12)).trans e11
  have e16 : (hset (hset (hset h3 x (.inr (16, [.ref ra, .ref lb, .ref lg, .ref aa, .ref fa, .int 0, .int (nI 1000000), .int 0, .null])) tg) pa (.inl (K 0, 10, .inl (fun _ => 0))) tg) x (.inr (16, [.ref ra, .ref lb, .ref lg, .ref aa, .ref fa, .int 0, .int (nI 1000000), .int 0, .ref pa])) tg) pa = some (.inl (K 0, 10, .inl (fun _ => 0)), tg) := (hset_ne _ _ _ ((Ne.symm x9))).trans e13
  have e17 : (hset (hset (hset h3 x (.inr (16, [.ref ra, .ref lb, .ref lg, .ref aa, .ref fa, .int 0, .int (nI 1000000), .int 0, .null])) tg) pa (.inl (K 0, 10, .inl (fun _ => 0))) tg) x (.inr (16, [.ref ra, .ref lb, .ref lg, .ref aa, .ref fa, .int 0, .int (nI 1000000), .int 0, .ref pa])) tg) x = some (.inr (16, [.ref ra, .ref lb, .ref lg, .ref aa, .ref fa, .int 0, .int (nI 1000000), .int 0, .ref pa]), tg) := hset_self _ _ _ _
  exact hp_vret hx hb hr hlocks hH hS (by first | decide | omega | (simp only [rmk]; omega)) (by first | decide | omega | (simp only [rmk]; omega)) dX21_init_21 (⟨rfl, aa, fa, pa, naf, x7, x8, ⟨⟨Nat.le_refl _, fun b L e => by cases e⟩, e17, ⟨_, e14, (fun g hg => (h1z g hg).trans (congrArg oI (at_nil mem g)).symm)⟩, ⟨_, e15, h2z⟩, _, e16, fun g _ => rfl⟩, hfr9, hob9⟩)
set_option maxHeartbeats 4000000 in
theorem mc_sinit_M (hK0 : va_K D CL (TYS K) s0) {av : Nat → Nat} {ed mi : Nat} (hG : GX s0 wd av ed mi) {x ra lb lg tg : Nat} (hsx : h x = some (.inr (18, [.null, .null, .null, .null, .null, .int 0, .int 0, .int 0]), tg)) : Met l yX20_init (ws_ yX20_init cX20_init 5 ((Option.none : Option Jvm.ClassFile.FieldType))) (rmk 2 2 20) (va_Pc [.ref x, .ref ra, .ref lb, .ref lg] (PB s0 D CL (h))) (QR s0 D CL (fun v h1 => v = none ∧ ∃ aa fa, aa ≠ fa ∧ h1 x = some (.inr (18, [.ref ra, .ref lb, .ref lg, .ref aa, .ref fa, .int 0, .int 0, .int 0]), tg) ∧ AR10 K h1 aa tg (fun _ => -1) ∧ AR10 K h1 fa tg (fun _ => -1) ∧ frT tg h h1 ∧ obK h h1)) 2 20 (zA s0) := by
  refine hp_met (by decide) (Nat.le_of_ble_eq_true rfl) hK0 ?_
  intro p e s m below meth cd ls hx hb hr hlocks hml hown hnm hts hK hPB hl hS hH hA
  have hl : lv_has ls 5 [(0, .ref x), (1, .ref ra), (2, .ref lb), (3, .ref lg)] := hl
  have hown : s.vm.findClass RX20 = some m.cls := hown
  have hfr9 : frT tg h h := frT.rf
  have hob9 : obK h h := obK.rf
  refine lv_aload_n hx hb dX20_init_0 rfl (lv_at hl 0 rfl) ?_
  refine hp_oinit hx hb hown hts q1233 q150 q151 (hl.1.trans hml.symm) (by decide) (Nat.le_of_ble_eq_true rfl) dX20_init_1 ?_
  refine lv_aload_n hx hb dX20_init_4 rfl (lv_at hl 0 rfl) ?_
  refine lv_bipush (v := nI 10) hx hb dX20_init_5 (by decide) ?_
  obtain ⟨aa, haa, naa⟩ := hH.fr
  refine hp_newa (atype := .int) (ty := .int) (n := nI 10) (N' := 10) (a0 := (10, .inl (fun _ => 0))) hx hb (hts _ q255) rfl hK hH hS hA 0 rfl (fun z => z) (fun _ => rfl) (nI_pos (by first | omega | (refine Nat.lt_of_lt_of_le (Nat.mod_lt _ ?_) ?_ <;> omega))) (nI_clamp (by first | omega | (refine Nat.lt_of_lt_of_le (Nat.mod_lt _ ?_) ?_ <;> omega))) (by show _ * 4 ≤ _; omega) (by first | decide | omega | (simp only [rmk]; omega)) (by first | decide | omega | (simp only [rmk]; omega)) tg dX20_init_7 (fun H _ hH hS => ?_)
  rw [← haa] at hH ⊢
  have hH : HP D CL (zA s0) (hset h aa (.inl (K 0, 10, .inl (fun _ => 0))) tg) H := hH
  have hfr9 := hfr9.new (e1 := .inl (K 0, 10, .inl (fun _ => 0))) (u1 := tg) naa
  have hob9 := hob9.tr (exH.ob (exH.new (e1 := .inl (K 0, 10, .inl (fun _ => 0))) (u1 := tg) naa))
  have x1 : x ≠ aa := ne_new hsx naa
  have e2 : (hset h aa (.inl (K 0, 10, .inl (fun _ => 0))) tg) x = some (.inr (18, [.null, .null, .null, .null, .null, .int 0, .int 0, .int 0]), tg) := (hset_ne _ _ _ (x1)).trans hsx
  have e3 : (hset h aa (.inl (K 0, 10, .inl (fun _ => 0))) tg) aa = some (.inl (K 0, 10, .inl (fun _ => 0)), tg) := hset_self _ _ _ _
  refine hp_putF (C := RX23) (T := TX23) (N := 8) (v := .ref aa) (ty := (.array .int)) hx hb hts in_X23 tyX23 tyX23_ok nmX23 hown hK hH hS e2 rfl 3 (by decide) (hts _ q1246) (fun _ z => z) rfl hnm rfl (by decide +kernel) rfl rfl (Nat.le_of_ble_eq_true rfl) dX20_init_9 (fun H locs _ hH hS => ?_)
  have hH : HP D CL (zA s0) (hset (hset h aa (.inl (K 0, 10, .inl (fun _ => 0))) tg) x (.inr (18, [.null, .null, .null, .ref aa, .null, .int 0, .int 0, .int 0])) tg) H := hH
  have hfr9 := hfr9.tr (set_fr (c1 := .inr (18, [.null, .null, .null, .ref aa, .null, .int 0, .int 0, .int 0])) e2)
  have hob9 := hob9.tr (ob_o (ci := 18) (fs := [.null, .null, .null, .ref aa, .null, .int 0, .int 0, .int 0]) (t2 := tg) e2)
  have e4 : (hset (hset h aa (.inl (K 0, 10, .inl (fun _ => 0))) tg) x (.inr (18, [.null, .null, .null, .ref aa, .null, .int 0, .int 0, .int 0])) tg) aa = some (.inl (K 0, 10, .inl (fun _ => 0)), tg) := (hset_ne _ _ _ ((Ne.symm x1))).trans e3
  have e5 : (hset (hset h aa (.inl (K 0, 10, .inl (fun _ => 0))) tg) x (.inr (18, [.null, .null, .null, .ref aa, .null, .int 0, .int 0, .int 0])) tg) x = some (.inr (18, [.null, .null, .null, .ref aa, .null, .int 0, .int 0, .int 0]), tg) := hset_self _ _ _ _
  refine lv_aload_n hx hb dX20_init_12 rfl (lv_at hl 0 rfl) ?_
  refine lv_bipush (v := nI 10) hx hb dX20_init_13 (by decide) ?_
  obtain ⟨fa, hfa, nfa⟩ := hH.fr
  refine hp_newa (atype := .int) (ty := .int) (n := nI 10) (N' := 10) (a0 := (10, .inl (fun _ => 0))) hx hb (hts _ q255) rfl hK hH hS hA 0 rfl (fun z => z) (fun _ => rfl) (nI_pos (by first | omega | (refine Nat.lt_of_lt_of_le (Nat.mod_lt _ ?_) ?_ <;> omega))) (nI_clamp (by first | omega | (refine Nat.lt_of_lt_of_le (Nat.mod_lt _ ?_) ?_ <;> omega))) (by show _ * 4 ≤ _; omega) (by first | decide | omega | (simp only [rmk]; omega)) (by first | decide | omega | (simp only [rmk]; omega)) tg dX20_init_15 (fun H _ hH hS => ?_)
  rw [← hfa] at hH ⊢
  have hH : HP D CL (zA s0) (hset (hset (hset h aa (.inl (K 0, 10, .inl (fun _ => 0))) tg) x (.inr (18, [.null, .null, .null, .ref aa, .null, .int 0, .int 0, .int 0])) tg) fa (.inl (K 0, 10, .inl (fun _ => 0))) tg) H := hH
  have hfr9 := hfr9.new (e1 := .inl (K 0, 10, .inl (fun _ => 0))) (u1 := tg) nfa
  have hob9 := hob9.tr (exH.ob (exH.new (e1 := .inl (K 0, 10, .inl (fun _ => 0))) (u1 := tg) nfa))
  have x6 : aa ≠ fa := ne_new e4 nfa
  have x7 : x ≠ fa := ne_new e5 nfa
  have e8 : (hset (hset (hset h aa (.inl (K 0, 10, .inl (fun _ => 0))) tg) x (.inr (18, [.null, .null, .null, .ref aa, .null, .int 0, .int 0, .int 0])) tg) fa (.inl (K 0, 10, .inl (fun _ => 0))) tg) aa = some (.inl (K 0, 10, .inl (fun _ => 0)), tg) := (hset_ne _ _ _ (x6)).trans e4
  have e9 : (hset (hset (hset h aa (.inl (K 0, 10, .inl (fun _ => 0))) tg) x (.inr (18, [.null, .null, .null, .ref aa, .null, .int 0, .int 0, .int 0])) tg) fa (.inl (K 0, 10, .inl (fun _ => 0))) tg) x = some (.inr (18, [.null, .null, .null, .ref aa, .null, .int 0, .int 0, .int 0]), tg) := (hset_ne _ _ _ (x7)).trans e5
  have e10 : (hset (hset (hset h aa (.inl (K 0, 10, .inl (fun _ => 0))) tg) x (.inr (18, [.null, .null, .null, .ref aa, .null, .int 0, .int 0, .int 0])) tg) fa (.inl (K 0, 10, .inl (fun _ => 0))) tg) fa = some (.inl (K 0, 10, .inl (fun _ => 0)), tg) := hset_self _ _ _ _
  refine hp_putF (C := RX23) (T := TX23) (N := 8) (v := .ref fa) (ty := (.array .int)) hx hb hts in_X23 tyX23 tyX23_ok nmX23 hown hK hH hS e9 rfl 4 (by decide) (hts _ q1249) (fun _ z => z) rfl hnm rfl (by decide +kernel) rfl rfl (Nat.le_of_ble_eq_true rfl) dX20_init_17 (fun H locs _ hH hS => ?_)
  have hH : HP D CL (zA s0) (hset (hset (hset (hset h aa (.inl (K 0, 10, .inl (fun _ => 0))) tg) x (.inr (18, [.null, .null, .null, .ref aa, .null, .int 0, .int 0, .int 0])) tg) fa (.inl (K 0, 10, .inl (fun _ => 0))) tg) x (.inr (18, [.null, .null, .null, .ref aa, .ref fa, .int 0, .int 0, .int 0])) tg) H := hH
  have hfr9 := hfr9.tr (set_fr (c1 := .inr (18, [.null, .null, .null, .ref aa, .ref fa, .int 0, .int 0, .int 0])) e9)
  have hob9 := hob9.tr (ob_o (ci := 18) (fs := [.null, .null, .null, .ref aa, .ref fa, .int 0, .int 0, .int 0]) (t2 := tg) e9)
  have e11 : (hset (hset (hset (hset h aa (.inl (K 0, 10, .inl (fun _ => 0))) tg) x (.inr (18, [.null, .null, .null, .ref aa, .null, .int 0, .int 0, .int 0])) tg) fa (.inl (K 0, 10, .inl (fun _ => 0))) tg) x (.inr (18, [.null, .null, .null, .ref aa, .ref fa, .int 0, .int 0, .int 0])) tg) aa = some (.inl (K 0, 10, .inl (fun _ => 0)), tg) := (hset_ne _ _ _ ((Ne.symm x1))).trans e8
  have e12 : (hset (hset (hset (hset h aa (.inl (K 0, 10, .inl (fun _ => 0))) tg) x (.inr (18, [.null, .null, .null, .ref aa, .null, .int 0, .int 0, .int 0])) tg) fa (.inl (K 0, 10, .inl (fun _ => 0))) tg) x (.inr (18, [.null, .null, .null, .ref aa, .ref fa, .int 0, .int 0, .int 0])) tg) fa = some (.inl (K 0, 10, .inl (fun _ => 0)), tg) := (hset_ne _ _ _ ((Ne.symm x7))).trans e10
  have e13 : (hset (hset (hset (hset h aa (.inl (K 0, 10, .inl (fun _ => 0))) tg) x (.inr (18, [.null, .null, .null, .ref aa, .null, .int 0, .int 0, .int 0])) tg) fa (.inl (K 0, 10, .inl (fun _ => 0))) tg) x (.inr (18, [.null, .null, .null, .ref aa, .ref fa, .int 0, .int 0, .int 0])) tg) x = some (.inr (18, [.null, .null, .null, .ref aa, .ref fa, .int 0, .int 0, .int 0]), tg) := hset_self _ _ _ _
  refine lv_aload_n hx hb dX20_init_20 rfl (lv_at hl 0 rfl) ?_
  refine lv_aload_n hx hb dX20_init_21 rfl (lv_at hl 1 rfl) ?_
  refine hp_putF (C := RX23) (T := TX23) (N := 8) (v := .ref ra) (ty := (.object "FirstIn$Room")) hx hb hts in_X23 tyX23 tyX23_ok nmX23 hown hK hH hS e13 rfl 0 (by decide) (hts _ q1241) (fun _ z => z) rfl hnm rfl (by decide +kernel) rfl rfl (Nat.le_of_ble_eq_true rfl) dX20_init_22 (fun H locs _ hH hS => ?_)
  have hH : HP D CL (zA s0) (hset (hset (hset (hset (hset h aa (.inl (K 0, 10, .inl (fun _ => 0))) tg) x (.inr (18, [.null, .null, .null, .ref aa, .null, .int 0, .int 0, .int 0])) tg) fa (.inl (K 0, 10, .inl (fun _ => 0))) tg) x (.inr (18, [.null, .null, .null, .ref aa, .ref fa, .int 0, .int 0, .int 0])) tg) x (.inr (18, [.ref ra, .null, .null, .ref aa, .ref fa, .int 0, .int 0, .int 0])) tg) H := hH
  have hfr9 := hfr9.tr (set_fr (c1 := .inr (18, [.ref ra, .null, .null, .ref aa, .ref fa, .int 0, .int 0, .int 0])) e13)
  have hob9 := hob9.tr (ob_o (ci := 18) (fs := [.ref ra, .null, .null, .ref aa, .ref fa, .int 0, .int 0, .int 0]) (t2 := tg) e13)
  have e14 : (hset (hset (hset (hset (hset h aa (.inl (K 0, 10, .inl (fun _ => 0))) tg) x (.inr (18, [.null, .null, .null, .ref aa, .null, .int 0, .int 0, .int 0])) tg) fa (.inl (K 0, 10, .inl (fun _ => 0))) tg) x (.inr (18, [.null, .null, .null, .ref aa, .ref fa, .int 0, .int 0, .int 0])) tg) x (.inr (18, [.ref ra, .null, .null, .ref aa, .ref fa, .int 0, .int 0, .int 0])) tg) aa = some (.inl (K 0, 10, .inl (fun _ => 0)), tg) := (hset_ne _ _ _ ((Ne.symm x1))).trans e11
  have e15 : (hset (hset (hset (hset (hset h aa (.inl (K 0, 10, .inl (fun _ => 0))) tg) x (.inr (18, [.null, .null, .null, .ref aa, .null, .int 0, .int 0, .int 0])) tg) fa (.inl (K 0, 10, .inl (fun _ => 0))) tg) x (.inr (18, [.null, .null, .null, .ref aa, .ref fa, .int 0, .int 0, .int 0])) tg) x (.inr (18, [.ref ra, .null, .null, .ref aa, .ref fa, .int 0, .int 0, .int 0])) tg) fa = some (.inl (K 0, 10, .inl (fun _ => 0)), tg) := (hset_ne _ _ _ ((Ne.symm x7))).trans e12
  have e16 : (hset (hset (hset (hset (hset h aa (.inl (K 0, 10, .inl (fun _ => 0))) tg) x (.inr (18, [.null, .null, .null, .ref aa, .null, .int 0, .int 0, .int 0])) tg) fa (.inl (K 0, 10, .inl (fun _ => 0))) tg) x (.inr (18, [.null, .null, .null, .ref aa, .ref fa, .int 0, .int 0, .int 0])) tg) x (.inr (18, [.ref ra, .null, .null, .ref aa, .ref fa, .int 0, .int 0, .int 0])) tg) x = some (.inr (18, [.ref ra, .null, .null, .ref aa, .ref fa, .int 0, .int 0, .int 0]), tg) := hset_self _ _ _ _
  refine lv_aload_n hx hb dX20_init_25 rfl (lv_at hl 0 rfl) ?_
  refine lv_aload_n hx hb dX20_init_26 rfl (lv_at hl 2 rfl) ?_
  refine hp_putF (C := RX23) (T := TX23) (N := 8) (v := .ref lb) (ty := (.object "java/util/ArrayList")) hx hb hts in_X23 tyX23 tyX23_ok nmX23 hown hK hH hS e16 rfl 1 (by decide) (hts _ q1242) (fun _ z => z) rfl hnm rfl (by decide +kernel) rfl rfl (Nat.le_of_ble_eq_true rfl) dX20_init_27 (fun H locs _ hH hS => ?_)
  have hH : HP D CL (zA s0) (hset (hset (hset (hset (hset (hset h aa (.inl (K 0, 10, .inl (fun _ => 0))) tg) x (.inr (18, [.null, .null, .null, .ref aa, .null, .int 0, .int 0, .int 0])) tg) fa (.inl (K 0, 10, .inl (fun _ => 0))) tg) x (.inr (18, [.null, .null, .null, .ref aa, .ref fa, .int 0, .int 0, .int 0])) tg) x (.inr (18, [.ref ra, .null, .null, .ref aa, .ref fa, .int 0, .int 0, .int 0])) tg) x (.inr (18, [.ref ra, .ref lb, .null, .ref aa, .ref fa, .int 0, .int 0, .int 0])) tg) H := hH
  have hfr9 := hfr9.tr (set_fr (c1 := .inr (18, [.ref ra, .ref lb, .null, .ref aa, .ref fa, .int 0, .int 0, .int 0])) e16)
  have hob9 := hob9.tr (ob_o (ci := 18) (fs := [.ref ra, .ref lb, .null, .ref aa, .ref fa, .int 0, .int 0, .int 0]) (t2 := tg) e16)
  have e17 : (hset (hset (hset (hset (hset (hset h aa (.inl (K 0, 10, .inl (fun _ => 0))) tg) x (.inr (18, [.null, .null, .null, .ref aa, .null, .int 0, .int 0, .int 0])) tg) fa (.inl (K 0, 10, .inl (fun _ => 0))) tg) x (.inr (18, [.null, .null, .null, .ref aa, .ref fa, .int 0, .int 0, .int 0])) tg) x (.inr (18, [.ref ra, .null, .null, .ref aa, .ref fa, .int 0, .int 0, .int 0])) tg) x (.inr (18, [.ref ra, .ref lb, .null, .ref aa, .ref fa, .int 0, .int 0, .int 0])) tg) aa = some (.inl (K 0, 10, .inl (fun _ => 0)), tg) := (hset_ne _ _ _ ((Ne.symm x1))).trans e14
  have e18 : (hset (hset (hset (hset (hset (hset h aa (.inl (K 0, 10, .inl (fun _ => 0))) tg) x (.inr (18, [.null, .null, .null, .ref aa, .null, .int 0, .int 0, .int 0])) tg) fa (.inl (K 0, 10, .inl (fun _ => 0))) tg) x (.inr (18, [.null, .null, .null, .ref aa, .ref fa, .int 0, .int 0, .int 0])) tg) x (.inr (18, [.ref ra, .null, .null, .ref aa, .ref fa, .int 0, .int 0, .int 0])) tg) x (.inr (18, [.ref ra, .ref lb, .null, .ref aa, .ref fa, .int 0, .int 0, .int 0])) tg) fa = some (.inl (K 0, 10, .inl (fun _ => 0)), tg) := (hset_ne _ _ _ ((Ne.symm x7))).trans e15
  have e19 : (hset (hset (hset (hset (hset (hset h aa (.inl (K 0, 10, .inl (fun _ => 0))) tg) x (.inr (18, [.null, .null, .null, .ref aa, .null, .int 0, .int 0, .int 0])) tg) fa (.inl (K 0, 10, .inl (fun _ => 0))) tg) x (.inr (18, [.null, .null, .null, .ref aa, .ref fa, .int 0, .int 0, .int 0])) tg) x (.inr (18, [.ref ra, .null, .null, .ref aa, .ref fa, .int 0, .int 0, .int 0])) tg) x (.inr (18, [.ref ra, .ref lb, .null, .ref aa, .ref fa, .int 0, .int 0, .int 0])) tg) x = some (.inr (18, [.ref ra, .ref lb, .null, .ref aa, .ref fa, .int 0, .int 0, .int 0]), tg) := hset_self _ _ _ _
  refine lv_aload_n hx hb dX20_init_30 rfl (lv_at hl 0 rfl) ?_
  refine lv_aload_n hx hb dX20_init_31 rfl (lv_at hl 3 rfl) ?_
  refine hp_putF (C := RX23) (T := TX23) (N := 8) (v := .ref lg) (ty := (.object "java/util/ArrayList")) hx hb hts in_X23 tyX23 tyX23_ok nmX23 hown hK hH hS e19 rfl 2 (by decide) (hts _ q1243) (fun _ z => z) rfl hnm rfl (by decide +kernel) rfl rfl (Nat.le_of_ble_eq_true rfl) dX20_init_32 (fun H locs _ hH hS => ?_)
  have hH : HP D CL (zA s0) (hset (hset (hset (hset (hset (hset (hset h aa (.inl (K 0, 10, .inl (fun _ => 0))) tg) x (.inr (18, [.null, .null, .null, .ref aa, .null, .int 0, .int 0, .int 0])) tg) fa (.inl (K 0, 10, .inl (fun _ => 0))) tg) x (.inr (18, [.null, .null, .null, .ref aa, .ref fa, .int 0, .int 0, .int 0])) tg) x (.inr (18, [.ref ra, .null, .null, .ref aa, .ref fa, .int 0, .int 0, .int 0])) tg) x (.inr (18, [.ref ra, .ref lb, .null, .ref aa, .ref fa, .int 0, .int 0, .int 0])) tg) x (.inr (18, [.ref ra, .ref lb, .ref lg, .ref aa, .ref fa, .int 0, .int 0, .int 0])) tg) H := hH
  have hfr9 := hfr9.tr (set_fr (c1 := .inr (18, [.ref ra, .ref lb, .ref lg, .ref aa, .ref fa, .int 0, .int 0, .int 0])) e19)
  have hob9 := hob9.tr (ob_o (ci := 18) (fs := [.ref ra, .ref lb, .ref lg, .ref aa, .ref fa, .int 0, .int 0, .int 0]) (t2 := tg) e19)
  have e20 : (hset (hset (hset (hset (hset (hset (hset h aa (.inl (K 0, 10, .inl (fun _ => 0))) tg) x (.inr (18, [.null, .null, .null, .ref aa, .null, .int 0, .int 0, .int 0])) tg) fa (.inl (K 0, 10, .inl (fun _ => 0))) tg) x (.inr (18, [.null, .null, .null, .ref aa, .ref fa, .int 0, .int 0, .int 0])) tg) x (.inr (18, [.ref ra, .null, .null, .ref aa, .ref fa, .int 0, .int 0, .int 0])) tg) x (.inr (18, [.ref ra, .ref lb, .null, .ref aa, .ref fa, .int 0, .int 0, .int 0])) tg) x (.inr (18, [.ref ra, .ref lb, .ref lg, .ref aa, .ref fa, .int 0, .int 0, .int 0])) tg) aa = some (.inl (K 0, 10, .inl (fun _ => 0)), tg) := (hset_ne _ _ _ ((Ne.symm x1))).trans e17
  have e21 : (hset (hset (hset (hset (hset (hset (hset h aa (.inl (K 0, 10, .inl (fun _ => 0))) tg) x (.inr (18, [.null, .null, .null, .ref aa, .null, .int 0, .int 0, .int 0])) tg) fa (.inl (K 0, 10, .inl (fun _ => 0))) tg) x (.inr (18, [.null, .null, .null, .ref aa, .ref fa, .int 0, .int 0, .int 0])) tg) x (.inr (18, [.ref ra, .null, .null, .ref aa, .ref fa, .int 0, .int 0, .int 0])) tg) x (.inr (18, [.ref ra, .ref lb, .null, .ref aa, .ref fa, .int 0, .int 0, .int 0])) tg) x (.inr (18, [.ref ra, .ref lb, .ref lg, .ref aa, .ref fa, .int 0, .int 0, .int 0])) tg) fa = some (.inl (K 0, 10, .inl (fun _ => 0)), tg) := (hset_ne _ _ _ ((Ne.symm x7))).trans e18
  have e22 : (hset (hset (hset (hset (hset (hset (hset h aa (.inl (K 0, 10, .inl (fun _ => 0))) tg) x (.inr (18, [.null, .null, .null, .ref aa, .null, .int 0, .int 0, .int 0])) tg) fa (.inl (K 0, 10, .inl (fun _ => 0))) tg) x (.inr (18, [.null, .null, .null, .ref aa, .ref fa, .int 0, .int 0, .int 0])) tg) x (.inr (18, [.ref ra, .null, .null, .ref aa, .ref fa, .int 0, .int 0, .int 0])) tg) x (.inr (18, [.ref ra, .ref lb, .null, .ref aa, .ref fa, .int 0, .int 0, .int 0])) tg) x (.inr (18, [.ref ra, .ref lb, .ref lg, .ref aa, .ref fa, .int 0, .int 0, .int 0])) tg) x = some (.inr (18, [.ref ra, .ref lb, .ref lg, .ref aa, .ref fa, .int 0, .int 0, .int 0]), tg) := hset_self _ _ _ _
  refine lv_iconst (v := nI 0) hx hb dX20_init_35 (by decide) ?_
  refine lv_istore (lv' := [(4, .int (nI 0)), (0, .ref x), (1, .ref ra), (2, .ref lb), (3, .ref lg)]) hx hb dX20_init_36 hl (by decide) rfl (fun ls hl => ?_)
  refine w_loop4 (fun (k : Nat) (f1 : Nat → Int32) (f2 : Nat → Int32) (hh : Hp) => 10 - k) (fun (k : Nat) (f1 : Nat → Int32) (f2 : Nat → Int32) (hh : Hp) H locs ls => (k ≤ 10) ∧ (∀ g, g < 10 → g < k → f1 g = -1) ∧ (∀ g, g < 10 → g < k → f2 g = -1) ∧ (hh aa = some (.inl (K 0, 10, .inl f1), tg)) ∧ (hh fa = some (.inl (K 0, 10, .inl f2), tg)) ∧ (hh x = some (.inr (18, [.ref ra, .ref lb, .ref lg, .ref aa, .ref fa, .int 0, .int 0, .int 0]), tg)) ∧ (frT tg h hh) ∧ (obK h hh) ∧ HP D CL (zA s0) hh H ∧ va_S (zA s0) s.heap H locs ∧ lv_has ls 5 [(0, .ref x), (4, .int (nI k))]) ?_ 0 (fun _ => 0) (fun _ => 0) (hset (hset (hset (hset (hset (hset (hset h aa (.inl (K 0, 10, .inl (fun _ => 0))) tg) x (.inr (18, [.null, .null, .null, .ref aa, .null, .int 0, .int 0, .int 0])) tg) fa (.inl (K 0, 10, .inl (fun _ => 0))) tg) x (.inr (18, [.null, .null, .null, .ref aa, .ref fa, .int 0, .int 0, .int 0])) tg) x (.inr (18, [.ref ra, .null, .null, .ref aa, .ref fa, .int 0, .int 0, .int 0])) tg) x (.inr (18, [.ref ra, .ref lb, .null, .ref aa, .ref fa, .int 0, .int 0, .int 0])) tg) x (.inr (18, [.ref ra, .ref lb, .ref lg, .ref aa, .ref fa, .int 0, .int 0, .int 0])) tg) ⟨Nat.zero_le _, fun g _ h => absurd h (Nat.not_lt_zero _), fun g _ h => absurd h (Nat.not_lt_zero _), e20, e21, e22, hfr9, hob9, hH, hS, lv_sub hl [1, 0] rfl⟩
  intro k f1 f2 hh ih38 H locs ls hP
  obtain ⟨hk, h1z, h2z, k1, k2, kx, hfr, hob, hH, hS, hl⟩ := hP
  have hfr9 := hfr
  have hob9 := hob
  refine lv_iload hx hb dX20_init_38 (lv_at hl 1 rfl) ?_
  refine lv_bipush (v := nI 10) hx hb dX20_init_40 (by decide) ?_
  refine lvN_ge (tgt := 67) hx hb (by first | omega | (refine Nat.lt_of_lt_of_le (Nat.mod_lt _ ?_) ?_ <;> omega)) (by first | omega | (refine Nat.lt_of_lt_of_le (Nat.mod_lt _ ?_) ?_ <;> omega)) dX20_init_42 (by decide) (fun ck => ?_) (fun ck => ?_)
  · exact hp_vret hx hb hr hlocks hH hS (by first | decide | omega | (simp only [rmk]; omega)) (by first | decide | omega | (simp only [rmk]; omega)) dX20_init_67 (⟨rfl, aa, fa, x6, kx, ⟨f1, k1, fun g hg => h1z g hg (by omega)⟩, ⟨f2, k2, fun g hg => h2z g hg (by omega)⟩, hfr, hob⟩)
  · refine lv_aload_n hx hb dX20_init_45 rfl (lv_at hl 0 rfl) ?_
    refine hp_get (C := RX23) (T := TX23) (N := 8) (v := .ref aa) hx hb hts in_X23 hown hK hH kx rfl 3 (by decide) (hts _ q1246) (fun _ z => z) rfl dX20_init_46 ?_
    refine lv_iload hx hb dX20_init_49 (lv_at hl 1 rfl) ?_
    refine lv_iconst (v := (-1)) hx hb dX20_init_51 (by decide) ?_
    refine hp_ist (n := 10) (j := k) hx hb hK hH hS 0 k1 rfl (by first | omega | (refine Nat.lt_of_lt_of_le (Nat.mod_lt _ ?_) ?_ <;> omega)) (by first | omega | (refine Nat.lt_of_lt_of_le (Nat.mod_lt _ ?_) ?_ <;> omega)) dX20_init_52 (fun H locs _ hH hS => ?_)
    have hH : HP D CL (zA s0) (hset hh aa (.inl (K 0, 10, .inl (upd f1 k (-1)))) tg) H := hH
    have hfr9 := hfr9.tr (set_fr (c1 := .inl (K 0, 10, .inl (upd f1 k (-1)))) k1)
    have hob9 := hob9.tr (ob_a (e := .inl (K 0, 10, .inl (upd f1 k (-1)))) (t2 := tg) k1)
    have e23 : (hset hh aa (.inl (K 0, 10, .inl (upd f1 k (-1)))) tg) x = some (.inr (18, [.ref ra, .ref lb, .ref lg, .ref aa, .ref fa, .int 0, .int 0, .int 0]), tg) := (hset_ne _ _ _ (x1)).trans kx
    have e24 : (hset hh aa (.inl (K 0, 10, .inl (upd f1 k (-1)))) tg) fa = some (.inl (K 0, 10, .inl f2), tg) := (hset_ne _ _ _ ((Ne.symm x6))).trans k2
    have e25 : (hset hh aa (.inl (K 0, 10, .inl (upd f1 k (-1)))) tg) aa = some (.inl (K 0, 10, .inl (upd f1 k (-1))), tg) := hset_self _ _ _ _
    refine lv_aload_n hx hb dX20_init_53 rfl (lv_at hl 0 rfl) ?_
    refine hp_get (C := RX23) (T := TX23) (N := 8) (v := .ref fa) hx hb hts in_X23 hown hK hH e23 rfl 4 (by decide) (hts _ q1249) (fun _ z => z) rfl dX20_init_54 ?_
    refine lv_iload hx hb dX20_init_57 (lv_at hl 1 rfl) ?_
    refine lv_iconst (v := (-1)) hx hb dX20_init_59 (by decide) ?_
    refine hp_ist (n := 10) (j := k) hx hb hK hH hS 0 e24 rfl (by first | omega | (refine Nat.lt_of_lt_of_le (Nat.mod_lt _ ?_) ?_ <;> omega)) (by first | omega | (refine Nat.lt_of_lt_of_le (Nat.mod_lt _ ?_) ?_ <;> omega)) dX20_init_60 (fun H locs _ hH hS => ?_)
    have hH : HP D CL (zA s0) (hset (hset hh aa (.inl (K 0, 10, .inl (upd f1 k (-1)))) tg) fa (.inl (K 0, 10, .inl (upd f2 k (-1)))) tg) H := hH
    have hfr9 := hfr9.tr (set_fr (c1 := .inl (K 0, 10, .inl (upd f2 k (-1)))) e24)
    have hob9 := hob9.tr (ob_a (e := .inl (K 0, 10, .inl (upd f2 k (-1)))) (t2 := tg) e24)
    have e26 : (hset (hset hh aa (.inl (K 0, 10, .inl (upd f1 k (-1)))) tg) fa (.inl (K 0, 10, .inl (upd f2 k (-1)))) tg) x = some (.inr (18, [.ref ra, .ref lb, .ref lg, .ref aa, .ref fa, .int 0, .int 0, .int 0]), tg) := (hset_ne _ _ _ (x7)).trans e23
    have e27 : (hset (hset hh aa (.inl (K 0, 10, .inl (upd f1 k (-1)))) tg) fa (.inl (K 0, 10, .inl (upd f2 k (-1)))) tg) aa = some (.inl (K 0, 10, .inl (upd f1 k (-1))), tg) := (hset_ne _ _ _ (x6)).trans e25
    have e28 : (hset (hset hh aa (.inl (K 0, 10, .inl (upd f1 k (-1)))) tg) fa (.inl (K 0, 10, .inl (upd f2 k (-1)))) tg) fa = some (.inl (K 0, 10, .inl (upd f2 k (-1))), tg) := hset_self _ _ _ _
    refine lv_iinc (v := nI (k + 1)) (lv' := [(4, .int (nI (k + 1))), (0, .ref x)]) hx hb dX20_init_61 hl (k := 1) rfl (nI_add k 1) (by decide) rfl (fun ls hl => ?_)
    refine lv_goto (tgt := 38) hx hb dX20_init_64 (by decide) ?_
    exact ih38 (k + 1) _ _ (hset (hset hh aa (.inl (K 0, 10, .inl (upd f1 k (-1)))) tg) fa (.inl (K 0, 10, .inl (upd f2 k (-1)))) tg) (by omega) H locs ls ⟨by omega, fun g hg hk9 => by by_cases e : g = k; (rw [e]; exact if_pos rfl); exact (if_neg e).trans (h1z g hg (by omega)), fun g hg hk9 => by by_cases e : g = k; (rw [e]; exact if_pos rfl); exact (if_neg e).trans (h2z g hg (by omega)), e27, e28, e26, hfr9, hob9, hH, hS, lv_sub hl [1, 0] rfl⟩
set_option maxHeartbeats 4000000 in
theorem mc_init_M (hK0 : va_K D CL (TYS K) s0) {av : Nat → Nat} {ed mi : Nat} (hG : GX s0 wd av ed mi) {mem : List Nat} {x ra lb lg tg : Nat} (hsx : h x = some (.inr (18, [.null, .null, .null, .null, .null, .int 0, .int 0, .int 0]), tg)) : Met l yX23_init (ws_ yX23_init cX23_init 4 ((Option.none : Option Jvm.ClassFile.FieldType))) (rmk 3 2 20) (va_Pc [.ref x, .ref ra, .ref lb, .ref lg] (PB s0 D CL (h))) (QR s0 D CL (fun v h1 => v = none ∧ ∃ aa fa, aa ≠ fa ∧ SRM K mem h1 x ra lb lg aa fa tg 0 [] none ∧ frT tg h h1 ∧ obK h h1)) 2 20 (zA s0) := by
  refine hp_met (by decide) (Nat.le_of_ble_eq_true rfl) hK0 ?_
  intro p e s m below meth cd ls hx hb hr hlocks hml hown hnm hts hK hPB hl hS hH hA
  have hl : lv_has ls 4 [(0, .ref x), (1, .ref ra), (2, .ref lb), (3, .ref lg)] := hl
  have hown : s.vm.findClass RX23 = some m.cls := hown
  have hfr9 : frT tg h h := frT.rf
  have hob9 : obK h h := obK.rf
  refine lv_aload_n hx hb dX23_init_0 rfl (lv_at hl 0 rfl) ?_
  refine lv_aload_n hx hb dX23_init_1 rfl (lv_at hl 1 rfl) ?_
  refine lv_aload_n hx hb dX23_init_2 rfl (lv_at hl 2 rfl) ?_
  refine lv_aload_n hx hb dX23_init_3 rfl (lv_at hl 3 rfl) ?_
  refine hp_callI (As := [.ref ra, .ref lb, .ref lg]) (rest := []) hx hb hml hown hts hPB hH hS (mc_sinit_M hK0 hG hsx) 3 q1356 q1231 q139 q1232 rfl (by decide +kernel) ⟨rfl, rfl⟩ (by first | decide | omega | (simp only [rmk]; omega)) rfl hl.1 rfl (Nat.le_of_ble_eq_true rfl) (by first | decide | omega | (simp only [rmk]; omega)) dX23_init_4 (fun v1 h3 H locs hp2 _ hH hS => ?_)
  obtain ⟨rfl, aa, fa, naf, hsx3, ⟨f1, k1, h1z⟩, ⟨f2, k2, h2z⟩, hf3, ho3⟩ := hp2
  have hfr9 := hfr9.tr hf3
  have hob9 := hob9.tr ho3
  refine lv_aload_n hx hb dX23_init_7 rfl (lv_at hl 0 rfl) ?_
  refine lv_ldc (v := 1000000) hx hb hown (hts _ q1357) dX23_init_8 ?_
  refine lv_top (y := nI 1000000) (by decide) ?_
  refine hp_put (C := RX23) (T := TX23) (N := 8) (v := .int (nI 1000000)) (ty := .int) hx hb hts in_X23 tyX23 tyX23_ok nmX23 hown hK hH hS hsx3 rfl 6 (by decide) (hts _ q1358) (fun _ z => z) rfl (by decide +kernel) rfl rfl (Nat.le_of_ble_eq_true rfl) dX23_init_10 (fun H locs _ hH hS => ?_)
  have hH : HP D CL (zA s0) (hset h3 x (.inr (18, [.ref ra, .ref lb, .ref lg, .ref aa, .ref fa, .int 0, .int (nI 1000000), .int 0])) tg) H := hH
  have hfr9 := hfr9.tr (set_fr (c1 := .inr (18, [.ref ra, .ref lb, .ref lg, .ref aa, .ref fa, .int 0, .int (nI 1000000), .int 0])) hsx3)
  have hob9 := hob9.tr (ob_o (ci := 18) (fs := [.ref ra, .ref lb, .ref lg, .ref aa, .ref fa, .int 0, .int (nI 1000000), .int 0]) (t2 := tg) hsx3)
  have e4 : (hset h3 x (.inr (18, [.ref ra, .ref lb, .ref lg, .ref aa, .ref fa, .int 0, .int (nI 1000000), .int 0])) tg) aa = some (.inl (K 0, 10, .inl f1), tg) := (hset_ne _ _ _ (ne_ao k1 hsx3)).trans k1
  have e5 : (hset h3 x (.inr (18, [.ref ra, .ref lb, .ref lg, .ref aa, .ref fa, .int 0, .int (nI 1000000), .int 0])) tg) fa = some (.inl (K 0, 10, .inl f2), tg) := (hset_ne _ _ _ (ne_ao k2 hsx3)).trans k2
  have e6 : (hset h3 x (.inr (18, [.ref ra, .ref lb, .ref lg, .ref aa, .ref fa, .int 0, .int (nI 1000000), .int 0])) tg) x = some (.inr (18, [.ref ra, .ref lb, .ref lg, .ref aa, .ref fa, .int 0, .int (nI 1000000), .int 0]), tg) := hset_self _ _ _ _
  refine lv_aload_n hx hb dX23_init_13 rfl (lv_at hl 0 rfl) ?_
  refine lv_ldc (v := 1000000) hx hb hown (hts _ q1357) dX23_init_14 ?_
  refine lv_top (y := nI 1000000) (by decide) ?_
  refine hp_put (C := RX23) (T := TX23) (N := 8) (v := .int (nI 1000000)) (ty := .int) hx hb hts in_X23 tyX23 tyX23_ok nmX23 hown hK hH hS e6 rfl 7 (by decide) (hts _ q1360) (fun _ z => z) rfl (by decide +kernel) rfl rfl (Nat.le_of_ble_eq_true rfl) dX23_init_16 (fun H locs _ hH hS => ?_)
  have hH : HP D CL (zA s0) (hset (hset h3 x (.inr (18, [.ref ra, .ref lb, .ref lg, .ref aa, .ref fa, .int 0, .int (nI 1000000), .int 0])) tg) x (.inr (18, [.ref ra, .ref lb, .ref lg, .ref aa, .ref fa, .int 0, .int (nI 1000000), .int (nI 1000000)])) tg) H := hH
  have hfr9 := hfr9.tr (set_fr (c1 := .inr (18, [.ref ra, .ref lb, .ref lg, .ref aa, .ref fa, .int 0, .int (nI 1000000), .int (nI 1000000)])) e6)
  have hob9 := hob9.tr (ob_o (ci := 18) (fs := [.ref ra, .ref lb, .ref lg, .ref aa, .ref fa, .int 0, .int (nI 1000000), .int (nI 1000000)]) (t2 := tg) e6)
  have e7 : (hset (hset h3 x (.inr (18, [.ref ra, .ref lb, .ref lg, .ref aa, .ref fa, .int 0, .int (nI 1000000), .int 0])) tg) x (.inr (18, [.ref ra, .ref lb, .ref lg, .ref aa, .ref fa, .int 0, .int (nI 1000000), .int (nI 1000000)])) tg) aa = some (.inl (K 0, 10, .inl f1), tg) := (hset_ne _ _ _ (ne_ao e4 e6)).trans e4
  have e8 : (hset (hset h3 x (.inr (18, [.ref ra, .ref lb, .ref lg, .ref aa, .ref fa, .int 0, .int (nI 1000000), .int 0])) tg) x (.inr (18, [.ref ra, .ref lb, .ref lg, .ref aa, .ref fa, .int 0, .int (nI 1000000), .int (nI 1000000)])) tg) fa = some (.inl (K 0, 10, .inl f2), tg) := (hset_ne _ _ _ (ne_ao e5 e6)).trans e5
  have e9 : (hset (hset h3 x (.inr (18, [.ref ra, .ref lb, .ref lg, .ref aa, .ref fa, .int 0, .int (nI 1000000), .int 0])) tg) x (.inr (18, [.ref ra, .ref lb, .ref lg, .ref aa, .ref fa, .int 0, .int (nI 1000000), .int (nI 1000000)])) tg) x = some (.inr (18, [.ref ra, .ref lb, .ref lg, .ref aa, .ref fa, .int 0, .int (nI 1000000), .int (nI 1000000)]), tg) := hset_self _ _ _ _
  exact hp_vret hx hb hr hlocks hH hS (by first | decide | omega | (simp only [rmk]; omega)) (by first | decide | omega | (simp only [rmk]; omega)) dX23_init_19 (⟨rfl, aa, fa, naf, ⟨⟨⟨Nat.le_refl _, Nat.le_refl _⟩, fun b a L e => by cases e⟩, e9, ⟨_, e7, (fun g hg => (h1z g hg).trans (congrArg oI (at_nil mem g)).symm)⟩, _, e8, h2z⟩, hfr9, hob9⟩)
set_option maxHeartbeats 4000000 in
theorem mc_sinit_D (hK0 : va_K D CL (TYS K) s0) {av : Nat → Nat} {ed mi : Nat} (hG : GX s0 wd av ed mi) {x ra lb lg tg : Nat} (hsx : h x = some (.inr (19, [.null, .null, .null, .null, .null, .int 0, .int 0, .int 0, .int 0]), tg)) : Met l yX20_init (ws_ yX20_init cX20_init 5 ((Option.none : Option Jvm.ClassFile.FieldType))) (rmk 2 2 20) (va_Pc [.ref x, .ref ra, .ref lb, .ref lg] (PB s0 D CL (h))) (QR s0 D CL (fun v h1 => v = none ∧ ∃ aa fa, aa ≠ fa ∧ h1 x = some (.inr (19, [.ref ra, .ref lb, .ref lg, .ref aa, .ref fa, .int 0, .int 0, .int 0, .int 0]), tg) ∧ AR10 K h1 aa tg (fun _ => -1) ∧ AR10 K h1 fa tg (fun _ => -1) ∧ frT tg h h1 ∧ obK h h1)) 2 20 (zA s0) := by
  refine hp_met (by decide) (Nat.le_of_ble_eq_true rfl) hK0 ?_
  intro p e s m below meth cd ls hx hb hr hlocks hml hown hnm hts hK hPB hl hS hH hA
  have hl : lv_has ls 5 [(0, .ref x), (1, .ref ra), (2, .ref lb), (3, .ref lg)] := hl
  have hown : s.vm.findClass RX20 = some m.cls := hown
  have hfr9 : frT tg h h := frT.rf
  have hob9 : obK h h := obK.rf
  refine lv_aload_n hx hb dX20_init_0 rfl (lv_at hl 0 rfl) ?_
  refine hp_oinit hx hb hown hts q1233 q150 q151 (hl.1.trans hml.symm) (by decide) (Nat.le_of_ble_eq_true rfl) dX20_init_1 ?_
  refine lv_aload_n hx hb dX20_init_4 rfl (lv_at hl 0 rfl) ?_
  refine lv_bipush (v := nI 10) hx hb dX20_init_5 (by decide) ?_
  obtain ⟨aa, haa, naa⟩ := hH.fr
  refine hp_newa (atype := .int) (ty := .int) (n := nI 10) (N' := 10) (a0 := (10, .inl (fun _ => 0))) hx hb (hts _ q255) rfl hK hH hS hA 0 rfl (fun z => z) (fun _ => rfl) (nI_pos (by first | omega | (refine Nat.lt_of_lt_of_le (Nat.mod_lt _ ?_) ?_ <;> omega))) (nI_clamp (by first | omega | (refine Nat.lt_of_lt_of_le (Nat.mod_lt _ ?_) ?_ <;> omega))) (by show _ * 4 ≤ _; omega) (by first | decide | omega | (simp only [rmk]; omega)) (by first | decide | omega | (simp only [rmk]; omega)) tg dX20_init_7 (fun H _ hH hS => ?_)
  rw [← haa] at hH ⊢
  have hH : HP D CL (zA s0) (hset h aa (.inl (K 0, 10, .inl (fun _ => 0))) tg) H := hH
  have hfr9 := hfr9.new (e1 := .inl (K 0, 10, .inl (fun _ => 0))) (u1 := tg) naa
  have hob9 := hob9.tr (exH.ob (exH.new (e1 := .inl (K 0, 10, .inl (fun _ => 0))) (u1 := tg) naa))
  have x1 : x ≠ aa := ne_new hsx naa
  have e2 : (hset h aa (.inl (K 0, 10, .inl (fun _ => 0))) tg) x = some (.inr (19, [.null, .null, .null, .null, .null, .int 0, .int 0, .int 0, .int 0]), tg) := (hset_ne _ _ _ (x1)).trans hsx
  have e3 : (hset h aa (.inl (K 0, 10, .inl (fun _ => 0))) tg) aa = some (.inl (K 0, 10, .inl (fun _ => 0)), tg) := hset_self _ _ _ _
  refine hp_putF (C := RX24) (T := TX24) (N := 9) (v := .ref aa) (ty := (.array .int)) hx hb hts in_X24 tyX24 tyX24_ok nmX24 hown hK hH hS e2 rfl 3 (by decide) (hts _ q1246) (fun _ z => z) rfl hnm rfl (by decide +kernel) rfl rfl (Nat.le_of_ble_eq_true rfl) dX20_init_9 (fun H locs _ hH hS => ?_)
  have hH : HP D CL (zA s0) (hset (hset h aa (.inl (K 0, 10, .inl (fun _ => 0))) tg) x (.inr (19, [.null, .null, .null, .ref aa, .null, .int 0, .int 0, .int 0, .int 0])) tg) H := hH
  have hfr9 := hfr9.tr (set_fr (c1 := .inr (19, [.null, .null, .null, .ref aa, .null, .int 0, .int 0, .int 0, .int 0])) e2)
  have hob9 := hob9.tr (ob_o (ci := 19) (fs := [.null, .null, .null, .ref aa, .null, .int 0, .int 0, .int 0, .int 0]) (t2 := tg) e2)
  have e4 : (hset (hset h aa (.inl (K 0, 10, .inl (fun _ => 0))) tg) x (.inr (19, [.null, .null, .null, .ref aa, .null, .int 0, .int 0, .int 0, .int 0])) tg) aa = some (.inl (K 0, 10, .inl (fun _ => 0)), tg) := (hset_ne _ _ _ ((Ne.symm x1))).trans e3
  have e5 : (hset (hset h aa (.inl (K 0, 10, .inl (fun _ => 0))) tg) x (.inr (19, [.null, .null, .null, .ref aa, .null, .int 0, .int 0, .int 0, .int 0])) tg) x = some (.inr (19, [.null, .null, .null, .ref aa, .null, .int 0, .int 0, .int 0, .int 0]), tg) := hset_self _ _ _ _
  refine lv_aload_n hx hb dX20_init_12 rfl (lv_at hl 0 rfl) ?_
  refine lv_bipush (v := nI 10) hx hb dX20_init_13 (by decide) ?_
  obtain ⟨fa, hfa, nfa⟩ := hH.fr
  refine hp_newa (atype := .int) (ty := .int) (n := nI 10) (N' := 10) (a0 := (10, .inl (fun _ => 0))) hx hb (hts _ q255) rfl hK hH hS hA 0 rfl (fun z => z) (fun _ => rfl) (nI_pos (by first | omega | (refine Nat.lt_of_lt_of_le (Nat.mod_lt _ ?_) ?_ <;> omega))) (nI_clamp (by first | omega | (refine Nat.lt_of_lt_of_le (Nat.mod_lt _ ?_) ?_ <;> omega))) (by show _ * 4 ≤ _; omega) (by first | decide | omega | (simp only [rmk]; omega)) (by first | decide | omega | (simp only [rmk]; omega)) tg dX20_init_15 (fun H _ hH hS => ?_)
  rw [← hfa] at hH ⊢
  have hH : HP D CL (zA s0) (hset (hset (hset h aa (.inl (K 0, 10, .inl (fun _ => 0))) tg) x (.inr (19, [.null, .null, .null, .ref aa, .null, .int 0, .int 0, .int 0, .int 0])) tg) fa (.inl (K 0, 10, .inl (fun _ => 0))) tg) H := hH
  have hfr9 := hfr9.new (e1 := .inl (K 0, 10, .inl (fun _ => 0))) (u1 := tg) nfa
  have hob9 := hob9.tr (exH.ob (exH.new (e1 := .inl (K 0, 10, .inl (fun _ => 0))) (u1 := tg) nfa))
  have x6 : aa ≠ fa := ne_new e4 nfa
  have x7 : x ≠ fa := ne_new e5 nfa
  have e8 : (hset (hset (hset h aa (.inl (K 0, 10, .inl (fun _ => 0))) tg) x (.inr (19, [.null, .null, .null, .ref aa, .null, .int 0, .int 0, .int 0, .int 0])) tg) fa (.inl (K 0, 10, .inl (fun _ => 0))) tg) aa = some (.inl (K 0, 10, .inl (fun _ => 0)), tg) := (hset_ne _ _ _ (x6)).trans e4
  have e9 : (hset (hset (hset h aa (.inl (K 0, 10, .inl (fun _ => 0))) tg) x (.inr (19, [.null, .null, .null, .ref aa, .null, .int 0, .int 0, .int 0, .int 0])) tg) fa (.inl (K 0, 10, .inl (fun _ => 0))) tg) x = some (.inr (19, [.null, .null, .null, .ref aa, .null, .int 0, .int 0, .int 0, .int 0]), tg) := (hset_ne _ _ _ (x7)).trans e5
  have e10 : (hset (hset (hset h aa (.inl (K 0, 10, .inl (fun _ => 0))) tg) x (.inr (19, [.null, .null, .null, .ref aa, .null, .int 0, .int 0, .int 0, .int 0])) tg) fa (.inl (K 0, 10, .inl (fun _ => 0))) tg) fa = some (.inl (K 0, 10, .inl (fun _ => 0)), tg) := hset_self _ _ _ _
  refine hp_putF (C := RX24) (T := TX24) (N := 9) (v := .ref fa) (ty := (.array .int)) hx hb hts in_X24 tyX24 tyX24_ok nmX24 hown hK hH hS e9 rfl 4 (by decide) (hts _ q1249) (fun _ z => z) rfl hnm rfl (by decide +kernel) rfl rfl (Nat.le_of_ble_eq_true rfl) dX20_init_17 (fun H locs _ hH hS => ?_)
  have hH : HP D CL (zA s0) (hset (hset (hset (hset h aa (.inl (K 0, 10, .inl (fun _ => 0))) tg) x (.inr (19, [.null, .null, .null, .ref aa, .null, .int 0, .int 0, .int 0, .int 0])) tg) fa (.inl (K 0, 10, .inl (fun _ => 0))) tg) x (.inr (19, [.null, .null, .null, .ref aa, .ref fa, .int 0, .int 0, .int 0, .int 0])) tg) H := hH
  have hfr9 := hfr9.tr (set_fr (c1 := .inr (19, [.null, .null, .null, .ref aa, .ref fa, .int 0, .int 0, .int 0, .int 0])) e9)
  have hob9 := hob9.tr (ob_o (ci := 19) (fs := [.null, .null, .null, .ref aa, .ref fa, .int 0, .int 0, .int 0, .int 0]) (t2 := tg) e9)
  have e11 : (hset (hset (hset (hset h aa (.inl (K 0, 10, .inl (fun _ => 0))) tg) x (.inr (19, [.null, .null, .null, .ref aa, .null, .int 0, .int 0, .int 0, .int 0])) tg) fa (.inl (K 0, 10, .inl (fun _ => 0))) tg) x (.inr (19, [.null, .null, .null, .ref aa, .ref fa, .int 0, .int 0, .int 0, .int 0])) tg) aa = some (.inl (K 0, 10, .inl (fun _ => 0)), tg) := (hset_ne _ _ _ ((Ne.symm x1))).trans e8
  have e12 : (hset (hset (hset (hset h aa (.inl (K 0, 10, .inl (fun _ => 0))) tg) x (.inr (19, [.null, .null, .null, .ref aa, .null, .int 0, .int 0, .int 0, .int 0])) tg) fa (.inl (K 0, 10, .inl (fun _ => 0))) tg) x (.inr (19, [.null, .null, .null, .ref aa, .ref fa, .int 0, .int 0, .int 0, .int 0])) tg) fa = some (.inl (K 0, 10, .inl (fun _ => 0)), tg) := (hset_ne _ _ _ ((Ne.symm x7))).trans e10
  have e13 : (hset (hset (hset (hset h aa (.inl (K 0, 10, .inl (fun _ => 0))) tg) x (.inr (19, [.null, .null, .null, .ref aa, .null, .int 0, .int 0, .int 0, .int 0])) tg) fa (.inl (K 0, 10, .inl (fun _ => 0))) tg) x (.inr (19, [.null, .null, .null, .ref aa, .ref fa, .int 0, .int 0, .int 0, .int 0])) tg) x = some (.inr (19, [.null, .null, .null, .ref aa, .ref fa, .int 0, .int 0, .int 0, .int 0]), tg) := hset_self _ _ _ _
  refine lv_aload_n hx hb dX20_init_20 rfl (lv_at hl 0 rfl) ?_
  refine lv_aload_n hx hb dX20_init_21 rfl (lv_at hl 1 rfl) ?_
  refine hp_putF (C := RX24) (T := TX24) (N := 9) (v := .ref ra) (ty := (.object "FirstIn$Room")) hx hb hts in_X24 tyX24 tyX24_ok nmX24 hown hK hH hS e13 rfl 0 (by decide) (hts _ q1241) (fun _ z => z) rfl hnm rfl (by decide +kernel) rfl rfl (Nat.le_of_ble_eq_true rfl) dX20_init_22 (fun H locs _ hH hS => ?_)
  have hH : HP D CL (zA s0) (hset (hset (hset (hset (hset h aa (.inl (K 0, 10, .inl (fun _ => 0))) tg) x (.inr (19, [.null, .null, .null, .ref aa, .null, .int 0, .int 0, .int 0, .int 0])) tg) fa (.inl (K 0, 10, .inl (fun _ => 0))) tg) x (.inr (19, [.null, .null, .null, .ref aa, .ref fa, .int 0, .int 0, .int 0, .int 0])) tg) x (.inr (19, [.ref ra, .null, .null, .ref aa, .ref fa, .int 0, .int 0, .int 0, .int 0])) tg) H := hH
  have hfr9 := hfr9.tr (set_fr (c1 := .inr (19, [.ref ra, .null, .null, .ref aa, .ref fa, .int 0, .int 0, .int 0, .int 0])) e13)
  have hob9 := hob9.tr (ob_o (ci := 19) (fs := [.ref ra, .null, .null, .ref aa, .ref fa, .int 0, .int 0, .int 0, .int 0]) (t2 := tg) e13)
  have e14 : (hset (hset (hset (hset (hset h aa (.inl (K 0, 10, .inl (fun _ => 0))) tg) x (.inr (19, [.null, .null, .null, .ref aa, .null, .int 0, .int 0, .int 0, .int 0])) tg) fa (.inl (K 0, 10, .inl (fun _ => 0))) tg) x (.inr (19, [.null, .null, .null, .ref aa, .ref fa, .int 0, .int 0, .int 0, .int 0])) tg) x (.inr (19, [.ref ra, .null, .null, .ref aa, .ref fa, .int 0, .int 0, .int 0, .int 0])) tg) aa = some (.inl (K 0, 10, .inl (fun _ => 0)), tg) := (hset_ne _ _ _ ((Ne.symm x1))).trans e11
  have e15 : (hset (hset (hset (hset (hset h aa (.inl (K 0, 10, .inl (fun _ => 0))) tg) x (.inr (19, [.null, .null, .null, .ref aa, .null, .int 0, .int 0, .int 0, .int 0])) tg) fa (.inl (K 0, 10, .inl (fun _ => 0))) tg) x (.inr (19, [.null, .null, .null, .ref aa, .ref fa, .int 0, .int 0, .int 0, .int 0])) tg) x (.inr (19, [.ref ra, .null, .null, .ref aa, .ref fa, .int 0, .int 0, .int 0, .int 0])) tg) fa = some (.inl (K 0, 10, .inl (fun _ => 0)), tg) := (hset_ne _ _ _ ((Ne.symm x7))).trans e12
  have e16 : (hset (hset (hset (hset (hset h aa (.inl (K 0, 10, .inl (fun _ => 0))) tg) x (.inr (19, [.null, .null, .null, .ref aa, .null, .int 0, .int 0, .int 0, .int 0])) tg) fa (.inl (K 0, 10, .inl (fun _ => 0))) tg) x (.inr (19, [.null, .null, .null, .ref aa, .ref fa, .int 0, .int 0, .int 0, .int 0])) tg) x (.inr (19, [.ref ra, .null, .null, .ref aa, .ref fa, .int 0, .int 0, .int 0, .int 0])) tg) x = some (.inr (19, [.ref ra, .null, .null, .ref aa, .ref fa, .int 0, .int 0, .int 0, .int 0]), tg) := hset_self _ _ _ _
  refine lv_aload_n hx hb dX20_init_25 rfl (lv_at hl 0 rfl) ?_
  refine lv_aload_n hx hb dX20_init_26 rfl (lv_at hl 2 rfl) ?_
  refine hp_putF (C := RX24) (T := TX24) (N := 9) (v := .ref lb) (ty := (.object "java/util/ArrayList")) hx hb hts in_X24 tyX24 tyX24_ok nmX24 hown hK hH hS e16 rfl 1 (by decide) (hts _ q1242) (fun _ z => z) rfl hnm rfl (by decide +kernel) rfl rfl (Nat.le_of_ble_eq_true rfl) dX20_init_27 (fun H locs _ hH hS => ?_)
  have hH : HP D CL (zA s0) (hset (hset (hset (hset (hset (hset h aa (.inl (K 0, 10, .inl (fun _ => 0))) tg) x (.inr (19, [.null, .null, .null, .ref aa, .null, .int 0, .int 0, .int 0, .int 0])) tg) fa (.inl (K 0, 10, .inl (fun _ => 0))) tg) x (.inr (19, [.null, .null, .null, .ref aa, .ref fa, .int 0, .int 0, .int 0, .int 0])) tg) x (.inr (19, [.ref ra, .null, .null, .ref aa, .ref fa, .int 0, .int 0, .int 0, .int 0])) tg) x (.inr (19, [.ref ra, .ref lb, .null, .ref aa, .ref fa, .int 0, .int 0, .int 0, .int 0])) tg) H := hH
  have hfr9 := hfr9.tr (set_fr (c1 := .inr (19, [.ref ra, .ref lb, .null, .ref aa, .ref fa, .int 0, .int 0, .int 0, .int 0])) e16)
  have hob9 := hob9.tr (ob_o (ci := 19) (fs := [.ref ra, .ref lb, .null, .ref aa, .ref fa, .int 0, .int 0, .int 0, .int 0]) (t2 := tg) e16)
  have e17 : (hset (hset (hset (hset (hset (hset h aa (.inl (K 0, 10, .inl (fun _ => 0))) tg) x (.inr (19, [.null, .null, .null, .ref aa, .null, .int 0, .int 0, .int 0, .int 0])) tg) fa (.inl (K 0, 10, .inl (fun _ => 0))) tg) x (.inr (19, [.null, .null, .null, .ref aa, .ref fa, .int 0, .int 0, .int 0, .int 0])) tg) x (.inr (19, [.ref ra, .null, .null, .ref aa, .ref fa, .int 0, .int 0, .int 0, .int 0])) tg) x (.inr (19, [.ref ra, .ref lb, .null, .ref aa, .ref fa, .int 0, .int 0, .int 0, .int 0])) tg) aa = some (.inl (K 0, 10, .inl (fun _ => 0)), tg) := (hset_ne _ _ _ ((Ne.symm x1))).trans e14
  have e18 : (hset (hset (hset (hset (hset (hset h aa (.inl (K 0, 10, .inl (fun _ => 0))) tg) x (.inr (19, [.null, .null, .null, .ref aa, .null, .int 0, .int 0, .int 0, .int 0])) tg) fa (.inl (K 0, 10, .inl (fun _ => 0))) tg) x (.inr (19, [.null, .null, .null, .ref aa, .ref fa, .int 0, .int 0, .int 0, .int 0])) tg) x (.inr (19, [.ref ra, .null, .null, .ref aa, .ref fa, .int 0, .int 0, .int 0, .int 0])) tg) x (.inr (19, [.ref ra, .ref lb, .null, .ref aa, .ref fa, .int 0, .int 0, .int 0, .int 0])) tg) fa = some (.inl (K 0, 10, .inl (fun _ => 0)), tg) := (hset_ne _ _ _ ((Ne.symm x7))).trans e15
  have e19 : (hset (hset (hset (hset (hset (hset h aa (.inl (K 0, 10, .inl (fun _ => 0))) tg) x (.inr (19, [.null, .null, .null, .ref aa, .null, .int 0, .int 0, .int 0, .int 0])) tg) fa (.inl (K 0, 10, .inl (fun _ => 0))) tg) x (.inr (19, [.null, .null, .null, .ref aa, .ref fa, .int 0, .int 0, .int 0, .int 0])) tg) x (.inr (19, [.ref ra, .null, .null, .ref aa, .ref fa, .int 0, .int 0, .int 0, .int 0])) tg) x (.inr (19, [.ref ra, .ref lb, .null, .ref aa, .ref fa, .int 0, .int 0, .int 0, .int 0])) tg) x = some (.inr (19, [.ref ra, .ref lb, .null, .ref aa, .ref fa, .int 0, .int 0, .int 0, .int 0]), tg) := hset_self _ _ _ _
  refine lv_aload_n hx hb dX20_init_30 rfl (lv_at hl 0 rfl) ?_
  refine lv_aload_n hx hb dX20_init_31 rfl (lv_at hl 3 rfl) ?_
  refine hp_putF (C := RX24) (T := TX24) (N := 9) (v := .ref lg) (ty := (.object "java/util/ArrayList")) hx hb hts in_X24 tyX24 tyX24_ok nmX24 hown hK hH hS e19 rfl 2 (by decide) (hts _ q1243) (fun _ z => z) rfl hnm rfl (by decide +kernel) rfl rfl (Nat.le_of_ble_eq_true rfl) dX20_init_32 (fun H locs _ hH hS => ?_)
  have hH : HP D CL (zA s0) (hset (hset (hset (hset (hset (hset (hset h aa (.inl (K 0, 10, .inl (fun _ => 0))) tg) x (.inr (19, [.null, .null, .null, .ref aa, .null, .int 0, .int 0, .int 0, .int 0])) tg) fa (.inl (K 0, 10, .inl (fun _ => 0))) tg) x (.inr (19, [.null, .null, .null, .ref aa, .ref fa, .int 0, .int 0, .int 0, .int 0])) tg) x (.inr (19, [.ref ra, .null, .null, .ref aa, .ref fa, .int 0, .int 0, .int 0, .int 0])) tg) x (.inr (19, [.ref ra, .ref lb, .null, .ref aa, .ref fa, .int 0, .int 0, .int 0, .int 0])) tg) x (.inr (19, [.ref ra, .ref lb, .ref lg, .ref aa, .ref fa, .int 0, .int 0, .int 0, .int 0])) tg) H := hH
  have hfr9 := hfr9.tr (set_fr (c1 := .inr (19, [.ref ra, .ref lb, .ref lg, .ref aa, .ref fa, .int 0, .int 0, .int 0, .int 0])) e19)
  have hob9 := hob9.tr (ob_o (ci := 19) (fs := [.ref ra, .ref lb, .ref lg, .ref aa, .ref fa, .int 0, .int 0, .int 0, .int 0]) (t2 := tg) e19)
  have e20 : (hset (hset (hset (hset (hset (hset (hset h aa (.inl (K 0, 10, .inl (fun _ => 0))) tg) x (.inr (19, [.null, .null, .null, .ref aa, .null, .int 0, .int 0, .int 0, .int 0])) tg) fa (.inl (K 0, 10, .inl (fun _ => 0))) tg) x (.inr (19, [.null, .null, .null, .ref aa, .ref fa, .int 0, .int 0, .int 0, .int 0])) tg) x (.inr (19, [.ref ra, .null, .null, .ref aa, .ref fa, .int 0, .int 0, .int 0, .int 0])) tg) x (.inr (19, [.ref ra, .ref lb, .null, .ref aa, .ref fa, .int 0, .int 0, .int 0, .int 0])) tg) x (.inr (19, [.ref ra, .ref lb, .ref lg, .ref aa, .ref fa, .int 0, .int 0, .int 0, .int 0])) tg) aa = some (.inl (K 0, 10, .inl (fun _ => 0)), tg) := (hset_ne _ _ _ ((Ne.symm x1))).trans e17
  have e21 : (hset (hset (hset (hset (hset (hset (hset h aa (.inl (K 0, 10, .inl (fun _ => 0))) tg) x (.inr (19, [.null, .null, .null, .ref aa, .null, .int 0, .int 0, .int 0, .int 0])) tg) fa (.inl (K 0, 10, .inl (fun _ => 0))) tg) x (.inr (19, [.null, .null, .null, .ref aa, .ref fa, .int 0, .int 0, .int 0, .int 0])) tg) x (.inr (19, [.ref ra, .null, .null, .ref aa, .ref fa, .int 0, .int 0, .int 0, .int 0])) tg) x (.inr (19, [.ref ra, .ref lb, .null, .ref aa, .ref fa, .int 0, .int 0, .int 0, .int 0])) tg) x (.inr (19, [.ref ra, .ref lb, .ref lg, .ref aa, .ref fa, .int 0, .int 0, .int 0, .int 0])) tg) fa = some (.inl (K 0, 10, .inl (fun _ => 0)), tg) := (hset_ne _ _ _ ((Ne.symm x7))).trans e18
  have e22 : (hset (hset (hset (hset (hset (hset (hset h aa (.inl (K 0, 10, .inl (fun _ => 0))) tg) x (.inr (19, [.null, .null, .null, .ref aa, .null, .int 0, .int 0, .int 0, .int 0])) tg) fa (.inl (K 0, 10, .inl (fun _ => 0))) tg) x (.inr (19, [.null, .null, .null, .ref aa, .ref fa, .int 0, .int 0, .int 0, .int 0])) tg) x (.inr (19, [.ref ra, .null, .null, .ref aa, .ref fa, .int 0, .int 0, .int 0, .int 0])) tg) x (.inr (19, [.ref ra, .ref lb, .null, .ref aa, .ref fa, .int 0, .int 0, .int 0, .int 0])) tg) x (.inr (19, [.ref ra, .ref lb, .ref lg, .ref aa, .ref fa, .int 0, .int 0, .int 0, .int 0])) tg) x = some (.inr (19, [.ref ra, .ref lb, .ref lg, .ref aa, .ref fa, .int 0, .int 0, .int 0, .int 0]), tg) := hset_self _ _ _ _
  refine lv_iconst (v := nI 0) hx hb dX20_init_35 (by decide) ?_
  refine lv_istore (lv' := [(4, .int (nI 0)), (0, .ref x), (1, .ref ra), (2, .ref lb), (3, .ref lg)]) hx hb dX20_init_36 hl (by decide) rfl (fun ls hl => ?_)
  refine w_loop4 (fun (k : Nat) (f1 : Nat → Int32) (f2 : Nat → Int32) (hh : Hp) => 10 - k) (fun (k : Nat) (f1 : Nat → Int32) (f2 : Nat → Int32) (hh : Hp) H locs ls => (k ≤ 10) ∧ (∀ g, g < 10 → g < k → f1 g = -1) ∧ (∀ g, g < 10 → g < k → f2 g = -1) ∧ (hh aa = some (.inl (K 0, 10, .inl f1), tg)) ∧ (hh fa = some (.inl (K 0, 10, .inl f2), tg)) ∧ (hh x = some (.inr (19, [.ref ra, .ref lb, .ref lg, .ref aa, .ref fa, .int 0, .int 0, .int 0, .int 0]), tg)) ∧ (frT tg h hh) ∧ (obK h hh) ∧ HP D CL (zA s0) hh H ∧ va_S (zA s0) s.heap H locs ∧ lv_has ls 5 [(0, .ref x), (4, .int (nI k))]) ?_ 0 (fun _ => 0) (fun _ => 0) (hset (hset (hset (hset (hset (hset (hset h aa (.inl (K 0, 10, .inl (fun _ => 0))) tg) x (.inr (19, [.null, .null, .null, .ref aa, .null, .int 0, .int 0, .int 0, .int 0])) tg) fa (.inl (K 0, 10, .inl (fun _ => 0))) tg) x (.inr (19, [.null, .null, .null, .ref aa, .ref fa, .int 0, .int 0, .int 0, .int 0])) tg) x (.inr (19, [.ref ra, .null, .null, .ref aa, .ref fa, .int 0, .int 0, .int 0, .int 0])) tg) x (.inr (19, [.ref ra, .ref lb, .null, .ref aa, .ref fa, .int 0, .int 0, .int 0, .int 0])) tg) x (.inr (19, [.ref ra, .ref lb, .ref lg, .ref aa, .ref fa, .int 0, .int 0, .int 0, .int 0])) tg) ⟨Nat.zero_le _, fun g _ h => absurd h (Nat.not_lt_zero _), fun g _ h => absurd h (Nat.not_lt_zero _), e20, e21, e22, hfr9, hob9, hH, hS, lv_sub hl [1, 0] rfl⟩
  intro k f1 f2 hh ih38 H locs ls hP
  obtain ⟨hk, h1z, h2z, k1, k2, kx, hfr, hob, hH, hS, hl⟩ := hP
  have hfr9 := hfr
  have hob9 := hob
  refine lv_iload hx hb dX20_init_38 (lv_at hl 1 rfl) ?_
  refine lv_bipush (v := nI 10) hx hb dX20_init_40 (by decide) ?_
  refine lvN_ge (tgt := 67) hx hb (by first | omega | (refine Nat.lt_of_lt_of_le (Nat.mod_lt _ ?_) ?_ <;> omega)) (by first | omega | (refine Nat.lt_of_lt_of_le (Nat.mod_lt _ ?_) ?_ <;> omega)) dX20_init_42 (by decide) (fun ck => ?_) (fun ck => ?_)
  · exact hp_vret hx hb hr hlocks hH hS (by first | decide | omega | (simp only [rmk]; omega)) (by first | decide | omega | (simp only [rmk]; omega)) dX20_init_67 (⟨rfl, aa, fa, x6, kx, ⟨f1, k1, fun g hg => h1z g hg (by omega)⟩, ⟨f2, k2, fun g hg => h2z g hg (by omega)⟩, hfr, hob⟩)
  · refine lv_aload_n hx hb dX20_init_45 rfl (lv_at hl 0 rfl) ?_
    refine hp_get (C := RX24) (T := TX24) (N := 9) (v := .ref aa) hx hb hts in_X24 hown hK hH kx rfl 3 (by decide) (hts _ q1246) (fun _ z => z) rfl dX20_init_46 ?_
    refine lv_iload hx hb dX20_init_49 (lv_at hl 1 rfl) ?_
    refine lv_iconst (v := (-1)) hx hb dX20_init_51 (by decide) ?_
    refine hp_ist (n := 10) (j := k) hx hb hK hH hS 0 k1 rfl (by first | omega | (refine Nat.lt_of_lt_of_le (Nat.mod_lt _ ?_) ?_ <;> omega)) (by first | omega | (refine Nat.lt_of_lt_of_le (Nat.mod_lt _ ?_) ?_ <;> omega)) dX20_init_52 (fun H locs _ hH hS => ?_)
    have hH : HP D CL (zA s0) (hset hh aa (.inl (K 0, 10, .inl (upd f1 k (-1)))) tg) H := hH
    have hfr9 := hfr9.tr (set_fr (c1 := .inl (K 0, 10, .inl (upd f1 k (-1)))) k1)
    have hob9 := hob9.tr (ob_a (e := .inl (K 0, 10, .inl (upd f1 k (-1)))) (t2 := tg) k1)
    have e23 : (hset hh aa (.inl (K 0, 10, .inl (upd f1 k (-1)))) tg) x = some (.inr (19, [.ref ra, .ref lb, .ref lg, .ref aa, .ref fa, .int 0, .int 0, .int 0, .int 0]), tg) := (hset_ne _ _ _ (x1)).trans kx
    have e24 : (hset hh aa (.inl (K 0, 10, .inl (upd f1 k (-1)))) tg) fa = some (.inl (K 0, 10, .inl f2), tg) := (hset_ne _ _ _ ((Ne.symm x6))).trans k2
    have e25 : (hset hh aa (.inl (K 0, 10, .inl (upd f1 k (-1)))) tg) aa = some (.inl (K 0, 10, .inl (upd f1 k (-1))), tg) := hset_self _ _ _ _
    refine lv_aload_n hx hb dX20_init_53 rfl (lv_at hl 0 rfl) ?_
    refine hp_get (C := RX24) (T := TX24) (N := 9) (v := .ref fa) hx hb hts in_X24 hown hK hH e23 rfl 4 (by decide) (hts _ q1249) (fun _ z => z) rfl dX20_init_54 ?_
    refine lv_iload hx hb dX20_init_57 (lv_at hl 1 rfl) ?_
    refine lv_iconst (v := (-1)) hx hb dX20_init_59 (by decide) ?_
    refine hp_ist (n := 10) (j := k) hx hb hK hH hS 0 e24 rfl (by first | omega | (refine Nat.lt_of_lt_of_le (Nat.mod_lt _ ?_) ?_ <;> omega)) (by first | omega | (refine Nat.lt_of_lt_of_le (Nat.mod_lt _ ?_) ?_ <;> omega)) dX20_init_60 (fun H locs _ hH hS => ?_)
    have hH : HP D CL (zA s0) (hset (hset hh aa (.inl (K 0, 10, .inl (upd f1 k (-1)))) tg) fa (.inl (K 0, 10, .inl (upd f2 k (-1)))) tg) H := hH
    have hfr9 := hfr9.tr (set_fr (c1 := .inl (K 0, 10, .inl (upd f2 k (-1)))) e24)
    have hob9 := hob9.tr (ob_a (e := .inl (K 0, 10, .inl (upd f2 k (-1)))) (t2 := tg) e24)
    have e26 : (hset (hset hh aa (.inl (K 0, 10, .inl (upd f1 k (-1)))) tg) fa (.inl (K 0, 10, .inl (upd f2 k (-1)))) tg) x = some (.inr (19, [.ref ra, .ref lb, .ref lg, .ref aa, .ref fa, .int 0, .int 0, .int 0, .int 0]), tg) := (hset_ne _ _ _ (x7)).trans e23
    have e27 : (hset (hset hh aa (.inl (K 0, 10, .inl (upd f1 k (-1)))) tg) fa (.inl (K 0, 10, .inl (upd f2 k (-1)))) tg) aa = some (.inl (K 0, 10, .inl (upd f1 k (-1))), tg) := (hset_ne _ _ _ (x6)).trans e25
    have e28 : (hset (hset hh aa (.inl (K 0, 10, .inl (upd f1 k (-1)))) tg) fa (.inl (K 0, 10, .inl (upd f2 k (-1)))) tg) fa = some (.inl (K 0, 10, .inl (upd f2 k (-1))), tg) := hset_self _ _ _ _
    refine lv_iinc (v := nI (k + 1)) (lv' := [(4, .int (nI (k + 1))), (0, .ref x)]) hx hb dX20_init_61 hl (k := 1) rfl (nI_add k 1) (by decide) rfl (fun ls hl => ?_)
    refine lv_goto (tgt := 38) hx hb dX20_init_64 (by decide) ?_
    exact ih38 (k + 1) _ _ (hset (hset hh aa (.inl (K 0, 10, .inl (upd f1 k (-1)))) tg) fa (.inl (K 0, 10, .inl (upd f2 k (-1)))) tg) (by omega) H locs ls ⟨by omega, fun g hg hk9 => by by_cases e : g = k; (rw [e]; exact if_pos rfl); exact (if_neg e).trans (h1z g hg (by omega)), fun g hg hk9 => by by_cases e : g = k; (rw [e]; exact if_pos rfl); exact (if_neg e).trans (h2z g hg (by omega)), e27, e28, e26, hfr9, hob9, hH, hS, lv_sub hl [1, 0] rfl⟩
set_option maxHeartbeats 4000000 in
theorem mc_init_D (hK0 : va_K D CL (TYS K) s0) {av : Nat → Nat} {ed mi : Nat} (hG : GX s0 wd av ed mi) {mem : List Nat} {x ra lb lg tg q : Nat} {lim : Int32} (hsx : h x = some (.inr (19, [.null, .null, .null, .null, .null, .int 0, .int 0, .int 0, .int 0]), tg)) : Met l yX24_init (ws_ yX24_init cX24_init 6 ((Option.none : Option Jvm.ClassFile.FieldType))) (rmk 3 2 20) (va_Pc [.ref x, .ref ra, .int (nI q), .int lim, .ref lb, .ref lg] (PB s0 D CL (h))) (QR s0 D CL (fun v h1 => v = none ∧ ∃ aa fa, aa ≠ fa ∧ SRD q lim K mem h1 x ra lb lg aa fa tg 0 [] none ∧ frT tg h h1 ∧ obK h h1)) 2 20 (zA s0) := by
  refine hp_met (by decide) (Nat.le_of_ble_eq_true rfl) hK0 ?_
  intro p e s m below meth cd ls hx hb hr hlocks hml hown hnm hts hK hPB hl hS hH hA
  have hl : lv_has ls 6 [(0, .ref x), (1, .ref ra), (2, .int (nI q)), (3, .int lim), (4, .ref lb), (5, .ref lg)] := hl
  have hown : s.vm.findClass RX24 = some m.cls := hown
  have hfr9 : frT tg h h := frT.rf
  have hob9 : obK h h := obK.rf
  refine lv_aload_n hx hb dX24_init_0 rfl (lv_at hl 0 rfl) ?_
  refine lv_aload_n hx hb dX24_init_1 rfl (lv_at hl 1 rfl) ?_
  refine lv_aload hx hb dX24_init_2 (lv_at hl 4 rfl) ?_
  refine lv_aload hx hb dX24_init_4 (lv_at hl 5 rfl) ?_
  refine hp_callI (As := [.ref ra, .ref lb, .ref lg]) (rest := []) hx hb hml hown hts hPB hH hS (mc_sinit_D hK0 hG hsx) 3 q1401 q1231 q139 q1232 rfl (by decide +kernel) ⟨rfl, rfl⟩ (by first | decide | omega | (simp only [rmk]; omega)) rfl hl.1 rfl (Nat.le_of_ble_eq_true rfl) (by first | decide | omega | (simp only [rmk]; omega)) dX24_init_6 (fun v1 h3 H locs hp2 _ hH hS => ?_)
  obtain ⟨rfl, aa, fa, naf, hsx3, ⟨f1, k1, h1z⟩, ⟨f2, k2, h2z⟩, hf3, ho3⟩ := hp2
  have hfr9 := hfr9.tr hf3
  have hob9 := hob9.tr ho3
  refine lv_aload_n hx hb dX24_init_9 rfl (lv_at hl 0 rfl) ?_
  refine lv_ldc (v := 1000000) hx hb hown (hts _ q1402) dX24_init_10 ?_
  refine lv_top (y := nI 1000000) (by decide) ?_
  refine hp_put (C := RX24) (T := TX24) (N := 9) (v := .int (nI 1000000)) (ty := .int) hx hb hts in_X24 tyX24 tyX24_ok nmX24 hown hK hH hS hsx3 rfl 8 (by decide) (hts _ q1405) (fun _ z => z) rfl (by decide +kernel) rfl rfl (Nat.le_of_ble_eq_true rfl) dX24_init_12 (fun H locs _ hH hS => ?_)
  have hH : HP D CL (zA s0) (hset h3 x (.inr (19, [.ref ra, .ref lb, .ref lg, .ref aa, .ref fa, .int 0, .int 0, .int 0, .int (nI 1000000)])) tg) H := hH
  have hfr9 := hfr9.tr (set_fr (c1 := .inr (19, [.ref ra, .ref lb, .ref lg, .ref aa, .ref fa, .int 0, .int 0, .int 0, .int (nI 1000000)])) hsx3)
  have hob9 := hob9.tr (ob_o (ci := 19) (fs := [.ref ra, .ref lb, .ref lg, .ref aa, .ref fa, .int 0, .int 0, .int 0, .int (nI 1000000)]) (t2 := tg) hsx3)
  have e4 : (hset h3 x (.inr (19, [.ref ra, .ref lb, .ref lg, .ref aa, .ref fa, .int 0, .int 0, .int 0, .int (nI 1000000)])) tg) aa = some (.inl (K 0, 10, .inl f1), tg) := (hset_ne _ _ _ (ne_ao k1 hsx3)).trans k1
  have e5 : (hset h3 x (.inr (19, [.ref ra, .ref lb, .ref lg, .ref aa, .ref fa, .int 0, .int 0, .int 0, .int (nI 1000000)])) tg) fa = some (.inl (K 0, 10, .inl f2), tg) := (hset_ne _ _ _ (ne_ao k2 hsx3)).trans k2
  have e6 : (hset h3 x (.inr (19, [.ref ra, .ref lb, .ref lg, .ref aa, .ref fa, .int 0, .int 0, .int 0, .int (nI 1000000)])) tg) x = some (.inr (19, [.ref ra, .ref lb, .ref lg, .ref aa, .ref fa, .int 0, .int 0, .int 0, .int (nI 1000000)]), tg) := hset_self _ _ _ _
  refine lv_aload_n hx hb dX24_init_15 rfl (lv_at hl 0 rfl) ?_
  refine lv_iload_n hx hb dX24_init_16 rfl (lv_at hl 2 rfl) ?_
  refine hp_putF (C := RX24) (T := TX24) (N := 9) (v := .int (nI q)) (ty := .int) hx hb hts in_X24 tyX24 tyX24_ok nmX24 hown hK hH hS e6 rfl 6 (by decide) (hts _ q1403) (fun _ z => z) rfl hnm rfl (by decide +kernel) rfl rfl (Nat.le_of_ble_eq_true rfl) dX24_init_17 (fun H locs _ hH hS => ?_)
  have hH : HP D CL (zA s0) (hset (hset h3 x (.inr (19, [.ref ra, .ref lb, .ref lg, .ref aa, .ref fa, .int 0, .int 0, .int 0, .int (nI 1000000)])) tg) x (.inr (19, [.ref ra, .ref lb, .ref lg, .ref aa, .ref fa, .int 0, .int (nI q), .int 0, .int (nI 1000000)])) tg) H := hH
  have hfr9 := hfr9.tr (set_fr (c1 := .inr (19, [.ref ra, .ref lb, .ref lg, .ref aa, .ref fa, .int 0, .int (nI q), .int 0, .int (nI 1000000)])) e6)
  have hob9 := hob9.tr (ob_o (ci := 19) (fs := [.ref ra, .ref lb, .ref lg, .ref aa, .ref fa, .int 0, .int (nI q), .int 0, .int (nI 1000000)]) (t2 := tg) e6)
  have e7 : (hset (hset h3 x (.inr (19, [.ref ra, .ref lb, .ref lg, .ref aa, .ref fa, .int 0, .int 0, .int 0, .int (nI 1000000)])) tg) x (.inr (19, [.ref ra, .ref lb, .ref lg, .ref aa, .ref fa, .int 0, .int (nI q), .int 0, .int (nI 1000000)])) tg) aa = some (.inl (K 0, 10, .inl f1), tg) := (hset_ne _ _ _ (ne_ao e4 e6)).trans e4
  have e8 : (hset (hset h3 x (.inr (19, [.ref ra, .ref lb, .ref lg, .ref aa, .ref fa, .int 0, .int 0, .int 0, .int (nI 1000000)])) tg) x (.inr (19, [.ref ra, .ref lb, .ref lg, .ref aa, .ref fa, .int 0, .int (nI q), .int 0, .int (nI 1000000)])) tg) fa = some (.inl (K 0, 10, .inl f2), tg) := (hset_ne _ _ _ (ne_ao e5 e6)).trans e5
  have e9 : (hset (hset h3 x (.inr (19, [.ref ra, .ref lb, .ref lg, .ref aa, .ref fa, .int 0, .int 0, .int 0, .int (nI 1000000)])) tg) x (.inr (19, [.ref ra, .ref lb, .ref lg, .ref aa, .ref fa, .int 0, .int (nI q), .int 0, .int (nI 1000000)])) tg) x = some (.inr (19, [.ref ra, .ref lb, .ref lg, .ref aa, .ref fa, .int 0, .int (nI q), .int 0, .int (nI 1000000)]), tg) := hset_self _ _ _ _
  refine lv_aload_n hx hb dX24_init_20 rfl (lv_at hl 0 rfl) ?_
  refine lv_iload_n hx hb dX24_init_21 rfl (lv_at hl 3 rfl) ?_
  refine hp_putF (C := RX24) (T := TX24) (N := 9) (v := .int lim) (ty := .int) hx hb hts in_X24 tyX24 tyX24_ok nmX24 hown hK hH hS e9 rfl 7 (by decide) (hts _ q1404) (fun _ z => z) rfl hnm rfl (by decide +kernel) rfl rfl (Nat.le_of_ble_eq_true rfl) dX24_init_22 (fun H locs _ hH hS => ?_)
  have hH : HP D CL (zA s0) (hset (hset (hset h3 x (.inr (19, [.ref ra, .ref lb, .ref lg, .ref aa, .ref fa, .int 0, .int 0, .int 0, .int (nI 1000000)])) tg) x (.inr (19, [.ref ra, .ref lb, .ref lg, .ref aa, .ref fa, .int 0, .int (nI q), .int 0, .int (nI 1000000)])) tg) x (.inr (19, [.ref ra, .ref lb, .ref lg, .ref aa, .ref fa, .int 0, .int (nI q), .int lim, .int (nI 1000000)])) tg) H := hH
  have hfr9 := hfr9.tr (set_fr (c1 := .inr (19, [.ref ra, .ref lb, .ref lg, .ref aa, .ref fa, .int 0, .int (nI q), .int lim, .int (nI 1000000)])) e9)
  have hob9 := hob9.tr (ob_o (ci := 19) (fs := [.ref ra, .ref lb, .ref lg, .ref aa, .ref fa, .int 0, .int (nI q), .int lim, .int (nI 1000000)]) (t2 := tg) e9)
  have e10 : (hset (hset (hset h3 x (.inr (19, [.ref ra, .ref lb, .ref lg, .ref aa, .ref fa, .int 0, .int 0, .int 0, .int (nI 1000000)])) tg) x (.inr (19, [.ref ra, .ref lb, .ref lg, .ref aa, .ref fa, .int 0, .int (nI q), .int 0, .int (nI 1000000)])) tg) x (.inr (19, [.ref ra, .ref lb, .ref lg, .ref aa, .ref fa, .int 0, .int (nI q), .int lim, .int (nI 1000000)])) tg) aa = some (.inl (K 0, 10, .inl f1), tg) := (hset_ne _ _ _ (ne_ao e7 e9)).trans e7
  have e11 : (hset (hset (hset h3 x (.inr (19, [.ref ra, .ref lb, .ref lg, .ref aa, .ref fa, .int 0, .int 0, .int 0, .int (nI 1000000)])) tg) x (.inr (19, [.ref ra, .ref lb, .ref lg, .ref aa, .ref fa, .int 0, .int (nI q), .int 0, .int (nI 1000000)])) tg) x (.inr (19, [.ref ra, .ref lb, .ref lg, .ref aa, .ref fa, .int 0, .int (nI q), .int lim, .int (nI 1000000)])) tg) fa = some (.inl (K 0, 10, .inl f2), tg) := (hset_ne _ _ _ (ne_ao e8 e9)).trans e8
  have e12 : (hset (hset (hset h3 x (.inr (19, [.ref ra, .ref lb, .ref lg, .ref aa, .ref fa, .int 0, .int 0, .int 0, .int (nI 1000000)])) tg) x (.inr (19, [.ref ra, .ref lb, .ref lg, .ref aa, .ref fa, .int 0, .int (nI q), .int 0, .int (nI 1000000)])) tg) x (.inr (19, [.ref ra, .ref lb, .ref lg, .ref aa, .ref fa, .int 0, .int (nI q), .int lim, .int (nI 1000000)])) tg) x = some (.inr (19, [.ref ra, .ref lb, .ref lg, .ref aa, .ref fa, .int 0, .int (nI q), .int lim, .int (nI 1000000)]), tg) := hset_self _ _ _ _
  exact hp_vret hx hb hr hlocks hH hS (by first | decide | omega | (simp only [rmk]; omega)) (by first | decide | omega | (simp only [rmk]; omega)) dX24_init_25 (⟨rfl, aa, fa, naf, ⟨⟨Nat.le_refl _, fun b L e => by cases e⟩, e12, ⟨_, e10, (fun g hg => (h1z g hg).trans (congrArg oI (at_nil mem g)).symm)⟩, _, e11, h2z⟩, hfr9, hob9⟩)
end MODEL
