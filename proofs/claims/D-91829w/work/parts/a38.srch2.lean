/-! by gen/mspec.py -/
set_option maxRecDepth 100000
section MODEL
variable {l : Launch} {s0 : State} {D : va_G} {K : Nat → ClassId} {wd : Nat → Nat} {o : Nat} {h : Hp} {I : Nat → Int32} {V : Nat → Nat → Int32} {J : Nat → Nat → Int64}
set_option maxHeartbeats 4000000 in
theorem mc_found_M (hK0 : va_K D CL (TYS K) s0) {av : Nat → Nat} {ed mi : Nat} (hG : GX s0 wd av ed mi) {S : Ab} {w : Nat → Nat} {Ls : Nat → List Nat} {Jn : Nat → Nat} {Z : Nat → Nat → Int32} (hO : SOK S) (hO2 : SO2 S) (hW : CW K ed S h w Ls Jn Z) {q x lb lg aa fa pa tg tk sm wo mv : Nat} {lim : Int32} {pl : List Nat} (htg : 30 ≤ tg) (hl9 : pl.length = (comP S (aN S)).length) {z : MlZ} (hs : SRM K (comP S (aN S)) h x ((Ls 3).getD q 0) lb lg aa fa tg tk pl z) (naf : aa ≠ fa) (hon : wo < mlHvy z ∨ (wo = mlHvy z ∧ sm < mlBst z)) (hsm : sm ≤ 1000000) (hwo : wo ≤ 1000000) : Met l yX23_found (ws_ yX23_found cX23_found 4 ((Option.none : Option Jvm.ClassFile.FieldType))) (rmk 2 0 0) (va_Pc [.ref x, .int (nI sm), .int (nI wo), .int (nI mv)] (PB s0 D CL (h))) (QR s0 D CL (fun v h1 => v = none ∧ SRM K (comP S (aN S)) h1 x ((Ls 3).getD q 0) lb lg aa fa tg tk pl (mlU z pl sm wo) ∧ frT tg h h1 ∧ obK h h1)) 0 0 (zA s0) := by
  refine hp_met (by decide) (Nat.le_of_ble_eq_true rfl) hK0 ?_
  intro p e s m below meth cd ls hx hb hr hlocks hml hown hnm hts hK hPB hl hS hH hA
  have hl : lv_has ls 4 [(0, .ref x), (1, .int (nI sm)), (2, .int (nI wo)), (3, .int (nI mv))] := hl
  have hown : s.vm.findClass RX23 = some m.cls := hown
  obtain ⟨hok, hsx, ⟨af, haa, hat⟩, ff, hfa, hff⟩ := hs
  have hfr9 : frT tg h h := frT.rf
  have hob9 : obK h h := obK.rf
  refine lv_aload_n hx hb dX23_found_0 rfl (lv_at hl 0 rfl) ?_
  refine lv_iload_n hx hb dX23_found_1 rfl (lv_at hl 1 rfl) ?_
  refine hp_put (C := RX23) (T := TX23) (N := 8) (v := .int (nI sm)) (ty := .int) hx hb hts in_X23 tyX23 tyX23_ok nmX23 hown hK hH hS hsx rfl 6 (by decide) (hts _ q1358) (fun _ z => z) rfl (by decide +kernel) rfl rfl (Nat.le_of_ble_eq_true rfl) dX23_found_2 (fun H locs _ hH hS => ?_)
  have hH : HP D CL (zA s0) (hset h x (.inr (18, [.ref ((Ls 3).getD q 0), .ref lb, .ref lg, .ref aa, .ref fa, .int (nI tk), .int (nI sm), .int (nI (mlHvy z))])) tg) H := hH
  have hfr9 := hfr9.tr (set_fr (c1 := .inr (18, [.ref ((Ls 3).getD q 0), .ref lb, .ref lg, .ref aa, .ref fa, .int (nI tk), .int (nI sm), .int (nI (mlHvy z))])) hsx)
  have hob9 := hob9.tr (ob_o (ci := 18) (fs := [.ref ((Ls 3).getD q 0), .ref lb, .ref lg, .ref aa, .ref fa, .int (nI tk), .int (nI sm), .int (nI (mlHvy z))]) (t2 := tg) hsx)
  have hW := hW.fr (set_fr (c1 := .inr (18, [.ref ((Ls 3).getD q 0), .ref lb, .ref lg, .ref aa, .ref fa, .int (nI tk), .int (nI sm), .int (nI (mlHvy z))])) hsx) (by omega) (ob_o hsx)
  have e1 : (hset h x (.inr (18, [.ref ((Ls 3).getD q 0), .ref lb, .ref lg, .ref aa, .ref fa, .int (nI tk), .int (nI sm), .int (nI (mlHvy z))])) tg) aa = some (.inl (K 0, 10, .inl af), tg) := (hset_ne _ _ _ (ne_ao haa hsx)).trans haa
  have e2 : (hset h x (.inr (18, [.ref ((Ls 3).getD q 0), .ref lb, .ref lg, .ref aa, .ref fa, .int (nI tk), .int (nI sm), .int (nI (mlHvy z))])) tg) fa = some (.inl (K 0, 10, .inl ff), tg) := (hset_ne _ _ _ (ne_ao hfa hsx)).trans hfa
  have e3 : (hset h x (.inr (18, [.ref ((Ls 3).getD q 0), .ref lb, .ref lg, .ref aa, .ref fa, .int (nI tk), .int (nI sm), .int (nI (mlHvy z))])) tg) x = some (.inr (18, [.ref ((Ls 3).getD q 0), .ref lb, .ref lg, .ref aa, .ref fa, .int (nI tk), .int (nI sm), .int (nI (mlHvy z))]), tg) := hset_self _ _ _ _
  refine lv_aload_n hx hb dX23_found_5 rfl (lv_at hl 0 rfl) ?_
  refine lv_iload_n hx hb dX23_found_6 rfl (lv_at hl 2 rfl) ?_
  refine hp_put (C := RX23) (T := TX23) (N := 8) (v := .int (nI wo)) (ty := .int) hx hb hts in_X23 tyX23 tyX23_ok nmX23 hown hK hH hS e3 rfl 7 (by decide) (hts _ q1360) (fun _ z => z) rfl (by decide +kernel) rfl rfl (Nat.le_of_ble_eq_true rfl) dX23_found_7 (fun H locs _ hH hS => ?_)
  have hH : HP D CL (zA s0) (hset (hset h x (.inr (18, [.ref ((Ls 3).getD q 0), .ref lb, .ref lg, .ref aa, .ref fa, .int (nI tk), .int (nI sm), .int (nI (mlHvy z))])) tg) x (.inr (18, [.ref ((Ls 3).getD q 0), .ref lb, .ref lg, .ref aa, .ref fa, .int (nI tk), .int (nI sm), .int (nI wo)])) tg) H := hH
  have hfr9 := hfr9.tr (set_fr (c1 := .inr (18, [.ref ((Ls 3).getD q 0), .ref lb, .ref lg, .ref aa, .ref fa, .int (nI tk), .int (nI sm), .int (nI wo)])) e3)
  have hob9 := hob9.tr (ob_o (ci := 18) (fs := [.ref ((Ls 3).getD q 0), .ref lb, .ref lg, .ref aa, .ref fa, .int (nI tk), .int (nI sm), .int (nI wo)]) (t2 := tg) e3)
  have hW := hW.fr (set_fr (c1 := .inr (18, [.ref ((Ls 3).getD q 0), .ref lb, .ref lg, .ref aa, .ref fa, .int (nI tk), .int (nI sm), .int (nI wo)])) e3) (by omega) (ob_o e3)
  have e4 : (hset (hset h x (.inr (18, [.ref ((Ls 3).getD q 0), .ref lb, .ref lg, .ref aa, .ref fa, .int (nI tk), .int (nI sm), .int (nI (mlHvy z))])) tg) x (.inr (18, [.ref ((Ls 3).getD q 0), .ref lb, .ref lg, .ref aa, .ref fa, .int (nI tk), .int (nI sm), .int (nI wo)])) tg) aa = some (.inl (K 0, 10, .inl af), tg) := (hset_ne _ _ _ (ne_ao e1 e3)).trans e1
  have e5 : (hset (hset h x (.inr (18, [.ref ((Ls 3).getD q 0), .ref lb, .ref lg, .ref aa, .ref fa, .int (nI tk), .int (nI sm), .int (nI (mlHvy z))])) tg) x (.inr (18, [.ref ((Ls 3).getD q 0), .ref lb, .ref lg, .ref aa, .ref fa, .int (nI tk), .int (nI sm), .int (nI wo)])) tg) fa = some (.inl (K 0, 10, .inl ff), tg) := (hset_ne _ _ _ (ne_ao e2 e3)).trans e2
  have e6 : (hset (hset h x (.inr (18, [.ref ((Ls 3).getD q 0), .ref lb, .ref lg, .ref aa, .ref fa, .int (nI tk), .int (nI sm), .int (nI (mlHvy z))])) tg) x (.inr (18, [.ref ((Ls 3).getD q 0), .ref lb, .ref lg, .ref aa, .ref fa, .int (nI tk), .int (nI sm), .int (nI wo)])) tg) x = some (.inr (18, [.ref ((Ls 3).getD q 0), .ref lb, .ref lg, .ref aa, .ref fa, .int (nI tk), .int (nI sm), .int (nI wo)]), tg) := hset_self _ _ _ _
  refine lv_aload_n hx hb dX23_found_10 rfl (lv_at hl 0 rfl) ?_
  refine hp_callU (As := []) (rest := []) (owner := "FirstIn$Search") (x := ⟨"FirstIn$Mildest", "keeps", "()V"⟩) hx hb hml hown hts hPB hK hH hS (mc_keeps_X23 hK0 hG e6 e4 e5 naf) e6 rfl rfl 0 (va_cwU 0 hts (lw_U q1321 q1322 q1323 q1306 q139 q1307) rfl rfl rfl rfl (by decide +kernel) (by first | decide | omega | (simp only [rmk]; omega))) rfl hl.1 rfl (Nat.le_of_ble_eq_true rfl) (by first | decide | omega | (simp only [rmk]; omega)) dX23_found_11 (fun v7 h9 H locs hp8 _ hH hS => ?_)
  obtain ⟨rfl, hq⟩ := hp8
  rw [hq] at hH
  have hH : HP D CL (zA s0) (hset (hset (hset h x (.inr (18, [.ref ((Ls 3).getD q 0), .ref lb, .ref lg, .ref aa, .ref fa, .int (nI tk), .int (nI sm), .int (nI (mlHvy z))])) tg) x (.inr (18, [.ref ((Ls 3).getD q 0), .ref lb, .ref lg, .ref aa, .ref fa, .int (nI tk), .int (nI sm), .int (nI wo)])) tg) fa (.inl (K 0, 10, .inl (va_cpy af ff 0 0 10))) tg) H := hH
  have hfr9 := hfr9.tr (set_fr (c1 := .inl (K 0, 10, .inl (va_cpy af ff 0 0 10))) e5)
  have hob9 := hob9.tr (ob_a (e := .inl (K 0, 10, .inl (va_cpy af ff 0 0 10))) (t2 := tg) e5)
  have hW := hW.fr (set_fr (c1 := .inl (K 0, 10, .inl (va_cpy af ff 0 0 10))) e5) (by omega) (ob_a e5)
  have e10 : (hset (hset (hset h x (.inr (18, [.ref ((Ls 3).getD q 0), .ref lb, .ref lg, .ref aa, .ref fa, .int (nI tk), .int (nI sm), .int (nI (mlHvy z))])) tg) x (.inr (18, [.ref ((Ls 3).getD q 0), .ref lb, .ref lg, .ref aa, .ref fa, .int (nI tk), .int (nI sm), .int (nI wo)])) tg) fa (.inl (K 0, 10, .inl (va_cpy af ff 0 0 10))) tg) aa = some (.inl (K 0, 10, .inl af), tg) := (hset_ne _ _ _ (naf)).trans e4
  have e11 : (hset (hset (hset h x (.inr (18, [.ref ((Ls 3).getD q 0), .ref lb, .ref lg, .ref aa, .ref fa, .int (nI tk), .int (nI sm), .int (nI (mlHvy z))])) tg) x (.inr (18, [.ref ((Ls 3).getD q 0), .ref lb, .ref lg, .ref aa, .ref fa, .int (nI tk), .int (nI sm), .int (nI wo)])) tg) fa (.inl (K 0, 10, .inl (va_cpy af ff 0 0 10))) tg) x = some (.inr (18, [.ref ((Ls 3).getD q 0), .ref lb, .ref lg, .ref aa, .ref fa, .int (nI tk), .int (nI sm), .int (nI wo)]), tg) := (hset_ne _ _ _ (ne_oa e6 e5)).trans e6
  have e12 : (hset (hset (hset h x (.inr (18, [.ref ((Ls 3).getD q 0), .ref lb, .ref lg, .ref aa, .ref fa, .int (nI tk), .int (nI sm), .int (nI (mlHvy z))])) tg) x (.inr (18, [.ref ((Ls 3).getD q 0), .ref lb, .ref lg, .ref aa, .ref fa, .int (nI tk), .int (nI sm), .int (nI wo)])) tg) fa (.inl (K 0, 10, .inl (va_cpy af ff 0 0 10))) tg) fa = some (.inl (K 0, 10, .inl (va_cpy af ff 0 0 10)), tg) := hset_self _ _ _ _
  exact hp_vret hx hb hr hlocks hH hS (by first | decide | omega | (simp only [rmk]; omega)) (by first | decide | omega | (simp only [rmk]; omega)) dX23_found_14 (⟨rfl, by rw [mlU_on hon]; exact ⟨⟨⟨hsm, hwo⟩, fun b a L e => by cases e; exact hl9⟩, e11, ⟨_, e10, hat⟩, _, e12, cpy10 hat⟩, hfr9, hob9⟩)
set_option maxHeartbeats 4000000 in
theorem mc_found_D (hK0 : va_K D CL (TYS K) s0) {av : Nat → Nat} {ed mi : Nat} (hG : GX s0 wd av ed mi) {S : Ab} {w : Nat → Nat} {Ls : Nat → List Nat} {Jn : Nat → Nat} {Z : Nat → Nat → Int32} (hO : SOK S) (hO2 : SO2 S) (hW : CW K ed S h w Ls Jn Z) {q x lb lg aa fa pa tg tk sm wo mv : Nat} {lim : Int32} {pl : List Nat} (htg : 30 ≤ tg) (hl9 : pl.length = (comP S (aN S)).length) {z : MdZ} (hs : SRD q lim K (comP S (aN S)) h x ((Ls 3).getD q 0) lb lg aa fa tg tk pl z) (naf : aa ≠ fa) (hon : ¬ lim < nI sm) (hon2 : mvN S q (comP S (aN S)) pl pl.length < mdFew z) : Met l yX24_found (ws_ yX24_found cX24_found 4 ((Option.none : Option Jvm.ClassFile.FieldType))) (rmk 2 0 0) (va_Pc [.ref x, .int (nI sm), .int (nI wo), .int (nI (mvN S q (comP S (aN S)) pl pl.length))] (PB s0 D CL (h))) (QR s0 D CL (fun v h1 => v = none ∧ SRD q lim K (comP S (aN S)) h1 x ((Ls 3).getD q 0) lb lg aa fa tg tk pl (mdU S q (comP S (aN S)) lim z pl sm) ∧ frT tg h h1 ∧ obK h h1)) 0 0 (zA s0) := by
  refine hp_met (by decide) (Nat.le_of_ble_eq_true rfl) hK0 ?_
  intro p e s m below meth cd ls hx hb hr hlocks hml hown hnm hts hK hPB hl hS hH hA
  have hl : lv_has ls 4 [(0, .ref x), (1, .int (nI sm)), (2, .int (nI wo)), (3, .int (nI (mvN S q (comP S (aN S)) pl pl.length)))] := hl
  have hown : s.vm.findClass RX24 = some m.cls := hown
  obtain ⟨hok, hsx, ⟨af, haa, hat⟩, ff, hfa, hff⟩ := hs
  have hfr9 : frT tg h h := frT.rf
  have hob9 : obK h h := obK.rf
  refine lv_aload_n hx hb dX24_found_0 rfl (lv_at hl 0 rfl) ?_
  refine lv_iload_n hx hb dX24_found_1 rfl (lv_at hl 3 rfl) ?_
  refine hp_put (C := RX24) (T := TX24) (N := 9) (v := .int (nI (mvN S q (comP S (aN S)) pl pl.length))) (ty := .int) hx hb hts in_X24 tyX24 tyX24_ok nmX24 hown hK hH hS hsx rfl 8 (by decide) (hts _ q1405) (fun _ z => z) rfl (by decide +kernel) rfl rfl (Nat.le_of_ble_eq_true rfl) dX24_found_2 (fun H locs _ hH hS => ?_)
  have hH : HP D CL (zA s0) (hset h x (.inr (19, [.ref ((Ls 3).getD q 0), .ref lb, .ref lg, .ref aa, .ref fa, .int (nI tk), .int (nI q), .int lim, .int (nI (mvN S q (comP S (aN S)) pl pl.length))])) tg) H := hH
  have hfr9 := hfr9.tr (set_fr (c1 := .inr (19, [.ref ((Ls 3).getD q 0), .ref lb, .ref lg, .ref aa, .ref fa, .int (nI tk), .int (nI q), .int lim, .int (nI (mvN S q (comP S (aN S)) pl pl.length))])) hsx)
  have hob9 := hob9.tr (ob_o (ci := 19) (fs := [.ref ((Ls 3).getD q 0), .ref lb, .ref lg, .ref aa, .ref fa, .int (nI tk), .int (nI q), .int lim, .int (nI (mvN S q (comP S (aN S)) pl pl.length))]) (t2 := tg) hsx)
  have hW := hW.fr (set_fr (c1 := .inr (19, [.ref ((Ls 3).getD q 0), .ref lb, .ref lg, .ref aa, .ref fa, .int (nI tk), .int (nI q), .int lim, .int (nI (mvN S q (comP S (aN S)) pl pl.length))])) hsx) (by omega) (ob_o hsx)
  have e1 : (hset h x (.inr (19, [.ref ((Ls 3).getD q 0), .ref lb, .ref lg, .ref aa, .ref fa, .int (nI tk), .int (nI q), .int lim, .int (nI (mvN S q (comP S (aN S)) pl pl.length))])) tg) aa = some (.inl (K 0, 10, .inl af), tg) := (hset_ne _ _ _ (ne_ao haa hsx)).trans haa
  have e2 : (hset h x (.inr (19, [.ref ((Ls 3).getD q 0), .ref lb, .ref lg, .ref aa, .ref fa, .int (nI tk), .int (nI q), .int lim, .int (nI (mvN S q (comP S (aN S)) pl pl.length))])) tg) fa = some (.inl (K 0, 10, .inl ff), tg) := (hset_ne _ _ _ (ne_ao hfa hsx)).trans hfa
  have e3 : (hset h x (.inr (19, [.ref ((Ls 3).getD q 0), .ref lb, .ref lg, .ref aa, .ref fa, .int (nI tk), .int (nI q), .int lim, .int (nI (mvN S q (comP S (aN S)) pl pl.length))])) tg) x = some (.inr (19, [.ref ((Ls 3).getD q 0), .ref lb, .ref lg, .ref aa, .ref fa, .int (nI tk), .int (nI q), .int lim, .int (nI (mvN S q (comP S (aN S)) pl pl.length))]), tg) := hset_self _ _ _ _
  refine lv_aload_n hx hb dX24_found_5 rfl (lv_at hl 0 rfl) ?_
  refine hp_callU (As := []) (rest := []) (owner := "FirstIn$Search") (x := ⟨"FirstIn$Mended", "keeps", "()V"⟩) hx hb hml hown hts hPB hK hH hS (mc_keeps_X24 hK0 hG e3 e1 e2 naf) e3 rfl rfl 0 (va_cwU 0 hts (lw_U q1315 q1316 q1317 q1306 q139 q1307) rfl rfl rfl rfl (by decide +kernel) (by first | decide | omega | (simp only [rmk]; omega))) rfl hl.1 rfl (Nat.le_of_ble_eq_true rfl) (by first | decide | omega | (simp only [rmk]; omega)) dX24_found_6 (fun v4 h6 H locs hp5 _ hH hS => ?_)
  obtain ⟨rfl, hq⟩ := hp5
  rw [hq] at hH
  have hH : HP D CL (zA s0) (hset (hset h x (.inr (19, [.ref ((Ls 3).getD q 0), .ref lb, .ref lg, .ref aa, .ref fa, .int (nI tk), .int (nI q), .int lim, .int (nI (mvN S q (comP S (aN S)) pl pl.length))])) tg) fa (.inl (K 0, 10, .inl (va_cpy af ff 0 0 10))) tg) H := hH
  have hfr9 := hfr9.tr (set_fr (c1 := .inl (K 0, 10, .inl (va_cpy af ff 0 0 10))) e2)
  have hob9 := hob9.tr (ob_a (e := .inl (K 0, 10, .inl (va_cpy af ff 0 0 10))) (t2 := tg) e2)
  have hW := hW.fr (set_fr (c1 := .inl (K 0, 10, .inl (va_cpy af ff 0 0 10))) e2) (by omega) (ob_a e2)
  have e7 : (hset (hset h x (.inr (19, [.ref ((Ls 3).getD q 0), .ref lb, .ref lg, .ref aa, .ref fa, .int (nI tk), .int (nI q), .int lim, .int (nI (mvN S q (comP S (aN S)) pl pl.length))])) tg) fa (.inl (K 0, 10, .inl (va_cpy af ff 0 0 10))) tg) aa = some (.inl (K 0, 10, .inl af), tg) := (hset_ne _ _ _ (naf)).trans e1
  have e8 : (hset (hset h x (.inr (19, [.ref ((Ls 3).getD q 0), .ref lb, .ref lg, .ref aa, .ref fa, .int (nI tk), .int (nI q), .int lim, .int (nI (mvN S q (comP S (aN S)) pl pl.length))])) tg) fa (.inl (K 0, 10, .inl (va_cpy af ff 0 0 10))) tg) x = some (.inr (19, [.ref ((Ls 3).getD q 0), .ref lb, .ref lg, .ref aa, .ref fa, .int (nI tk), .int (nI q), .int lim, .int (nI (mvN S q (comP S (aN S)) pl pl.length))]), tg) := (hset_ne _ _ _ (ne_oa e3 e2)).trans e3
  have e9 : (hset (hset h x (.inr (19, [.ref ((Ls 3).getD q 0), .ref lb, .ref lg, .ref aa, .ref fa, .int (nI tk), .int (nI q), .int lim, .int (nI (mvN S q (comP S (aN S)) pl pl.length))])) tg) fa (.inl (K 0, 10, .inl (va_cpy af ff 0 0 10))) tg) fa = some (.inl (K 0, 10, .inl (va_cpy af ff 0 0 10)), tg) := hset_self _ _ _ _
  exact hp_vret hx hb hr hlocks hH hS (by first | decide | omega | (simp only [rmk]; omega)) (by first | decide | omega | (simp only [rmk]; omega)) dX24_found_9 (⟨rfl, by rw [hl9] at hon2; rw [mdU_on hon hon2, ← hl9]; exact ⟨⟨by rw [← hl9] at hon2; exact Nat.le_trans (Nat.le_of_lt hon2) hok.1, fun b L e => by cases e; exact hl9⟩, e8, ⟨_, e7, hat⟩, _, e9, cpy10 hat⟩, hfr9, hob9⟩)
set_option maxHeartbeats 4000000 in
theorem mc_found_L (hK0 : va_K D CL (TYS K) s0) {av : Nat → Nat} {ed mi : Nat} (hG : GX s0 wd av ed mi) {S : Ab} {w : Nat → Nat} {Ls : Nat → List Nat} {Jn : Nat → Nat} {Z : Nat → Nat → Int32} (hO : SOK S) (hO2 : SO2 S) (hW : CW K ed S h w Ls Jn Z) {q x lb lg aa fa pa tg tk sm wo mv : Nat} {lim : Int32} {pl : List Nat} (htg : 30 ≤ tg) (hl9 : pl.length = (comP S (aN S)).length) {z : LsZ} (hs : SRL K (comP S (aN S)) h x ((Ls 3).getD q 0) lb lg aa fa pa tg tk pl z) (naf : aa ≠ fa) (nap : aa ≠ pa) (nfp : fa ≠ pa) (hle : sm ≤ lsBst z) (hsm : sm < 1000000) (hpl : ∀ i, pl.getD i 0 < 8) (hm7 : (comP S (aN S)).length ≤ 7) {tc jc : Nat} (hAc : AL (K 4) ed h lg tc (comA Ls S (aN S)) jc) (htc : tc ≠ tg) : Met l yX21_found (ws_ yX21_found cX21_found 5 ((Option.none : Option Jvm.ClassFile.FieldType))) (rmk 4 0 0) (va_Pc [.ref x, .int (nI sm), .int (nI wo), .int (nI mv)] (PB s0 D CL (h))) (QR s0 D CL (fun v h1 => v = none ∧ SRL K (comP S (aN S)) h1 x ((Ls 3).getD q 0) lb lg aa fa pa tg tk pl (lsU z pl sm) ∧ frT tg h h1 ∧ obK h h1)) 0 0 (zA s0) := by
  refine hp_met (by decide) (Nat.le_of_ble_eq_true rfl) hK0 ?_
  intro p e s m below meth cd ls hx hb hr hlocks hml hown hnm hts hK hPB hl hS hH hA
  have hl : lv_has ls 5 [(0, .ref x), (1, .int (nI sm)), (2, .int (nI wo)), (3, .int (nI mv))] := hl
  have hown : s.vm.findClass RX21 = some m.cls := hown
  obtain ⟨hok, hsx, ⟨af, haa, hat⟩, ⟨ff, hfa, hff⟩, pf, hpa, hpf⟩ := hs
  have hfr9 : frT tg h h := frT.rf
  have hob9 : obK h h := obK.rf
  have hW0 := hW
  have hnd := comP_nodup S (aN S)
  have hnC : nC S = (comP S (aN S)).length := rfl
  have hn := hO.n
  have hzb := hok.1
  refine lv_iload_n hx hb dX21_found_0 rfl (lv_at hl 1 rfl) ?_
  refine lv_aload_n hx hb dX21_found_1 rfl (lv_at hl 0 rfl) ?_
  refine hp_get (C := RX21) (T := TX21) (N := 9) (v := .int (nI (lsBst z))) hx hb hts in_X21 hown hK hH hsx rfl 6 (by decide) (hts _ q1235) (fun _ z => z) rfl dX21_found_2 ?_
  refine lvN_ge (tgt := 46) hx hb (by first | omega | (refine Nat.lt_of_lt_of_le (Nat.mod_lt _ ?_) ?_ <;> omega)) (by first | omega | (refine Nat.lt_of_lt_of_le (Nat.mod_lt _ ?_) ?_ <;> omega)) dX21_found_5 (by decide) (fun c1 => ?_) (fun c1 => ?_)
  · obtain ⟨L9, rfl⟩ := ls_eq (Nat.not_lt.mpr c1) hle hsm
    refine lv_aload_n hx hb dX21_found_46 rfl (lv_at hl 0 rfl) ?_
    refine lv_dup hx hb dX21_found_47 rfl ?_
    refine hp_get (C := RX21) (T := TX21) (N := 9) (v := .int (nI L9.length)) hx hb hts in_X21 hown hK hH hsx rfl 7 (by decide) (hts _ q1237) (fun _ z => z) rfl dX21_found_48 ?_
    refine lv_iconst (v := nI 1) hx hb dX21_found_51 (by decide) ?_
    refine lv_iadd hx hb dX21_found_52 ?_
    refine lv_top (y := nI ((L9 ++ [pl]).length)) (by rw [nI_add, List.length_append]; rfl) ?_
    refine hp_put (C := RX21) (T := TX21) (N := 9) (v := .int (nI ((L9 ++ [pl]).length))) (ty := .int) hx hb hts in_X21 tyX21 tyX21_ok nmX21 hown hK hH hS hsx rfl 7 (by decide) (hts _ q1237) (fun _ z => z) rfl (by decide +kernel) rfl rfl (Nat.le_of_ble_eq_true rfl) dX21_found_53 (fun H locs _ hH hS => ?_)
    have hH : HP D CL (zA s0) (hset h x (.inr (16, [.ref ((Ls 3).getD q 0), .ref lb, .ref lg, .ref aa, .ref fa, .int (nI tk), .int (nI sm), .int (nI ((L9 ++ [pl]).length)), .ref pa])) tg) H := hH
    have hfr9 := hfr9.tr (set_fr (c1 := .inr (16, [.ref ((Ls 3).getD q 0), .ref lb, .ref lg, .ref aa, .ref fa, .int (nI tk), .int (nI sm), .int (nI ((L9 ++ [pl]).length)), .ref pa])) hsx)
    have hob9 := hob9.tr (ob_o (ci := 16) (fs := [.ref ((Ls 3).getD q 0), .ref lb, .ref lg, .ref aa, .ref fa, .int (nI tk), .int (nI sm), .int (nI ((L9 ++ [pl]).length)), .ref pa]) (t2 := tg) hsx)
    have hW := hW.fr (set_fr (c1 := .inr (16, [.ref ((Ls 3).getD q 0), .ref lb, .ref lg, .ref aa, .ref fa, .int (nI tk), .int (nI sm), .int (nI ((L9 ++ [pl]).length)), .ref pa])) hsx) (by omega) (ob_o hsx)
    have e1 : (hset h x (.inr (16, [.ref ((Ls 3).getD q 0), .ref lb, .ref lg, .ref aa, .ref fa, .int (nI tk), .int (nI sm), .int (nI ((L9 ++ [pl]).length)), .ref pa])) tg) aa = some (.inl (K 0, 10, .inl af), tg) := (hset_ne _ _ _ (ne_ao haa hsx)).trans haa
    have e2 : (hset h x (.inr (16, [.ref ((Ls 3).getD q 0), .ref lb, .ref lg, .ref aa, .ref fa, .int (nI tk), .int (nI sm), .int (nI ((L9 ++ [pl]).length)), .ref pa])) tg) fa = some (.inl (K 0, 10, .inl ff), tg) := (hset_ne _ _ _ (ne_ao hfa hsx)).trans hfa
    have e3 : (hset h x (.inr (16, [.ref ((Ls 3).getD q 0), .ref lb, .ref lg, .ref aa, .ref fa, .int (nI tk), .int (nI sm), .int (nI ((L9 ++ [pl]).length)), .ref pa])) tg) pa = some (.inl (K 0, 10, .inl pf), tg) := (hset_ne _ _ _ (ne_ao hpa hsx)).trans hpa
    have e4 : (hset h x (.inr (16, [.ref ((Ls 3).getD q 0), .ref lb, .ref lg, .ref aa, .ref fa, .int (nI tk), .int (nI sm), .int (nI ((L9 ++ [pl]).length)), .ref pa])) tg) x = some (.inr (16, [.ref ((Ls 3).getD q 0), .ref lb, .ref lg, .ref aa, .ref fa, .int (nI tk), .int (nI sm), .int (nI ((L9 ++ [pl]).length)), .ref pa]), tg) := hset_self _ _ _ _
    refine lv_iconst (v := nI 0) hx hb dX21_found_56 (by decide) ?_
    refine lv_istore (lv' := [(4, .int (nI 0)), (0, .ref x), (1, .int (nI sm)), (2, .int (nI wo)), (3, .int (nI mv))]) hx hb dX21_found_57 hl (by decide) rfl (fun ls hl => ?_)
    refine w_loop3 (fun (k : Nat) (pf : Nat → Int32) (hh : Hp) => (comP S (aN S)).length - k) (fun (k : Nat) (pf : Nat → Int32) (hh : Hp) H locs ls => (k ≤ (comP S (aN S)).length) ∧ (∀ g, g < 10 → pf g = nI (prN (comP S (aN S)) L9 pl k g)) ∧ (hh pa = some (.inl (K 0, 10, .inl pf), tg)) ∧ (frT tg h hh) ∧ (obK h hh) ∧ (hh x = some (.inr (16, [.ref ((Ls 3).getD q 0), .ref lb, .ref lg, .ref aa, .ref fa, .int (nI tk), .int (nI sm), .int (nI ((L9 ++ [pl]).length)), .ref pa]), tg)) ∧ (hh aa = some (.inl (K 0, 10, .inl af), tg)) ∧ (hh fa = some (.inl (K 0, 10, .inl ff), tg)) ∧ HP D CL (zA s0) hh H ∧ va_S (zA s0) s.heap H locs ∧ lv_has ls 5 [(0, .ref x), (4, .int (nI k))]) ?_ 0 pf (hset h x (.inr (16, [.ref ((Ls 3).getD q 0), .ref lb, .ref lg, .ref aa, .ref fa, .int (nI tk), .int (nI sm), .int (nI ((L9 ++ [pl]).length)), .ref pa])) tg) ⟨Nat.zero_le _, fun g hg => by rw [prb_0]; exact hpf g hg, e3, hfr9, hob9, e4, e1, e2, hH, hS, lv_sub hl [1, 0] rfl⟩
    intro k pf hh ih59 H locs ls hP
    obtain ⟨hk, hpf, hpa, hfr, hob, kx, kaa, kfa, hH, hS, hl⟩ := hP
    have hfr9 := hfr
    have hob9 := hob
    have hW := hW0.fr hfr (by omega) hob
    have hp8 := hpl k
    refine lv_iload hx hb dX21_found_59 (lv_at hl 1 rfl) ?_
    refine lv_aload_n hx hb dX21_found_61 rfl (lv_at hl 0 rfl) ?_
    refine hp_get (C := RX21) (T := TX21) (N := 9) (v := .ref lg) hx hb hts in_X21 hown hK hH kx rfl 2 (by decide) (hts _ q1244) (u_same (hts _ q1245)) rfl dX21_found_62 ?_
    refine hp_siz hx hb hml hown hts hPB hK0 hK hH hS hG (hAc.keep (fun b e q => hfr9 b e _ q htc) hob9) comA_n q1309 (by first | decide | (simp only [rmk]; omega)) hl.1 rfl (Nat.le_of_ble_eq_true rfl) (by first | decide | omega | (simp only [rmk]; omega)) dX21_found_65 (fun H locs hH hS => ?_)
    refine lvN_ge (tgt := 122) hx hb (by first | omega | (refine Nat.lt_of_lt_of_le (Nat.mod_lt _ ?_) ?_ <;> omega)) (by first | omega | (refine Nat.lt_of_lt_of_le (Nat.mod_lt _ ?_) ?_ <;> omega)) dX21_found_68 (by decide) (fun ck => ?_) (fun ck => ?_)
    · exact hp_vret hx hb hr hlocks hH hS (by first | decide | omega | (simp only [rmk]; omega)) (by first | decide | omega | (simp only [rmk]; omega)) dX21_found_122 (⟨rfl, by rw [ls_add1]; exact ⟨lsOK_s hok hl9 hpl, kx, ⟨_, kaa, hat⟩, ⟨_, kfa, by rw [lsF_s (hok.2 _ _ rfl).1]; exact hff⟩, _, hpa, (fun g hg => (hpf g hg).trans (congrArg nI (by rw [show k = (comP S (aN S)).length by omega, prb_end hl9]; rfl)))⟩, hfr, hob⟩)
    · refine lv_aload_n hx hb dX21_found_71 rfl (lv_at hl 0 rfl) ?_
      refine hp_get (C := RX21) (T := TX21) (N := 9) (v := .ref pa) hx hb hts in_X21 hown hK hH kx rfl 8 (by decide) (hts _ q1239) (fun _ z => z) rfl dX21_found_72 ?_
      refine lv_aload_n hx hb dX21_found_75 rfl (lv_at hl 0 rfl) ?_
      refine hp_get (C := RX21) (T := TX21) (N := 9) (v := .ref lg) hx hb hts in_X21 hown hK hH kx rfl 2 (by decide) (hts _ q1244) (u_same (hts _ q1245)) rfl dX21_found_76 ?_
      refine lv_iload hx hb dX21_found_79 (lv_at hl 1 rfl) ?_
      refine hp_lget hx hb hml hown hts hPB hK0 hK hH hS hG (hAc.keep (fun b e q => hfr9 b e _ q htc) hob9) (k9 := k) (by rw [comA_n]; omega) q1310 (by first | decide | (simp only [rmk]; omega)) hl.1 rfl (Nat.le_of_ble_eq_true rfl) (by first | decide | omega | (simp only [rmk]; omega)) dX21_found_81 (fun H locs hH hS => ?_)
      have hm5 := cm_lt (S := S) (i := k) (by omega)
      refine lv_topv (y := .ref ((Ls 0).getD (cm S k) 0)) (cm_at (by omega)) ?_
      refine va_castE hx hb hown (hts _ q1311) (hp_rec hK hH (hW.g (show cm S k < aN S by omega)) rfl) dX21_found_84 ?_
      refine hp_get (C := RX5) (T := TX5) (N := 6) (v := .int (nI (cm S k))) hx hb hts in_X5 hown hK hH (hW.g (show cm S k < aN S by omega)) rfl 1 (by decide) (hts _ q558) (u_same (hts _ q555)) rfl dX21_found_87 ?_
      refine lv_dup2_11 hx hb dX21_found_90 rfl rfl ?_
      refine hp_ild (n := 10) (j := cm S k) (v := nI (prN (comP S (aN S)) L9 pl k (cm S k))) hx hb hK hH 0 hpa rfl (by first | omega | (refine Nat.lt_of_lt_of_le (Nat.mod_lt _ ?_) ?_ <;> omega)) (by first | omega | (refine Nat.lt_of_lt_of_le (Nat.mod_lt _ ?_) ?_ <;> omega)) (hpf _ (by omega)) dX21_found_91 ?_
      refine lv_iconst (v := nI 1) hx hb dX21_found_92 (by decide) ?_
      refine lv_aload_n hx hb dX21_found_93 rfl (lv_at hl 0 rfl) ?_
      refine hp_get (C := RX21) (T := TX21) (N := 9) (v := .ref aa) hx hb hts in_X21 hown hK hH kx rfl 3 (by decide) (hts _ q1247) (u_same (hts _ q1248)) rfl dX21_found_94 ?_
      refine lv_aload_n hx hb dX21_found_97 rfl (lv_at hl 0 rfl) ?_
      refine hp_get (C := RX21) (T := TX21) (N := 9) (v := .ref lg) hx hb hts in_X21 hown hK hH kx rfl 2 (by decide) (hts _ q1244) (u_same (hts _ q1245)) rfl dX21_found_98 ?_
      refine lv_iload hx hb dX21_found_101 (lv_at hl 1 rfl) ?_
      refine hp_lget hx hb hml hown hts hPB hK0 hK hH hS hG (hAc.keep (fun b e q => hfr9 b e _ q htc) hob9) (k9 := k) (by rw [comA_n]; omega) q1310 (by first | decide | (simp only [rmk]; omega)) hl.1 rfl (Nat.le_of_ble_eq_true rfl) (by first | decide | omega | (simp only [rmk]; omega)) dX21_found_103 (fun H locs hH hS => ?_)
      have hm6 := cm_lt (S := S) (i := k) (by omega)
      refine lv_topv (y := .ref ((Ls 0).getD (cm S k) 0)) (cm_at (by omega)) ?_
      refine va_castE hx hb hown (hts _ q1311) (hp_rec hK hH (hW.g (show cm S k < aN S by omega)) rfl) dX21_found_106 ?_
      refine hp_get (C := RX5) (T := TX5) (N := 6) (v := .int (nI (cm S k))) hx hb hts in_X5 hown hK hH (hW.g (show cm S k < aN S by omega)) rfl 1 (by decide) (hts _ q558) (u_same (hts _ q555)) rfl dX21_found_109 ?_
      refine hp_ild (n := 10) (j := cm S k) (v := nI (pl.getD k 0)) hx hb hK hH 0 kaa rfl (by first | omega | (refine Nat.lt_of_lt_of_le (Nat.mod_lt _ ?_) ?_ <;> omega)) (by first | omega | (refine Nat.lt_of_lt_of_le (Nat.mod_lt _ ?_) ?_ <;> omega)) ((hat _ (by omega)).trans (congrArg oI (atN_old (j := k) hnd (by omega) (by omega)))) dX21_found_112 ?_
      refine lv_ishl hx hb dX21_found_113 ?_
      refine lv_top (y := nI (2 ^ (pl.getD k 0))) (bi_shl1 (by first | omega | (refine Nat.lt_of_lt_of_le (Nat.mod_lt _ ?_) ?_ <;> omega))) ?_
      refine lv_ior hx hb dX21_found_114 ?_
      refine lv_top (y := nI ((prN (comP S (aN S)) L9 pl k (cm S k)) ||| (2 ^ (pl.getD k 0)))) (bi_or _ _) ?_
      refine hp_ist (n := 10) (j := cm S k) hx hb hK hH hS 0 hpa rfl (by first | omega | (refine Nat.lt_of_lt_of_le (Nat.mod_lt _ ?_) ?_ <;> omega)) (by first | omega | (refine Nat.lt_of_lt_of_le (Nat.mod_lt _ ?_) ?_ <;> omega)) dX21_found_115 (fun H locs _ hH hS => ?_)
      have hH : HP D CL (zA s0) (hset hh pa (.inl (K 0, 10, .inl (upd pf (cm S k) (nI ((prN (comP S (aN S)) L9 pl k (cm S k)) ||| (2 ^ (pl.getD k 0))))))) tg) H := hH
      have hfr9 := hfr9.tr (set_fr (c1 := .inl (K 0, 10, .inl (upd pf (cm S k) (nI ((prN (comP S (aN S)) L9 pl k (cm S k)) ||| (2 ^ (pl.getD k 0))))))) hpa)
      have hob9 := hob9.tr (ob_a (e := .inl (K 0, 10, .inl (upd pf (cm S k) (nI ((prN (comP S (aN S)) L9 pl k (cm S k)) ||| (2 ^ (pl.getD k 0))))))) (t2 := tg) hpa)
      have hW := hW.fr (set_fr (c1 := .inl (K 0, 10, .inl (upd pf (cm S k) (nI ((prN (comP S (aN S)) L9 pl k (cm S k)) ||| (2 ^ (pl.getD k 0))))))) hpa) (by omega) (ob_a hpa)
      have e7 : (hset hh pa (.inl (K 0, 10, .inl (upd pf (cm S k) (nI ((prN (comP S (aN S)) L9 pl k (cm S k)) ||| (2 ^ (pl.getD k 0))))))) tg) x = some (.inr (16, [.ref ((Ls 3).getD q 0), .ref lb, .ref lg, .ref aa, .ref fa, .int (nI tk), .int (nI sm), .int (nI ((L9 ++ [pl]).length)), .ref pa]), tg) := (hset_ne _ _ _ (ne_oa kx hpa)).trans kx
      have e8 : (hset hh pa (.inl (K 0, 10, .inl (upd pf (cm S k) (nI ((prN (comP S (aN S)) L9 pl k (cm S k)) ||| (2 ^ (pl.getD k 0))))))) tg) aa = some (.inl (K 0, 10, .inl af), tg) := (hset_ne _ _ _ (nap)).trans kaa
      have e9 : (hset hh pa (.inl (K 0, 10, .inl (upd pf (cm S k) (nI ((prN (comP S (aN S)) L9 pl k (cm S k)) ||| (2 ^ (pl.getD k 0))))))) tg) fa = some (.inl (K 0, 10, .inl ff), tg) := (hset_ne _ _ _ (nfp)).trans kfa
      have e10 : (hset hh pa (.inl (K 0, 10, .inl (upd pf (cm S k) (nI ((prN (comP S (aN S)) L9 pl k (cm S k)) ||| (2 ^ (pl.getD k 0))))))) tg) pa = some (.inl (K 0, 10, .inl (upd pf (cm S k) (nI ((prN (comP S (aN S)) L9 pl k (cm S k)) ||| (2 ^ (pl.getD k 0)))))), tg) := hset_self _ _ _ _
      refine lv_iinc (v := nI (k + 1)) (lv' := [(4, .int (nI (k + 1))), (0, .ref x)]) hx hb dX21_found_116 hl (k := 1) rfl (nI_add k 1) (by decide) rfl (fun ls hl => ?_)
      refine lv_goto (tgt := 59) hx hb dX21_found_119 (by decide) ?_
      exact ih59 (k + 1) _ (hset hh pa (.inl (K 0, 10, .inl (upd pf (cm S k) (nI ((prN (comP S (aN S)) L9 pl k (cm S k)) ||| (2 ^ (pl.getD k 0))))))) tg) (by omega) H locs ls ⟨by omega, prb_upd hnd (by omega) (hpl k) hpf, e10, hfr9, hob9, e7, e8, e9, hH, hS, lv_sub hl [1, 0] rfl⟩
  · refine lv_aload_n hx hb dX21_found_8 rfl (lv_at hl 0 rfl) ?_
    refine lv_iload_n hx hb dX21_found_9 rfl (lv_at hl 1 rfl) ?_
    refine hp_put (C := RX21) (T := TX21) (N := 9) (v := .int (nI sm)) (ty := .int) hx hb hts in_X21 tyX21 tyX21_ok nmX21 hown hK hH hS hsx rfl 6 (by decide) (hts _ q1235) (fun _ z => z) rfl (by decide +kernel) rfl rfl (Nat.le_of_ble_eq_true rfl) dX21_found_10 (fun H locs _ hH hS => ?_)
    have hH : HP D CL (zA s0) (hset h x (.inr (16, [.ref ((Ls 3).getD q 0), .ref lb, .ref lg, .ref aa, .ref fa, .int (nI tk), .int (nI sm), .int (nI (lsMny z)), .ref pa])) tg) H := hH
    have hfr9 := hfr9.tr (set_fr (c1 := .inr (16, [.ref ((Ls 3).getD q 0), .ref lb, .ref lg, .ref aa, .ref fa, .int (nI tk), .int (nI sm), .int (nI (lsMny z)), .ref pa])) hsx)
    have hob9 := hob9.tr (ob_o (ci := 16) (fs := [.ref ((Ls 3).getD q 0), .ref lb, .ref lg, .ref aa, .ref fa, .int (nI tk), .int (nI sm), .int (nI (lsMny z)), .ref pa]) (t2 := tg) hsx)
    have hW := hW.fr (set_fr (c1 := .inr (16, [.ref ((Ls 3).getD q 0), .ref lb, .ref lg, .ref aa, .ref fa, .int (nI tk), .int (nI sm), .int (nI (lsMny z)), .ref pa])) hsx) (by omega) (ob_o hsx)
    have e11 : (hset h x (.inr (16, [.ref ((Ls 3).getD q 0), .ref lb, .ref lg, .ref aa, .ref fa, .int (nI tk), .int (nI sm), .int (nI (lsMny z)), .ref pa])) tg) aa = some (.inl (K 0, 10, .inl af), tg) := (hset_ne _ _ _ (ne_ao haa hsx)).trans haa
    have e12 : (hset h x (.inr (16, [.ref ((Ls 3).getD q 0), .ref lb, .ref lg, .ref aa, .ref fa, .int (nI tk), .int (nI sm), .int (nI (lsMny z)), .ref pa])) tg) fa = some (.inl (K 0, 10, .inl ff), tg) := (hset_ne _ _ _ (ne_ao hfa hsx)).trans hfa
    have e13 : (hset h x (.inr (16, [.ref ((Ls 3).getD q 0), .ref lb, .ref lg, .ref aa, .ref fa, .int (nI tk), .int (nI sm), .int (nI (lsMny z)), .ref pa])) tg) pa = some (.inl (K 0, 10, .inl pf), tg) := (hset_ne _ _ _ (ne_ao hpa hsx)).trans hpa
    have e14 : (hset h x (.inr (16, [.ref ((Ls 3).getD q 0), .ref lb, .ref lg, .ref aa, .ref fa, .int (nI tk), .int (nI sm), .int (nI (lsMny z)), .ref pa])) tg) x = some (.inr (16, [.ref ((Ls 3).getD q 0), .ref lb, .ref lg, .ref aa, .ref fa, .int (nI tk), .int (nI sm), .int (nI (lsMny z)), .ref pa]), tg) := hset_self _ _ _ _
    refine lv_aload_n hx hb dX21_found_13 rfl (lv_at hl 0 rfl) ?_
    refine lv_iconst (v := nI 0) hx hb dX21_found_14 (by decide) ?_
    refine hp_put (C := RX21) (T := TX21) (N := 9) (v := .int (nI 0)) (ty := .int) hx hb hts in_X21 tyX21 tyX21_ok nmX21 hown hK hH hS e14 rfl 7 (by decide) (hts _ q1237) (fun _ z => z) rfl (by decide +kernel) rfl rfl (Nat.le_of_ble_eq_true rfl) dX21_found_15 (fun H locs _ hH hS => ?_)
    have hH : HP D CL (zA s0) (hset (hset h x (.inr (16, [.ref ((Ls 3).getD q 0), .ref lb, .ref lg, .ref aa, .ref fa, .int (nI tk), .int (nI sm), .int (nI (lsMny z)), .ref pa])) tg) x (.inr (16, [.ref ((Ls 3).getD q 0), .ref lb, .ref lg, .ref aa, .ref fa, .int (nI tk), .int (nI sm), .int (nI 0), .ref pa])) tg) H := hH
    have hfr9 := hfr9.tr (set_fr (c1 := .inr (16, [.ref ((Ls 3).getD q 0), .ref lb, .ref lg, .ref aa, .ref fa, .int (nI tk), .int (nI sm), .int (nI 0), .ref pa])) e14)
    have hob9 := hob9.tr (ob_o (ci := 16) (fs := [.ref ((Ls 3).getD q 0), .ref lb, .ref lg, .ref aa, .ref fa, .int (nI tk), .int (nI sm), .int (nI 0), .ref pa]) (t2 := tg) e14)
    have hW := hW.fr (set_fr (c1 := .inr (16, [.ref ((Ls 3).getD q 0), .ref lb, .ref lg, .ref aa, .ref fa, .int (nI tk), .int (nI sm), .int (nI 0), .ref pa])) e14) (by omega) (ob_o e14)
    have e15 : (hset (hset h x (.inr (16, [.ref ((Ls 3).getD q 0), .ref lb, .ref lg, .ref aa, .ref fa, .int (nI tk), .int (nI sm), .int (nI (lsMny z)), .ref pa])) tg) x (.inr (16, [.ref ((Ls 3).getD q 0), .ref lb, .ref lg, .ref aa, .ref fa, .int (nI tk), .int (nI sm), .int (nI 0), .ref pa])) tg) aa = some (.inl (K 0, 10, .inl af), tg) := (hset_ne _ _ _ (ne_ao e11 e14)).trans e11
    have e16 : (hset (hset h x (.inr (16, [.ref ((Ls 3).getD q 0), .ref lb, .ref lg, .ref aa, .ref fa, .int (nI tk), .int (nI sm), .int (nI (lsMny z)), .ref pa])) tg) x (.inr (16, [.ref ((Ls 3).getD q 0), .ref lb, .ref lg, .ref aa, .ref fa, .int (nI tk), .int (nI sm), .int (nI 0), .ref pa])) tg) fa = some (.inl (K 0, 10, .inl ff), tg) := (hset_ne _ _ _ (ne_ao e12 e14)).trans e12
    have e17 : (hset (hset h x (.inr (16, [.ref ((Ls 3).getD q 0), .ref lb, .ref lg, .ref aa, .ref fa, .int (nI tk), .int (nI sm), .int (nI (lsMny z)), .ref pa])) tg) x (.inr (16, [.ref ((Ls 3).getD q 0), .ref lb, .ref lg, .ref aa, .ref fa, .int (nI tk), .int (nI sm), .int (nI 0), .ref pa])) tg) pa = some (.inl (K 0, 10, .inl pf), tg) := (hset_ne _ _ _ (ne_ao e13 e14)).trans e13
    have e18 : (hset (hset h x (.inr (16, [.ref ((Ls 3).getD q 0), .ref lb, .ref lg, .ref aa, .ref fa, .int (nI tk), .int (nI sm), .int (nI (lsMny z)), .ref pa])) tg) x (.inr (16, [.ref ((Ls 3).getD q 0), .ref lb, .ref lg, .ref aa, .ref fa, .int (nI tk), .int (nI sm), .int (nI 0), .ref pa])) tg) x = some (.inr (16, [.ref ((Ls 3).getD q 0), .ref lb, .ref lg, .ref aa, .ref fa, .int (nI tk), .int (nI sm), .int (nI 0), .ref pa]), tg) := hset_self _ _ _ _
    refine lv_aload_n hx hb dX21_found_18 rfl (lv_at hl 0 rfl) ?_
    refine hp_callU (As := []) (rest := []) (owner := "FirstIn$Search") (x := ⟨"FirstIn$Least", "keeps", "()V"⟩) hx hb hml hown hts hPB hK hH hS (mc_keeps_X21 hK0 hG e18 e15 e16 naf) e18 rfl rfl 0 (va_cwU 0 hts (lw_U q1302 q1303 q1305 q1306 q139 q1307) rfl rfl rfl rfl (by decide +kernel) (by first | decide | omega | (simp only [rmk]; omega))) rfl hl.1 rfl (Nat.le_of_ble_eq_true rfl) (by first | decide | omega | (simp only [rmk]; omega)) dX21_found_19 (fun v19 h21 H locs hp20 _ hH hS => ?_)
    obtain ⟨rfl, hq⟩ := hp20
    rw [hq] at hH
    have hH : HP D CL (zA s0) (hset (hset (hset h x (.inr (16, [.ref ((Ls 3).getD q 0), .ref lb, .ref lg, .ref aa, .ref fa, .int (nI tk), .int (nI sm), .int (nI (lsMny z)), .ref pa])) tg) x (.inr (16, [.ref ((Ls 3).getD q 0), .ref lb, .ref lg, .ref aa, .ref fa, .int (nI tk), .int (nI sm), .int (nI 0), .ref pa])) tg) fa (.inl (K 0, 10, .inl (va_cpy af ff 0 0 10))) tg) H := hH
    have hfr9 := hfr9.tr (set_fr (c1 := .inl (K 0, 10, .inl (va_cpy af ff 0 0 10))) e16)
    have hob9 := hob9.tr (ob_a (e := .inl (K 0, 10, .inl (va_cpy af ff 0 0 10))) (t2 := tg) e16)
    have hW := hW.fr (set_fr (c1 := .inl (K 0, 10, .inl (va_cpy af ff 0 0 10))) e16) (by omega) (ob_a e16)
    have e22 : (hset (hset (hset h x (.inr (16, [.ref ((Ls 3).getD q 0), .ref lb, .ref lg, .ref aa, .ref fa, .int (nI tk), .int (nI sm), .int (nI (lsMny z)), .ref pa])) tg) x (.inr (16, [.ref ((Ls 3).getD q 0), .ref lb, .ref lg, .ref aa, .ref fa, .int (nI tk), .int (nI sm), .int (nI 0), .ref pa])) tg) fa (.inl (K 0, 10, .inl (va_cpy af ff 0 0 10))) tg) aa = some (.inl (K 0, 10, .inl af), tg) := (hset_ne _ _ _ (naf)).trans e15
    have e23 : (hset (hset (hset h x (.inr (16, [.ref ((Ls 3).getD q 0), .ref lb, .ref lg, .ref aa, .ref fa, .int (nI tk), .int (nI sm), .int (nI (lsMny z)), .ref pa])) tg) x (.inr (16, [.ref ((Ls 3).getD q 0), .ref lb, .ref lg, .ref aa, .ref fa, .int (nI tk), .int (nI sm), .int (nI 0), .ref pa])) tg) fa (.inl (K 0, 10, .inl (va_cpy af ff 0 0 10))) tg) pa = some (.inl (K 0, 10, .inl pf), tg) := (hset_ne _ _ _ ((Ne.symm nfp))).trans e17
    have e24 : (hset (hset (hset h x (.inr (16, [.ref ((Ls 3).getD q 0), .ref lb, .ref lg, .ref aa, .ref fa, .int (nI tk), .int (nI sm), .int (nI (lsMny z)), .ref pa])) tg) x (.inr (16, [.ref ((Ls 3).getD q 0), .ref lb, .ref lg, .ref aa, .ref fa, .int (nI tk), .int (nI sm), .int (nI 0), .ref pa])) tg) fa (.inl (K 0, 10, .inl (va_cpy af ff 0 0 10))) tg) x = some (.inr (16, [.ref ((Ls 3).getD q 0), .ref lb, .ref lg, .ref aa, .ref fa, .int (nI tk), .int (nI sm), .int (nI 0), .ref pa]), tg) := (hset_ne _ _ _ (ne_oa e18 e16)).trans e18
    have e25 : (hset (hset (hset h x (.inr (16, [.ref ((Ls 3).getD q 0), .ref lb, .ref lg, .ref aa, .ref fa, .int (nI tk), .int (nI sm), .int (nI (lsMny z)), .ref pa])) tg) x (.inr (16, [.ref ((Ls 3).getD q 0), .ref lb, .ref lg, .ref aa, .ref fa, .int (nI tk), .int (nI sm), .int (nI 0), .ref pa])) tg) fa (.inl (K 0, 10, .inl (va_cpy af ff 0 0 10))) tg) fa = some (.inl (K 0, 10, .inl (va_cpy af ff 0 0 10)), tg) := hset_self _ _ _ _
    refine lv_iconst (v := nI 0) hx hb dX21_found_22 (by decide) ?_
    refine lv_istore (lv' := [(4, .int (nI 0)), (0, .ref x), (1, .int (nI sm)), (2, .int (nI wo)), (3, .int (nI mv))]) hx hb dX21_found_23 hl (by decide) rfl (fun ls hl => ?_)
    refine w_loop3 (fun (k : Nat) (pf : Nat → Int32) (hh : Hp) => 10 - k) (fun (k : Nat) (pf : Nat → Int32) (hh : Hp) H locs ls => (k ≤ 10) ∧ (∀ g, g < 10 → g < k → pf g = nI 0) ∧ (hh pa = some (.inl (K 0, 10, .inl pf), tg)) ∧ (frT tg h hh) ∧ (obK h hh) ∧ (hh x = some (.inr (16, [.ref ((Ls 3).getD q 0), .ref lb, .ref lg, .ref aa, .ref fa, .int (nI tk), .int (nI sm), .int (nI 0), .ref pa]), tg)) ∧ (hh aa = some (.inl (K 0, 10, .inl af), tg)) ∧ (hh fa = some (.inl (K 0, 10, .inl (va_cpy af ff 0 0 10)), tg)) ∧ HP D CL (zA s0) hh H ∧ va_S (zA s0) s.heap H locs ∧ lv_has ls 5 [(0, .ref x), (4, .int (nI k))]) ?_ 0 pf (hset (hset (hset h x (.inr (16, [.ref ((Ls 3).getD q 0), .ref lb, .ref lg, .ref aa, .ref fa, .int (nI tk), .int (nI sm), .int (nI (lsMny z)), .ref pa])) tg) x (.inr (16, [.ref ((Ls 3).getD q 0), .ref lb, .ref lg, .ref aa, .ref fa, .int (nI tk), .int (nI sm), .int (nI 0), .ref pa])) tg) fa (.inl (K 0, 10, .inl (va_cpy af ff 0 0 10))) tg) ⟨Nat.zero_le _, fun g _ h => absurd h (Nat.not_lt_zero _), e23, hfr9, hob9, e24, e22, e25, hH, hS, lv_sub hl [1, 0] rfl⟩
    intro k pf hh ih25 H locs ls hP
    obtain ⟨hk, hz9, hpa, hfr, hob, kx, kaa, kfa, hH, hS, hl⟩ := hP
    have hfr9 := hfr
    have hob9 := hob
    have hW := hW0.fr hfr (by omega) hob
    refine lv_iload hx hb dX21_found_25 (lv_at hl 1 rfl) ?_
    refine lv_bipush (v := nI 10) hx hb dX21_found_27 (by decide) ?_
    refine lvN_ge (tgt := 46) hx hb (by first | omega | (refine Nat.lt_of_lt_of_le (Nat.mod_lt _ ?_) ?_ <;> omega)) (by first | omega | (refine Nat.lt_of_lt_of_le (Nat.mod_lt _ ?_) ?_ <;> omega)) dX21_found_29 (by decide) (fun cz => ?_) (fun cz => ?_)
    · refine lv_aload_n hx hb dX21_found_46 rfl (lv_at hl 0 rfl) ?_
      refine lv_dup hx hb dX21_found_47 rfl ?_
      refine hp_get (C := RX21) (T := TX21) (N := 9) (v := .int (nI 0)) hx hb hts in_X21 hown hK hH kx rfl 7 (by decide) (hts _ q1237) (fun _ z => z) rfl dX21_found_48 ?_
      refine lv_iconst (v := nI 1) hx hb dX21_found_51 (by decide) ?_
      refine lv_iadd hx hb dX21_found_52 ?_
      refine lv_top (y := nI (0 + 1)) (nI_add _ _) ?_
      refine hp_put (C := RX21) (T := TX21) (N := 9) (v := .int (nI (0 + 1))) (ty := .int) hx hb hts in_X21 tyX21 tyX21_ok nmX21 hown hK hH hS kx rfl 7 (by decide) (hts _ q1237) (fun _ z => z) rfl (by decide +kernel) rfl rfl (Nat.le_of_ble_eq_true rfl) dX21_found_53 (fun H locs _ hH hS => ?_)
      have hH : HP D CL (zA s0) (hset hh x (.inr (16, [.ref ((Ls 3).getD q 0), .ref lb, .ref lg, .ref aa, .ref fa, .int (nI tk), .int (nI sm), .int (nI (0 + 1)), .ref pa])) tg) H := hH
      have hfr9 := hfr9.tr (set_fr (c1 := .inr (16, [.ref ((Ls 3).getD q 0), .ref lb, .ref lg, .ref aa, .ref fa, .int (nI tk), .int (nI sm), .int (nI (0 + 1)), .ref pa])) kx)
      have hob9 := hob9.tr (ob_o (ci := 16) (fs := [.ref ((Ls 3).getD q 0), .ref lb, .ref lg, .ref aa, .ref fa, .int (nI tk), .int (nI sm), .int (nI (0 + 1)), .ref pa]) (t2 := tg) kx)
      have hW := hW.fr (set_fr (c1 := .inr (16, [.ref ((Ls 3).getD q 0), .ref lb, .ref lg, .ref aa, .ref fa, .int (nI tk), .int (nI sm), .int (nI (0 + 1)), .ref pa])) kx) (by omega) (ob_o kx)
      have e26 : (hset hh x (.inr (16, [.ref ((Ls 3).getD q 0), .ref lb, .ref lg, .ref aa, .ref fa, .int (nI tk), .int (nI sm), .int (nI (0 + 1)), .ref pa])) tg) aa = some (.inl (K 0, 10, .inl af), tg) := (hset_ne _ _ _ (ne_ao kaa kx)).trans kaa
      have e27 : (hset hh x (.inr (16, [.ref ((Ls 3).getD q 0), .ref lb, .ref lg, .ref aa, .ref fa, .int (nI tk), .int (nI sm), .int (nI (0 + 1)), .ref pa])) tg) fa = some (.inl (K 0, 10, .inl (va_cpy af ff 0 0 10)), tg) := (hset_ne _ _ _ (ne_ao kfa kx)).trans kfa
      have e28 : (hset hh x (.inr (16, [.ref ((Ls 3).getD q 0), .ref lb, .ref lg, .ref aa, .ref fa, .int (nI tk), .int (nI sm), .int (nI (0 + 1)), .ref pa])) tg) pa = some (.inl (K 0, 10, .inl pf), tg) := (hset_ne _ _ _ (ne_ao hpa kx)).trans hpa
      have e29 : (hset hh x (.inr (16, [.ref ((Ls 3).getD q 0), .ref lb, .ref lg, .ref aa, .ref fa, .int (nI tk), .int (nI sm), .int (nI (0 + 1)), .ref pa])) tg) x = some (.inr (16, [.ref ((Ls 3).getD q 0), .ref lb, .ref lg, .ref aa, .ref fa, .int (nI tk), .int (nI sm), .int (nI (0 + 1)), .ref pa]), tg) := hset_self _ _ _ _
      refine lv_iconst (v := nI 0) hx hb dX21_found_56 (by decide) ?_
      refine lv_istore (lv' := [(4, .int (nI 0)), (0, .ref x)]) hx hb dX21_found_57 hl (by decide) rfl (fun ls hl => ?_)
      refine w_loop3 (fun (k : Nat) (pf : Nat → Int32) (hh : Hp) => (comP S (aN S)).length - k) (fun (k : Nat) (pf : Nat → Int32) (hh : Hp) H locs ls => (k ≤ (comP S (aN S)).length) ∧ (∀ g, g < 10 → pf g = nI (prN (comP S (aN S)) ([] : List (List Nat)) pl k g)) ∧ (hh pa = some (.inl (K 0, 10, .inl pf), tg)) ∧ (frT tg h hh) ∧ (obK h hh) ∧ (hh x = some (.inr (16, [.ref ((Ls 3).getD q 0), .ref lb, .ref lg, .ref aa, .ref fa, .int (nI tk), .int (nI sm), .int (nI (0 + 1)), .ref pa]), tg)) ∧ (hh aa = some (.inl (K 0, 10, .inl af), tg)) ∧ (hh fa = some (.inl (K 0, 10, .inl (va_cpy af ff 0 0 10)), tg)) ∧ HP D CL (zA s0) hh H ∧ va_S (zA s0) s.heap H locs ∧ lv_has ls 5 [(0, .ref x), (4, .int (nI k))]) ?_ 0 pf (hset hh x (.inr (16, [.ref ((Ls 3).getD q 0), .ref lb, .ref lg, .ref aa, .ref fa, .int (nI tk), .int (nI sm), .int (nI (0 + 1)), .ref pa])) tg) ⟨Nat.zero_le _, fun g hg => by rw [prb_0, pl_nil]; exact hz9 g hg (by omega), e28, hfr9, hob9, e29, e26, e27, hH, hS, lv_sub hl [1, 0] rfl⟩
      intro k pf hh ih59 H locs ls hP
      obtain ⟨hk, hpf, hpa, hfr, hob, kx, kaa, kfa, hH, hS, hl⟩ := hP
      have hfr9 := hfr
      have hob9 := hob
      have hW := hW0.fr hfr (by omega) hob
      have hp8 := hpl k
      refine lv_iload hx hb dX21_found_59 (lv_at hl 1 rfl) ?_
      refine lv_aload_n hx hb dX21_found_61 rfl (lv_at hl 0 rfl) ?_
      refine hp_get (C := RX21) (T := TX21) (N := 9) (v := .ref lg) hx hb hts in_X21 hown hK hH kx rfl 2 (by decide) (hts _ q1244) (u_same (hts _ q1245)) rfl dX21_found_62 ?_
      refine hp_siz hx hb hml hown hts hPB hK0 hK hH hS hG (hAc.keep (fun b e q => hfr9 b e _ q htc) hob9) comA_n q1309 (by first | decide | (simp only [rmk]; omega)) hl.1 rfl (Nat.le_of_ble_eq_true rfl) (by first | decide | omega | (simp only [rmk]; omega)) dX21_found_65 (fun H locs hH hS => ?_)
      refine lvN_ge (tgt := 122) hx hb (by first | omega | (refine Nat.lt_of_lt_of_le (Nat.mod_lt _ ?_) ?_ <;> omega)) (by first | omega | (refine Nat.lt_of_lt_of_le (Nat.mod_lt _ ?_) ?_ <;> omega)) dX21_found_68 (by decide) (fun ck => ?_) (fun ck => ?_)
      · exact hp_vret hx hb hr hlocks hH hS (by first | decide | omega | (simp only [rmk]; omega)) (by first | decide | omega | (simp only [rmk]; omega)) dX21_found_122 (⟨rfl, by rw [lsU_lt c1]; exact ⟨lsOK_1 hl9 hpl hsm, kx, ⟨_, kaa, hat⟩, ⟨_, kfa, cpy10 hat⟩, _, hpa, (fun g hg => (hpf g hg).trans (congrArg nI (by rw [show k = (comP S (aN S)).length by omega, prb_end hl9]; rfl)))⟩, hfr, hob⟩)
      · refine lv_aload_n hx hb dX21_found_71 rfl (lv_at hl 0 rfl) ?_
        refine hp_get (C := RX21) (T := TX21) (N := 9) (v := .ref pa) hx hb hts in_X21 hown hK hH kx rfl 8 (by decide) (hts _ q1239) (fun _ z => z) rfl dX21_found_72 ?_
        refine lv_aload_n hx hb dX21_found_75 rfl (lv_at hl 0 rfl) ?_
        refine hp_get (C := RX21) (T := TX21) (N := 9) (v := .ref lg) hx hb hts in_X21 hown hK hH kx rfl 2 (by decide) (hts _ q1244) (u_same (hts _ q1245)) rfl dX21_found_76 ?_
        refine lv_iload hx hb dX21_found_79 (lv_at hl 1 rfl) ?_
        refine hp_lget hx hb hml hown hts hPB hK0 hK hH hS hG (hAc.keep (fun b e q => hfr9 b e _ q htc) hob9) (k9 := k) (by rw [comA_n]; omega) q1310 (by first | decide | (simp only [rmk]; omega)) hl.1 rfl (Nat.le_of_ble_eq_true rfl) (by first | decide | omega | (simp only [rmk]; omega)) dX21_found_81 (fun H locs hH hS => ?_)
        have hm30 := cm_lt (S := S) (i := k) (by omega)
        refine lv_topv (y := .ref ((Ls 0).getD (cm S k) 0)) (cm_at (by omega)) ?_
        refine va_castE hx hb hown (hts _ q1311) (hp_rec hK hH (hW.g (show cm S k < aN S by omega)) rfl) dX21_found_84 ?_
        refine hp_get (C := RX5) (T := TX5) (N := 6) (v := .int (nI (cm S k))) hx hb hts in_X5 hown hK hH (hW.g (show cm S k < aN S by omega)) rfl 1 (by decide) (hts _ q558) (u_same (hts _ q555)) rfl dX21_found_87 ?_
        refine lv_dup2_11 hx hb dX21_found_90 rfl rfl ?_
        refine hp_ild (n := 10) (j := cm S k) (v := nI (prN (comP S (aN S)) ([] : List (List Nat)) pl k (cm S k))) hx hb hK hH 0 hpa rfl (by first | omega | (refine Nat.lt_of_lt_of_le (Nat.mod_lt _ ?_) ?_ <;> omega)) (by first | omega | (refine Nat.lt_of_lt_of_le (Nat.mod_lt _ ?_) ?_ <;> omega)) (hpf _ (by omega)) dX21_found_91 ?_
        refine lv_iconst (v := nI 1) hx hb dX21_found_92 (by decide) ?_
        refine lv_aload_n hx hb dX21_found_93 rfl (lv_at hl 0 rfl) ?_
        refine hp_get (C := RX21) (T := TX21) (N := 9) (v := .ref aa) hx hb hts in_X21 hown hK hH kx rfl 3 (by decide) (hts _ q1247) (u_same (hts _ q1248)) rfl dX21_found_94 ?_
        refine lv_aload_n hx hb dX21_found_97 rfl (lv_at hl 0 rfl) ?_
        refine hp_get (C := RX21) (T := TX21) (N := 9) (v := .ref lg) hx hb hts in_X21 hown hK hH kx rfl 2 (by decide) (hts _ q1244) (u_same (hts _ q1245)) rfl dX21_found_98 ?_
        refine lv_iload hx hb dX21_found_101 (lv_at hl 1 rfl) ?_
        refine hp_lget hx hb hml hown hts hPB hK0 hK hH hS hG (hAc.keep (fun b e q => hfr9 b e _ q htc) hob9) (k9 := k) (by rw [comA_n]; omega) q1310 (by first | decide | (simp only [rmk]; omega)) hl.1 rfl (Nat.le_of_ble_eq_true rfl) (by first | decide | omega | (simp only [rmk]; omega)) dX21_found_103 (fun H locs hH hS => ?_)
        have hm31 := cm_lt (S := S) (i := k) (by omega)
        refine lv_topv (y := .ref ((Ls 0).getD (cm S k) 0)) (cm_at (by omega)) ?_
        refine va_castE hx hb hown (hts _ q1311) (hp_rec hK hH (hW.g (show cm S k < aN S by omega)) rfl) dX21_found_106 ?_
        refine hp_get (C := RX5) (T := TX5) (N := 6) (v := .int (nI (cm S k))) hx hb hts in_X5 hown hK hH (hW.g (show cm S k < aN S by omega)) rfl 1 (by decide) (hts _ q558) (u_same (hts _ q555)) rfl dX21_found_109 ?_
        refine hp_ild (n := 10) (j := cm S k) (v := nI (pl.getD k 0)) hx hb hK hH 0 kaa rfl (by first | omega | (refine Nat.lt_of_lt_of_le (Nat.mod_lt _ ?_) ?_ <;> omega)) (by first | omega | (refine Nat.lt_of_lt_of_le (Nat.mod_lt _ ?_) ?_ <;> omega)) ((hat _ (by omega)).trans (congrArg oI (atN_old (j := k) hnd (by omega) (by omega)))) dX21_found_112 ?_
        refine lv_ishl hx hb dX21_found_113 ?_
        refine lv_top (y := nI (2 ^ (pl.getD k 0))) (bi_shl1 (by first | omega | (refine Nat.lt_of_lt_of_le (Nat.mod_lt _ ?_) ?_ <;> omega))) ?_
        refine lv_ior hx hb dX21_found_114 ?_
        refine lv_top (y := nI ((prN (comP S (aN S)) ([] : List (List Nat)) pl k (cm S k)) ||| (2 ^ (pl.getD k 0)))) (bi_or _ _) ?_
        refine hp_ist (n := 10) (j := cm S k) hx hb hK hH hS 0 hpa rfl (by first | omega | (refine Nat.lt_of_lt_of_le (Nat.mod_lt _ ?_) ?_ <;> omega)) (by first | omega | (refine Nat.lt_of_lt_of_le (Nat.mod_lt _ ?_) ?_ <;> omega)) dX21_found_115 (fun H locs _ hH hS => ?_)
        have hH : HP D CL (zA s0) (hset hh pa (.inl (K 0, 10, .inl (upd pf (cm S k) (nI ((prN (comP S (aN S)) ([] : List (List Nat)) pl k (cm S k)) ||| (2 ^ (pl.getD k 0))))))) tg) H := hH
        have hfr9 := hfr9.tr (set_fr (c1 := .inl (K 0, 10, .inl (upd pf (cm S k) (nI ((prN (comP S (aN S)) ([] : List (List Nat)) pl k (cm S k)) ||| (2 ^ (pl.getD k 0))))))) hpa)
        have hob9 := hob9.tr (ob_a (e := .inl (K 0, 10, .inl (upd pf (cm S k) (nI ((prN (comP S (aN S)) ([] : List (List Nat)) pl k (cm S k)) ||| (2 ^ (pl.getD k 0))))))) (t2 := tg) hpa)
        have hW := hW.fr (set_fr (c1 := .inl (K 0, 10, .inl (upd pf (cm S k) (nI ((prN (comP S (aN S)) ([] : List (List Nat)) pl k (cm S k)) ||| (2 ^ (pl.getD k 0))))))) hpa) (by omega) (ob_a hpa)
        have e32 : (hset hh pa (.inl (K 0, 10, .inl (upd pf (cm S k) (nI ((prN (comP S (aN S)) ([] : List (List Nat)) pl k (cm S k)) ||| (2 ^ (pl.getD k 0))))))) tg) x = some (.inr (16, [.ref ((Ls 3).getD q 0), .ref lb, .ref lg, .ref aa, .ref fa, .int (nI tk), .int (nI sm), .int (nI (0 + 1)), .ref pa]), tg) := (hset_ne _ _ _ (ne_oa kx hpa)).trans kx
        have e33 : (hset hh pa (.inl (K 0, 10, .inl (upd pf (cm S k) (nI ((prN (comP S (aN S)) ([] : List (List Nat)) pl k (cm S k)) ||| (2 ^ (pl.getD k 0))))))) tg) aa = some (.inl (K 0, 10, .inl af), tg) := (hset_ne _ _ _ (nap)).trans kaa
        have e34 : (hset hh pa (.inl (K 0, 10, .inl (upd pf (cm S k) (nI ((prN (comP S (aN S)) ([] : List (List Nat)) pl k (cm S k)) ||| (2 ^ (pl.getD k 0))))))) tg) fa = some (.inl (K 0, 10, .inl (va_cpy af ff 0 0 10)), tg) := (hset_ne _ _ _ (nfp)).trans kfa
        have e35 : (hset hh pa (.inl (K 0, 10, .inl (upd pf (cm S k) (nI ((prN (comP S (aN S)) ([] : List (List Nat)) pl k (cm S k)) ||| (2 ^ (pl.getD k 0))))))) tg) pa = some (.inl (K 0, 10, .inl (upd pf (cm S k) (nI ((prN (comP S (aN S)) ([] : List (List Nat)) pl k (cm S k)) ||| (2 ^ (pl.getD k 0)))))), tg) := hset_self _ _ _ _
        refine lv_iinc (v := nI (k + 1)) (lv' := [(4, .int (nI (k + 1))), (0, .ref x)]) hx hb dX21_found_116 hl (k := 1) rfl (nI_add k 1) (by decide) rfl (fun ls hl => ?_)
        refine lv_goto (tgt := 59) hx hb dX21_found_119 (by decide) ?_
        exact ih59 (k + 1) _ (hset hh pa (.inl (K 0, 10, .inl (upd pf (cm S k) (nI ((prN (comP S (aN S)) ([] : List (List Nat)) pl k (cm S k)) ||| (2 ^ (pl.getD k 0))))))) tg) (by omega) H locs ls ⟨by omega, prb_upd hnd (by omega) (hpl k) hpf, e35, hfr9, hob9, e32, e33, e34, hH, hS, lv_sub hl [1, 0] rfl⟩
    · refine lv_aload_n hx hb dX21_found_32 rfl (lv_at hl 0 rfl) ?_
      refine hp_get (C := RX21) (T := TX21) (N := 9) (v := .ref pa) hx hb hts in_X21 hown hK hH kx rfl 8 (by decide) (hts _ q1239) (fun _ z => z) rfl dX21_found_33 ?_
      refine lv_iload hx hb dX21_found_36 (lv_at hl 1 rfl) ?_
      refine lv_iconst (v := nI 0) hx hb dX21_found_38 (by decide) ?_
      refine hp_ist (n := 10) (j := k) hx hb hK hH hS 0 hpa rfl (by first | omega | (refine Nat.lt_of_lt_of_le (Nat.mod_lt _ ?_) ?_ <;> omega)) (by first | omega | (refine Nat.lt_of_lt_of_le (Nat.mod_lt _ ?_) ?_ <;> omega)) dX21_found_39 (fun H locs _ hH hS => ?_)
      have hH : HP D CL (zA s0) (hset hh pa (.inl (K 0, 10, .inl (upd pf k (nI 0)))) tg) H := hH
      have hfr9 := hfr9.tr (set_fr (c1 := .inl (K 0, 10, .inl (upd pf k (nI 0)))) hpa)
      have hob9 := hob9.tr (ob_a (e := .inl (K 0, 10, .inl (upd pf k (nI 0)))) (t2 := tg) hpa)
      have hW := hW.fr (set_fr (c1 := .inl (K 0, 10, .inl (upd pf k (nI 0)))) hpa) (by omega) (ob_a hpa)
      have e36 : (hset hh pa (.inl (K 0, 10, .inl (upd pf k (nI 0)))) tg) x = some (.inr (16, [.ref ((Ls 3).getD q 0), .ref lb, .ref lg, .ref aa, .ref fa, .int (nI tk), .int (nI sm), .int (nI 0), .ref pa]), tg) := (hset_ne _ _ _ (ne_oa kx hpa)).trans kx
      have e37 : (hset hh pa (.inl (K 0, 10, .inl (upd pf k (nI 0)))) tg) aa = some (.inl (K 0, 10, .inl af), tg) := (hset_ne _ _ _ (nap)).trans kaa
      have e38 : (hset hh pa (.inl (K 0, 10, .inl (upd pf k (nI 0)))) tg) fa = some (.inl (K 0, 10, .inl (va_cpy af ff 0 0 10)), tg) := (hset_ne _ _ _ (nfp)).trans kfa
      have e39 : (hset hh pa (.inl (K 0, 10, .inl (upd pf k (nI 0)))) tg) pa = some (.inl (K 0, 10, .inl (upd pf k (nI 0))), tg) := hset_self _ _ _ _
      refine lv_iinc (v := nI (k + 1)) (lv' := [(4, .int (nI (k + 1))), (0, .ref x)]) hx hb dX21_found_40 hl (k := 1) rfl (nI_add k 1) (by decide) rfl (fun ls hl => ?_)
      refine lv_goto (tgt := 25) hx hb dX21_found_43 (by decide) ?_
      exact ih25 (k + 1) _ (hset hh pa (.inl (K 0, 10, .inl (upd pf k (nI 0)))) tg) (by omega) H locs ls ⟨by omega, fun g hg hk9 => by by_cases e : g = k; (rw [e]; exact if_pos rfl); exact (if_neg e).trans (hz9 g hg (by omega)), e39, hfr9, hob9, e36, e37, e38, hH, hS, lv_sub hl [1, 0] rfl⟩
end MODEL
