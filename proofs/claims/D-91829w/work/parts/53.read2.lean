/-! THE READER in the model: small rows -/
set_option maxRecDepth 100000
theorem MOK.w1 {S : Ab} {I : Nat → Int32} {V : Nat → Nat → Int32} (h : MOK S I V) {k : Nat} (hk : k = 29 ∨ k = 30 ∨ k = 31) (x : Int32) : MOK S I (vset V k 1 x) := by
  unfold MOK at h ⊢
  rcases hk with e | e | e
  · subst e
    rw [vset_ne V x (show (0 : Nat) ≠ 1 by decide), vset_off V x (show 1 ≠ 29 by decide), vset_off V x (show 9 ≠ 29 by decide), vset_off V x (show 12 ≠ 29 by decide), vset_off V x (show 15 ≠ 29 by decide), vset_off V x (show 18 ≠ 29 by decide), vset_off V x (show 21 ≠ 29 by decide), vset_off V x (show 24 ≠ 29 by decide), vset_off V x (show 27 ≠ 29 by decide), vset_off V x (show 30 ≠ 29 by decide), vset_off V x (show 31 ≠ 29 by decide), vset_off V x (show 33 ≠ 29 by decide), vset_off V x (show 34 ≠ 29 by decide), vset_off V x (show 35 ≠ 29 by decide), vset_off V x (show 36 ≠ 29 by decide), vset_off V x (show 37 ≠ 29 by decide), vset_off V x (show 38 ≠ 29 by decide), vset_off V x (show 39 ≠ 29 by decide)]
    exact h
  · subst e
    rw [vset_ne V x (show (0 : Nat) ≠ 1 by decide), vset_off V x (show 1 ≠ 30 by decide), vset_off V x (show 9 ≠ 30 by decide), vset_off V x (show 12 ≠ 30 by decide), vset_off V x (show 15 ≠ 30 by decide), vset_off V x (show 18 ≠ 30 by decide), vset_off V x (show 21 ≠ 30 by decide), vset_off V x (show 24 ≠ 30 by decide), vset_off V x (show 27 ≠ 30 by decide), vset_off V x (show 29 ≠ 30 by decide), vset_off V x (show 31 ≠ 30 by decide), vset_off V x (show 33 ≠ 30 by decide), vset_off V x (show 34 ≠ 30 by decide), vset_off V x (show 35 ≠ 30 by decide), vset_off V x (show 36 ≠ 30 by decide), vset_off V x (show 37 ≠ 30 by decide), vset_off V x (show 38 ≠ 30 by decide), vset_off V x (show 39 ≠ 30 by decide)]
    exact h
  · subst e
    rw [vset_ne V x (show (0 : Nat) ≠ 1 by decide), vset_off V x (show 1 ≠ 31 by decide), vset_off V x (show 9 ≠ 31 by decide), vset_off V x (show 12 ≠ 31 by decide), vset_off V x (show 15 ≠ 31 by decide), vset_off V x (show 18 ≠ 31 by decide), vset_off V x (show 21 ≠ 31 by decide), vset_off V x (show 24 ≠ 31 by decide), vset_off V x (show 27 ≠ 31 by decide), vset_off V x (show 29 ≠ 31 by decide), vset_off V x (show 30 ≠ 31 by decide), vset_off V x (show 33 ≠ 31 by decide), vset_off V x (show 34 ≠ 31 by decide), vset_off V x (show 35 ≠ 31 by decide), vset_off V x (show 36 ≠ 31 by decide), vset_off V x (show 37 ≠ 31 by decide), vset_off V x (show 38 ≠ 31 by decide), vset_off V x (show 39 ≠ 31 by decide)]
    exact h
theorem isSp_1 {S : Ab} {a : Nat} (h : a < aSz S) (h2 : aTx S a = nI 32) : isSp S a = true := by unfold isSp; rw [decide_eq_true h, decide_eq_true (show aTx S a = 32 from h2)]; rfl
theorem isSp_2 {S : Ab} {a : Nat} (h : a < aSz S) (h2 : aTx S a = nI 10) : isSp S a = true := by unfold isSp; rw [decide_eq_true h, decide_eq_true (show aTx S a = 10 from h2)]; simp
theorem isSp_3 {S : Ab} {a : Nat} (h : ¬ a < aSz S) : isSp S a = false := by unfold isSp; rw [decide_eq_false h]; rfl
theorem isSp_4 {S : Ab} {a : Nat} (h : ¬ aTx S a = nI 32) (h2 : ¬ aTx S a = nI 10) : isSp S a = false := by unfold isSp; rw [decide_eq_false (show ¬ aTx S a = 32 from h), decide_eq_false (show ¬ aTx S a = 10 from h2)]; simp
theorem nx_1 {S : Ab} {t a b : Nat} (ea : nxA S t = a) (c : inR S a 97 122 = true) (hb : skp S (fun k => inR S k 97 122) a = b) : nx S t = (a, b) := by unfold nx nxT; rw [ea, if_pos c, hb]
theorem nx_2 {S : Ab} {t a b : Nat} (ea : nxA S t = a) (c : inR S a 97 122 = false) (c2 : inR S a 48 57 = true) (hb : skp S (fun k => inR S k 48 57) a = b) : nx S t = (a, b) := by unfold nx nxT; rw [ea, if_neg (by rw [c]; decide), if_pos c2, hb]
theorem nx_3 {S : Ab} {t a : Nat} (ea : nxA S t = a) (c : inR S a 97 122 = false) (c2 : inR S a 48 57 = false) (h : a < aSz S) : nx S t = (a, a + 1) := by unfold nx nxT; rw [ea, if_neg (by rw [c]; decide), if_neg (by rw [c2]; decide), if_pos h]
theorem nx_4 {S : Ab} {t a : Nat} (ea : nxA S t = a) (c : inR S a 97 122 = false) (c2 : inR S a 48 57 = false) (h : ¬ a < aSz S) : nx S t = (a, a) := by unfold nx nxT; rw [ea, if_neg (by rw [c]; decide), if_neg (by rw [c2]; decide), if_neg h]
theorem nuF_le {S : Ab} {tk : Tk} (h : tkOK S tk) (hd : inR S tk.1 48 57 = true) : ∀ j, tk.1 + j ≤ tk.2 → nuF S tk.1 j ≤ 999 := by
  intro j
  induction j with
  | zero => intro _; exact Nat.zero_le _
  | succ j ih =>
    intro hj
    have h1 := ih (by omega)
    have h2 := (inR_lt (h.2.2.2 hd (tk.1 + j) (by omega) (by omega))).2.2
    have h3 : (aTx S (tk.1 + j)).toInt ≤ (57 : Int32).toInt := Int32.le_iff_toInt_le.mp h2
    have e : (57 : Int32).toInt = 57 := by decide
    unfold nuF
    split <;> omega
theorem dig_at {S : Ab} {tk : Tk} (h : tkOK S tk) (hd : inR S tk.1 48 57 = true) {k : Nat} (h1 : tk.1 ≤ k) (h2 : k < tk.2) : aTx S k = nI (aTx S k).toInt.toNat ∧ 48 ≤ (aTx S k).toInt ∧ (aTx S k).toInt ≤ 57 := by
  have h3 := (inR_lt (h.2.2.2 hd k h1 h2)).2
  have g1 : (48 : Int32).toInt ≤ (aTx S k).toInt := Int32.le_iff_toInt_le.mp h3.1
  have g2 : (aTx S k).toInt ≤ (57 : Int32).toInt := Int32.le_iff_toInt_le.mp h3.2
  have e1 : (57 : Int32).toInt = 57 := by decide
  have e2 : (48 : Int32).toInt = 48 := by decide
  refine ⟨?_, by omega, by omega⟩
  apply Int32.toInt_inj.mp
  rw [nI_toInt (by omega)]
  omega
theorem in_nn {lo v hi : Nat} (h1 : lo < 2 ^ 31) (h2 : v < 2 ^ 31) (h3 : hi < 2 ^ 31) : decide (Int32.toInt64 (nI lo) ≤ Int32.toInt64 (nI v) ∧ Int32.toInt64 (nI v) ≤ Int32.toInt64 (nI hi)) = (decide (lo ≤ v) && decide (v ≤ hi)) := by
  rw [← Bool.decide_and]
  apply decide_eq_decide.mpr
  rw [i64_le, i64_le, nI_toInt h1, nI_toInt h2, nI_toInt h3]
  omega
theorem tok_take {S : Ab} {tk : Tk} {j : Nat} (h : j < tk.2 - tk.1) : (tokL S tk).take (j + 1) = (tokL S tk).take j ++ [aTx S (tk.1 + j)] := by
  rw [List.take_succ]
  congr 1
  simp [tokL, h]
theorem tok_full {S : Ab} {tk : Tk} {j : Nat} (h : tk.2 - tk.1 ≤ j) : (tokL S tk).take j = tokL S tk := List.take_of_length_le (by rw [tokL_len]; exact h)
theorem namS_1 {S : Ab} {tk : Tk} (h1 : inR S tk.1 97 122 = true) (h2 : tk.2 - tk.1 ≤ 8) (h3 : ∀ w, w < 9 → wrdB S tk w = false) : namS S tk = some (tokL S tk) := by
  unfold namS
  rw [h1, decide_eq_true h2, if_pos]
  rw [Bool.true_and, Bool.true_and, Bool.not_eq_true', List.any_eq_false]
  intro w hw
  rw [h3 w (List.mem_range.mp hw)]
  decide
theorem namS_0 {S : Ab} {tk : Tk} (h : inR S tk.1 97 122 = false ∨ 8 < tk.2 - tk.1 ∨ ∃ w, w < 9 ∧ wrdB S tk w = true) : namS S tk = none := by
  unfold namS
  apply if_neg
  intro q
  simp only [Bool.and_eq_true, decide_eq_true_eq, Bool.not_eq_true', List.any_eq_false] at q
  rcases h with h | h | ⟨w, h1, h2⟩
  · rw [h] at q; exact absurd q.1 (by decide)
  · omega
  · exact q.2.2 w (List.mem_range.mpr h1) h2
theorem nmJ_m1 {o : Option (List Int32)} (ho : ∀ L, o = some L → nmOK L) : nmJ o = -1 ↔ o = none := by
  cases o with
  | none => exact ⟨fun _ => rfl, fun _ => rfl⟩
  | some L => exact ⟨fun e => absurd e (codeL_m1 (ho L rfl)), fun e => by cases e⟩
theorem cmp_eq {x y : Int64} (h : lg_cmp x y = nI 0) : x = y := (lg_cmp_eq x y).mp h
theorem cmp_ne {x y : Int64} (h : ¬ lg_cmp x y = nI 0) : x ≠ y := fun e => h ((lg_cmp_eq x y).mpr e)
theorem nam_ok {S : Ab} {tk : Tk} (h : tkOK S tk) : ∀ L, namS S tk = some L → nmOK L := fun _ e => (namS_ok h e).1
theorem fnd_oI (G : List (List Int32)) (L : List Int32) {n : Nat} (hn : G.length ≤ n) (h : n < 2 ^ 31) : oI (fnd G L) = -1 ↔ fnd G L = none := oI_none (fun d hd => by have := fnd_lt hd; omega)
theorem w_pos : ∀ w, w < 9 → 0 < (WBYT.getD w []).length := by decide +kernel
theorem lv_topL {p : Program} {l : Launch} {e : Env} {R : Room} {s : State} {m : MethodId} {args : Array Value} {below : List Frame} {meth : Method} {c : Code} {H : Heap} {locs : List Loc} {cells slots : Nat} {Q : State → Prop} {pc : Nat} {ls : Array Slot} {rest : List Value} {x y : Int64} (h : x = y) (k : W p l e R s m args below meth c H locs cells slots Q (F0 m pc ls (.long y :: rest))) : W p l e R s m args below meth c H locs cells slots Q (F0 m pc ls (.long x :: rest)) := by rw [h]; exact k
