/-! THE READER in the model: marks, rules, lines -/
set_option maxRecDepth 100000
theorem rdB_more {S : Ab} {D : Dr} {f b g : Nat} {tk : Tk} (hf : 0 < f) (e1 : mbOk D (namS S tk) b = true) (eg : gstO D (namS S tk) = some g) (hn : (namS S (nx S tk.2)).isSome = true) : rdB S D f tk b = rdB S D (f - 1) (nx S tk.2) (b ||| 2 ^ g) := by
  obtain ⟨k, rfl⟩ : ∃ k, f = k + 1 := ⟨f - 1, by omega⟩
  conv => lhs; unfold rdB
  rw [pas_t e1, xb_ok, if_pos hn, eg]
  rfl
theorem rdB_last {S : Ab} {D : Dr} {f b g : Nat} {tk : Tk} (hf : 0 < f) (e1 : mbOk D (namS S tk) b = true) (eg : gstO D (namS S tk) = some g) (hn : (namS S (nx S tk.2)).isSome = false) : rdB S D f tk b = .ok (nx S tk.2, b ||| 2 ^ g) := by
  obtain ⟨k, rfl⟩ : ∃ k, f = k + 1 := ⟨f - 1, by omega⟩
  unfold rdB
  rw [pas_t e1, xb_ok, if_neg (by rw [hn]; decide), eg]
  rfl
theorem rdB_err {S : Ab} {D : Dr} {f b : Nat} {tk : Tk} (hf : 0 < f) (e1 : mbOk D (namS S tk) b = false) : rdB S D f tk b = .error tk.1 := by
  obtain ⟨k, rfl⟩ : ∃ k, f = k + 1 := ⟨f - 1, by omega⟩
  unfold rdB
  rw [pas_f e1, xb_er]
theorem mb_t {D : Dr} {o : Option (List Int32)} {b g : Nat} (eg : gstO D o = some g) (h : b.testBit g = false) : mbOk D o b = true := by unfold mbOk; rw [eg]; simp [h]
theorem mb_f {D : Dr} {o : Option (List Int32)} {b g : Nat} (eg : gstO D o = some g) (h : b.testBit g = true) : mbOk D o b = false := by unfold mbOk; rw [eg]; simp [h]
theorem mb_n {D : Dr} {o : Option (List Int32)} {b : Nat} (eg : gstO D o = none) : mbOk D o b = false := by unfold mbOk; rw [eg]
theorem gst_oI {D : Dr} (hD : drOK D) (o : Option (List Int32)) : oI (gstO D o) = -1 ↔ gstO D o = none := oI_none (fun d hd => by have := gst_lt hd; have := hD.1.1; omega)
theorem mrk_oI {D : Dr} (hD : drOK D) (o : Option (List Int32)) : oI (mrkO D o) = -1 ↔ mrkO D o = none := oI_none (fun d hd => by have := mrk_lt hd; have := hD.1.2.1; omega)
theorem xk_t {α : Type} {r : Except Nat α} (h : xk r = true) : ∃ x, r = .ok x := by
  cases r with
  | error a => cases h
  | ok x => exact ⟨x, rfl⟩
theorem xk_f {α : Type} {r : Except Nat α} (h : xk r = false) : ∃ a, r = .error a := by
  cases r with
  | error a => exact ⟨a, rfl⟩
  | ok x => cases h
theorem drR.w10 {D : Dr} {V : Nat → Nat → Int32} {J : Nat → Nat → Int64} (h : drR D V J) (x : Int32) : drR D (vset V 10 D.2.1.length x) J := by
  obtain ⟨a, b, c, d⟩ := h
  refine ⟨?_, b, fun k hk => ?_, ?_⟩
  · rw [vset_off _ _ (show 29 ≠ 10 by decide), vset_off _ _ (show 30 ≠ 10 by decide), vset_off _ _ (show 31 ≠ 10 by decide)]; exact a
  · rw [vset_ne _ _ (show k ≠ D.2.1.length by omega)]; exact c k hk
  · simp only [vset_off V _ (show 13 ≠ 10 by decide), vset_off V _ (show 16 ≠ 10 by decide), vset_off V _ (show 19 ≠ 10 by decide), vset_off V _ (show 22 ≠ 10 by decide), vset_off V _ (show 25 ≠ 10 by decide), vset_off V _ (show 28 ≠ 10 by decide)]
    exact d
theorem drR.j7 {D : Dr} {V : Nat → Nat → Int32} {J : Nat → Nat → Int64} (h : drR D V J) (x : Int64) : drR D V (jset J 7 D.2.1.length x) := by
  obtain ⟨a, b, c, d⟩ := h
  refine ⟨a, fun k hk => by rw [jset_off _ _ (by decide)]; exact b k hk, fun k hk => ?_, d⟩
  rw [jset_in, if_neg (by omega)]; exact c k hk
theorem drR.wr {D : Dr} {V : Nat → Nat → Int32} {J : Nat → Nat → Int64} (h : drR D V J) {k : Nat} (hk : k ∈ [13, 16, 19, 22, 25, 28]) (x : Int32) : drR D (vset V k D.2.2.length x) J := by
  have key : ∀ j i, (j ≠ k ∨ i < D.2.2.length) → vset V k D.2.2.length x j i = V j i := by
    intro j i hji
    by_cases e : j = k
    · subst e; rw [vset_in, if_neg (by rcases hji with q | q; exact absurd rfl q; omega)]
    · rw [vset_off _ _ e]
  have h9 : 10 ≠ k ∧ 29 ≠ k ∧ 30 ≠ k ∧ 31 ≠ k := by
    refine ⟨?_, ?_, ?_, ?_⟩ <;> (intro e; subst e; revert hk; decide)
  obtain ⟨a, b, c, d⟩ := h
  refine ⟨?_, b, fun i hi => ?_, fun i hi => ?_⟩
  · rw [key 29 1 (Or.inl h9.2.1), key 30 1 (Or.inl h9.2.2.1), key 31 1 (Or.inl h9.2.2.2)]; exact a
  · rw [key 10 i (Or.inl h9.1)]; exact c i hi
  · rw [key 13 i (Or.inr hi), key 16 i (Or.inr hi), key 19 i (Or.inr hi), key 22 i (Or.inr hi), key 25 i (Or.inr hi), key 28 i (Or.inr hi)]; exact d i hi
theorem nx_rdP {S : Ab} {tk : Tk} {I P : Nat → Int32} (h : rdP S tk I) (hk : kp [2, 3] I P) (e2 : P 2 = nI (nx S tk.2).1) (e3 : P 3 = nI (nx S tk.2).2) : rdP S (nx S tk.2) P := ⟨e2, e3, (hk 4 (by decide)).trans h.2.2.1, (nx_ok h.2.2.2.1.2).1⟩
theorem sd_1 {D : Dr} {o : Option (List Int32)} {g : Nat} (h : gstO D o = some g) : sdB D o = true ∧ sdV D o = g := by unfold sdB sdV; rw [h]; exact ⟨rfl, rfl⟩
theorem sd_2 {D : Dr} {o : Option (List Int32)} {m : Nat} (h : gstO D o = none) (h2 : mrkO D o = some m) : sdB D o = true ∧ sdV D o = 100 + m := by unfold sdB sdV; rw [h, h2]; exact ⟨rfl, rfl⟩
theorem sd_3 {D : Dr} {o : Option (List Int32)} (h : gstO D o = none) (h2 : mrkO D o = none) : sdB D o = false := by unfold sdB; rw [h, h2]; rfl
