/-! which of the words it is, in the component's order -/
set_option maxRecDepth 100000
def stF (k : Nat) : Nat := [0, 6, 11, 17, 22, 28, 31, 34, 37, 44].getD k 0
def prm (k : Nat) : Nat := [0, 1, 3, 4, 5, 2, 6, 7, 8].getD k 0
def WSTR : String := "guest mark above even apart is by in unless "
theorem stF_9 : stF 9 = 44 := rfl
theorem stF_0 : stF 0 = 0 := rfl
theorem stF_ok : ∀ k, k < 9 → stF k + 3 ≤ stF (k + 1) ∧ stF (k + 1) ≤ 44 ∧ prm k < 9 ∧ stF (k + 1) - 1 - stF k = (WBYT.getD (prm k) []).length := by decide +kernel
theorem W_at : ∀ k, k < 9 → ∀ u, u < 7 → u < (WBYT.getD (prm k) []).length → (WBYT.getD 9 []).getD (stF k + u) 0 = (WBYT.getD (prm k) []).getD u 0 := by decide +kernel
theorem W_len : ∀ w, w < 9 → 2 ≤ (WBYT.getD w []).length ∧ (WBYT.getD w []).length ≤ 6 := by decide +kernel
theorem W_sp : ∀ k, k < 9 → (WBYT.getD 9 []).getD (stF (k + 1) - 1) 0 = nI 32 := by decide +kernel
theorem W_no : ∀ k, k < 9 → ∀ u, u < 7 → u < stF (k + 1) - 1 - stF k → (WBYT.getD 9 []).getD (stF k + u) 0 ≠ nI 32 := by decide +kernel
theorem W_let : ∀ w, w < 9 → 97 ≤ (WBYT.getD w []).getD 0 0 ∧ (WBYT.getD w []).getD 0 0 ≤ 122 := by decide +kernel
theorem W_inj : ∀ a, a < 9 → ∀ b, b < 9 → WBYT.getD (prm a) [] = WBYT.getD (prm b) [] → a = b := by decide +kernel
theorem prm_sur : ∀ w, w < 9 → ∃ k, k < 9 ∧ prm k = w := by decide +kernel
theorem ix_end {k r : Nat} (hk : k < 9) (h1 : stF k ≤ r ∧ r < 44 ∧ (WBYT.getD 9 []).getD r 0 = nI 32) (h2 : ∀ u, stF k ≤ u → u < r → (WBYT.getD 9 []).getD u 0 ≠ nI 32) : r = stF (k + 1) - 1 := by
  have hs := stF_ok k hk
  have hl := W_len _ hs.2.2.1
  rcases Nat.lt_trichotomy r (stF (k + 1) - 1) with c | c | c
  · have := W_no k hk (r - stF k) (by omega) (by omega)
    rw [show stF k + (r - stF k) = r by omega] at this
    exact absurd h1.2.2 this
  · exact c
  · exact absurd (W_sp k hk) (h2 _ (by omega) c)
def wdO (S : Ab) (tk : Tk) : Option Nat := (List.range 9).find? (fun k => wrdB S tk (prm k))
section WD
variable {S : Ab} {tk : Tk} {k i : Nat}
theorem wd_t (hk : k < 9) (h1 : i = stF (k + 1) - 1 - stF k) (h2 : i = tk.2 - tk.1) (h3 : ∀ u, u < i → aTx S (tk.1 + u) = (WBYT.getD 9 []).getD (stF k + u) 0) : wrdB S tk (prm k) = true := by
  have hs := stF_ok k hk
  have hl := W_len _ hs.2.2.1
  refine wrdB_t (by omega) (fun u hu => ?_)
  rw [h3 u (by omega), W_at k hk u (by omega) hu]
theorem wd_f (hk : k < 9) (h3 : ∀ u, u < i → aTx S (tk.1 + u) = (WBYT.getD 9 []).getD (stF k + u) 0) (h : ¬ (i = stF (k + 1) - 1 - stF k ∧ i = tk.2 - tk.1)) (hle : i ≤ stF (k + 1) - 1 - stF k ∧ i ≤ tk.2 - tk.1) (he : i = stF (k + 1) - 1 - stF k ∨ i = tk.2 - tk.1 ∨ aTx S (tk.1 + i) ≠ (WBYT.getD 9 []).getD (stF k + i) 0) : wrdB S tk (prm k) = false := by
  have hs := stF_ok k hk
  have hl := W_len _ hs.2.2.1
  refine wrdB_f (fun q => ?_)
  have hlen := q.1
  rcases he with e | e | e
  · exact h ⟨e, by omega⟩
  · exact h ⟨by omega, e⟩
  · have hi : i < (WBYT.getD (prm k) []).length := by
      rcases Nat.lt_or_ge i (WBYT.getD (prm k) []).length with z | z
      · exact z
      · exact absurd ⟨by omega, by omega⟩ h
    exact e ((q.2 i hi).trans (W_at k hk i (by omega) hi).symm)
theorem wrd_let {w : Nat} (hw : w < 9) (hok : tkOK S tk) (h : wrdB S tk w = true) : inR S tk.1 97 122 = true := by
  have h1 := tok_eq.mp (of_decide_eq_true h)
  have h2 := W_len w hw
  have h3 := h1.2 0 (by omega)
  have h4 := W_let w hw
  have h5 := hok.1
  unfold inR
  rw [decide_eq_true (show tk.1 < aSz S by omega)]
  rw [Nat.add_zero] at h3
  rw [h3]
  simp only [Bool.true_and, Bool.and_eq_true, decide_eq_true_eq]
  exact h4
theorem wdO_is (hk : k < 9) : wdO S tk = some k ↔ wrdB S tk (prm k) = true := by
  unfold wdO
  rw [List.find?_range_eq_some]
  constructor
  · intro h; exact h.1
  · intro h
    refine ⟨h, List.mem_range.mpr hk, fun j hj => ?_⟩
    cases c : wrdB S tk (prm j) with
    | false => rfl
    | true => exact absurd (W_inj j (by omega) k hk ((of_decide_eq_true c).symm.trans (of_decide_eq_true h))) (by omega)
theorem wdO_no (h : ∀ u, u < 9 → wrdB S tk (prm u) = false) : wdO S tk = none := by
  unfold wdO
  rw [List.find?_eq_none]
  intro x hx
  rw [h x (List.mem_range.mp hx)]
  decide
theorem wdO_lt {k : Nat} (h : wdO S tk = some k) : k < 9 := List.mem_range.mp (List.mem_of_find?_eq_some h)
theorem wdO_none (hok : tkOK S tk) (h : inR S tk.1 97 122 = false) : wdO S tk = none := wdO_no (fun u hu => by
  cases c : wrdB S tk (prm u) with
  | false => rfl
  | true => rw [wrd_let (stF_ok u hu).2.2.1 hok c] at h; cases h)
theorem wdO_any : (wdO S tk).isSome = (List.range 9).any (fun w => wrdB S tk w) := by
  rw [Bool.eq_iff_iff, List.any_eq_true]
  constructor
  · intro h
    obtain ⟨k, hk⟩ := Option.isSome_iff_exists.mp h
    exact ⟨prm k, List.mem_range.mpr (stF_ok k (wdO_lt hk)).2.2.1, (wdO_is (wdO_lt hk)).mp hk⟩
  · intro ⟨w, hw, h⟩
    obtain ⟨k, hk, rfl⟩ := prm_sur w (List.mem_range.mp hw)
    rw [(wdO_is hk).mpr h]
    rfl
end WD
