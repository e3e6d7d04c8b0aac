/-! passing a token; numbers; names -/
set_option maxRecDepth 100000
section PS
variable {S : Ab} {b : Bool} {tk : Tk}
theorem pasE_ok (hb : b = true) (h : badT S (nx S tk.2) = false) : pasE S b tk = .ok (nx S tk.2) := by unfold pasE nxE; rw [if_pos hb, if_neg (by rw [h]; decide)]
theorem pasE_b (hb : b = true) (h : badT S (nx S tk.2) = true) : pasE S b tk = .error (nx S tk.2).1 := by unfold pasE nxE; rw [if_pos hb, if_pos h]
theorem pasE_f (hb : b = false) : pasE S b tk = .error tk.1 := by unfold pasE; rw [if_neg (by rw [hb]; decide)]
end PS
def dN (S : Ab) (j : Nat) : Nat := ((aTx S j).toInt - 48).toNat
def nuC (S : Ab) (a : Nat) : Nat → Nat
  | 0 => 0
  | k + 1 => min 1000 (10 * nuC S a k + dN S (a + k))
theorem dig_eq {S : Ab} {j : Nat} (h : inR S j 48 57 = true) : aTx S j = nI (48 + dN S j) ∧ dN S j ≤ 9 := by
  have h1 := inR_lt h
  have h2 : (48 : Int32).toInt ≤ (aTx S j).toInt := Int32.le_iff_toInt_le.mp h1.2.1
  have h3 : (aTx S j).toInt ≤ (57 : Int32).toInt := Int32.le_iff_toInt_le.mp h1.2.2
  have e1 : (48 : Int32).toInt = 48 := by decide
  have e2 : (57 : Int32).toInt = 57 := by decide
  unfold dN
  refine ⟨?_, by omega⟩
  apply Int32.toInt_inj.mp
  rw [nI_toInt (by omega)]
  omega
theorem nuC_le (S : Ab) (a : Nat) : ∀ k, nuC S a k ≤ 1000 := by
  intro k
  cases k with
  | zero => exact Nat.zero_le _
  | succ k => rw [nuC]; omega
theorem nuC_nuF (S : Ab) (a : Nat) : ∀ k, (nuF S a k ≤ 99 → nuC S a k = nuF S a k) ∧ (99 < nuF S a k → 99 < nuC S a k) := by
  intro k
  induction k with
  | zero => exact ⟨fun _ => rfl, fun h => absurd h (by show ¬ 99 < 0; omega)⟩
  | succ k ih =>
    rw [nuC, nuF]
    have e : dN S (a + k) = ((aTx S (a + k)).toInt - 48).toNat := rfl
    by_cases c : 99 < nuF S a k
    · rw [if_pos c]
      have := ih.2 c
      omega
    · rw [if_neg c, ih.1 (by omega), ← e]
      omega
theorem nu_in {S : Ab} {t1 t2 lo hi : Nat} (hd : inR S t1 48 57 = true) (hh : hi ≤ 99) : (decide (lo ≤ nuC S t1 (t2 - t1)) && decide (nuC S t1 (t2 - t1) ≤ hi)) = nuB S (t1, t2) lo hi ∧ (nuC S t1 (t2 - t1) ≤ hi → nuC S t1 (t2 - t1) = nuV S (t1, t2)) := by
  have h := nuC_nuF S t1 (t2 - t1)
  have e : nuV S (t1, t2) = nuF S t1 (t2 - t1) := if_pos hd
  unfold nuB
  rw [e, show inR S (t1, t2).1 48 57 = true from hd, Bool.true_and]
  by_cases c : nuF S t1 (t2 - t1) ≤ 99
  · rw [h.1 c]; exact ⟨rfl, fun _ => rfl⟩
  · have := h.2 (by omega)
    refine ⟨?_, fun q => by omega⟩
    rw [decide_eq_false (show ¬ nuC S t1 (t2 - t1) ≤ hi by omega), decide_eq_false (show ¬ nuF S t1 (t2 - t1) ≤ hi by omega), Bool.and_false, Bool.and_false]
theorem nam_is {S : Ab} {t1 t2 : Nat} : (namS S (t1, t2)).isSome = (inR S t1 97 122 && (decide (wdO S (t1, t2) = none) && decide (t2 - t1 ≤ 8))) := by
  have e : (!((List.range 9).any (fun w => wrdB S (t1, t2) w))) = decide (wdO S (t1, t2) = none) := by
    rw [← wdO_any]
    cases wdO S (t1, t2) <;> rfl
  unfold namS
  rw [e]
  show Option.isSome (if (inR S t1 97 122 && (decide (t2 - t1 ≤ 8) && decide (wdO S (t1, t2) = none))) = true then some (tokL S (t1, t2)) else none) = _
  rw [Bool.and_comm (decide (t2 - t1 ≤ 8))]
  split
  · rename_i c; rw [c]; rfl
  · rename_i c; rw [Bool.not_eq_true] at c; rw [c]; rfl
theorem oI_9 {o : Option Nat} (ho : ∀ k, o = some k → k < 9) {n : Nat} (hn : n < 9) : oI o = nI n ↔ o = some n := oI_some (fun d e => by have := ho d e; omega) (by omega)
theorem oI_no {o : Option Nat} (ho : ∀ k, o = some k → k < 9) : oI o = -1 ↔ o = none := oI_none (fun d e => by have := ho d e; omega)
