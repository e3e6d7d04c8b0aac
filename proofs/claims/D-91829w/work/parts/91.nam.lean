/-! a name against the text -/
set_option maxRecDepth 100000
def allP (tx fn : Nat → Int32) (f : Nat) : Nat → Bool
  | 0 => true
  | k + 1 => allP tx fn f k && decide (tx (f + k) = fn k)
theorem allP_f {tx fn : Nat → Int32} {f k : Nat} (h : allP tx fn f k = false) : ∀ n, k ≤ n → allP tx fn f n = false := by
  intro n
  induction n with
  | zero => intro q; rw [show k = 0 by omega] at h; cases h
  | succ n ih =>
    intro q
    by_cases c : k = n + 1
    · rw [← c]; exact h
    · unfold allP; rw [ih (by omega)]; rfl
theorem is_1 {b c is1 : Bool} (h : is1 = (b && c)) (q : is1 = true) : b = true := ((Bool.and_eq_true_iff).mp (h.symm.trans q)).1
theorem is_next {b is1 : Bool} {tx fn : Nat → Int32} {f k : Nat} (h : is1 = (b && allP tx fn f k)) (q : is1 = true) : decide (tx (f + k) = fn k) = (b && allP tx fn f (k + 1)) := by
  rw [q] at h
  have hb : b = true ∧ allP tx fn f k = true := (Bool.and_eq_true_iff).mp h.symm
  unfold allP
  rw [hb.1, hb.2]
  simp
theorem is_stop {b is1 : Bool} {tx fn : Nat → Int32} {f k n : Nat} (h : is1 = (b && allP tx fn f k)) (q : is1 = false) (hk : k ≤ n) : (b && allP tx fn f n) = false := by
  rw [q] at h
  cases b with
  | false => rfl
  | true => rw [Bool.true_and] at h ⊢; exact allP_f h.symm n hk
