/-! the walk along a ring, in the component -/
set_option maxRecDepth 100000
section RG2
variable {A : Gr} {n f b i y : Nat} {x : Int32}
theorem far_self (k : Nat) : farO A n (2 ^ n - 1) f k f = some 0 := by
  induction k with
  | zero => exact if_pos rfl
  | succ k ih => exact farO_keep ih
theorem rg_f (h : i + 1 < b) : farO A n (2 ^ n - 1) f 10 f ≠ some (b - i - 1) := by
  rw [far_self]
  intro q
  have := Option.some.inj q
  omega
theorem rg_no (hf : f < n) (hx : x = oI (stO A n f 10 y)) (hne : ¬ x = nI (b - 1 - i)) (h : i + 1 < b) : farO A n (2 ^ n - 1) f 10 y ≠ some (b - i - 1) := by
  by_cases c : y = f
  · rw [c]; exact rg_f h
  · rw [← st_far hf c]
    intro q
    apply hne
    rw [hx, q, show b - 1 - i = b - i - 1 by omega]
    rfl
theorem rg_yes (hf : f < n) (hx : x = oI (stO A n f 10 y)) (he : x = nI (b - 1 - i)) (hy : y ≠ f) (hb : b < 100) : farO A n (2 ^ n - 1) f 10 y = some (b - i - 1) := by
  rw [← st_far hf hy]
  have := (oI_some (st_b (A := A) (n := n) (t := f) (k := 10) (x := y) (by decide)) (show b - 1 - i < 2 ^ 31 by omega)).mp (hx.symm.trans he)
  rw [this, show b - 1 - i = b - i - 1 by omega]
end RG2
