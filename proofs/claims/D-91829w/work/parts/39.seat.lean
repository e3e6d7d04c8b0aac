/-! seatings: what two places weigh -/
set_option maxRecDepth 100000
def wM1 (S : Ab) (q r x y a b : Nat) : Bool := cntF S r (nI q) x y && decide (whoM S r q 0 a b ≠ 0)
def wMany (S : Ab) (q r x y a b : Nat) : Nat := if aKd S r = 0 then (if wM1 S q r x y a b then 1 else 0) + (if wM1 S q r y x b a then 1 else 0) else (if wM1 S q r x y a b then 1 else 0)
def wgR (S : Ab) (q x y a b : Nat) : Nat → Nat
  | 0 => 0
  | r + 1 => wgR S q x y a b r + wMany S q r x y a b * aWt S r
def hvR (S : Ab) (q x y a b : Nat) : Nat → Nat
  | 0 => 0
  | r + 1 => if 0 < wMany S q r x y a b then max (hvR S q x y a b r) (aWt S r) else hvR S q x y a b r
theorem wMany_le (S : Ab) (q r x y a b : Nat) : wMany S q r x y a b ≤ 2 := by
  unfold wMany
  split <;> split <;> (try split) <;> omega
theorem wgR_le {S : Ab} (hO : SOK S) (q x y a b : Nat) : ∀ r, r ≤ aRl S → wgR S q x y a b r ≤ 18 * r ∧ hvR S q x y a b r ≤ 9 := by
  intro r
  induction r with
  | zero => intro _; exact ⟨Nat.zero_le _, Nat.zero_le _⟩
  | succ r ih =>
    intro hr
    have h1 := ih (by omega)
    have h2 := (hO.wt (r := r) (by omega)).2
    have h3 := wMany_le S q r x y a b
    have h4 := Nat.mul_le_mul h3 h2
    refine ⟨?_, ?_⟩
    · unfold wgR; omega
    · unfold hvR; split <;> omega
/-- for members i, j, who are x, y, at places a, b -/
def wgP (S : Ab) (q i j x y a b : Nat) : Nat := if i < j ∧ a ≠ b then wgR S q x y a b (aRl S) else 0
def hvP (S : Ab) (q i j x y a b : Nat) : Nat := if i < j ∧ a ≠ b then hvR S q x y a b (aRl S) else 0
