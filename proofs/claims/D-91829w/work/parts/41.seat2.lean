/-! seatings: the table of weights -/
set_option maxRecDepth 100000
/-- done in the order of the four loops: before (i, j, a, b) -/
def bef (i j a b i' j' a' b' : Nat) : Prop := i' < i ∨ (i' = i ∧ (j' < j ∨ (j' = j ∧ (a' < a ∨ (a' = a ∧ b' < b)))))
def wpI (S : Ab) (q n : Nat) (mem : List Nat) (i j a b : Nat) (U : Nat → Nat → Int32) : Prop := ∀ i' j' a' b', i' < mem.length → j' < mem.length → a' < n → b' < n → bef i j a b i' j' a' b' → U 55 (80 * (8 * i' + a') + 8 * j' + b') = nI (wgP S q i' j' (mem.getD i' 0) (mem.getD j' 0) a' b') ∧ U 56 (80 * (8 * i' + a') + 8 * j' + b') = nI (hvP S q i' j' (mem.getD i' 0) (mem.getD j' 0) a' b')
theorem wp_0 {S : Ab} {q n : Nat} {mem : List Nat} {U : Nat → Nat → Int32} : wpI S q n mem 0 0 0 0 U := fun i' j' a' b' _ _ _ _ h => by unfold bef at h; omega
theorem wp_of {S : Ab} {q n : Nat} {mem : List Nat} {U : Nat → Nat → Int32} {i j a b i2 j2 a2 b2 : Nat} (H : wpI S q n mem i j a b U) (h : ∀ i' j' a' b', i' < mem.length → j' < mem.length → a' < n → b' < n → bef i2 j2 a2 b2 i' j' a' b' → bef i j a b i' j' a' b') : wpI S q n mem i2 j2 a2 b2 U := fun i' j' a' b' h1 h2 h3 h4 h5 => H i' j' a' b' h1 h2 h3 h4 (h i' j' a' b' h1 h2 h3 h4 h5)
theorem wp_step {S : Ab} {q n : Nat} {mem : List Nat} {U U' : Nat → Nat → Int32} {i j a b : Nat} (H : wpI S q n mem i j a b U) (h7 : mem.length ≤ 7) (h8 : n ≤ 8) (hj : j < mem.length) (hb : b < n) (e1 : U' 55 (80 * (8 * i + a) + 8 * j + b) = nI (wgP S q i j (mem.getD i 0) (mem.getD j 0) a b)) (e2 : U' 56 (80 * (8 * i + a) + 8 * j + b) = nI (hvP S q i j (mem.getD i 0) (mem.getD j 0) a b)) (e3 : ∀ t, t ≠ 80 * (8 * i + a) + 8 * j + b → U' 55 t = U 55 t ∧ U' 56 t = U 56 t) : wpI S q n mem i j a (b + 1) U' := fun i' j' a' b' h1 h2 h3 h4 h5 => by
  by_cases e : i' = i ∧ j' = j ∧ a' = a ∧ b' = b
  · obtain ⟨rfl, rfl, rfl, rfl⟩ := e
    exact ⟨e1, e2⟩
  · have hne : 80 * (8 * i' + a') + 8 * j' + b' ≠ 80 * (8 * i + a) + 8 * j + b := by
      intro q
      apply e
      unfold bef at h5
      omega
    have hb' : bef i j a b i' j' a' b' := by unfold bef at h5 ⊢; omega
    have := H i' j' a' b' h1 h2 h3 h4 hb'
    rw [(e3 _ hne).1, (e3 _ hne).2]
    exact this
