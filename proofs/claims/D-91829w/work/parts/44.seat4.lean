/-! seatings: small rows -/
set_option maxRecDepth 100000
theorem idx_first {L : List Nat} {g i : Nat} (hi : i < L.length) (e : L.getD i 0 = g) (hno : ∀ u, u < i → L.getD u 0 ≠ g) : i = L.idxOf g := by
  have hm : g ∈ L := e ▸ getD_mem hi
  have hx := idx_at hm
  rcases Nat.lt_trichotomy (L.idxOf g) i with q | q | q
  · exact absurd hx.2 (hno _ q)
  · exact q.symm
  · exfalso
    have h1 := List.not_of_lt_findIdx (p := fun x => x == g) (xs := L) (i := i) q
    have h2 : L[i]'hi = g := by rw [← e]; simp [hi]
    rw [h2, beq_self_eq_true] at h1
    cases h1
