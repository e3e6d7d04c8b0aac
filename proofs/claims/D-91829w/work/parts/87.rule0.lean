/-! a rule is made: small rows -/
set_option maxRecDepth 100000
theorem gcap_13 : gcap 13 = 1234 := by decide
theorem AL.j13 {K4 : ClassId} {ed : Nat} {h : Hp} {a t : Nat} {L : List Nat} {j : Nat} (A : AL K4 ed h a t L j) : j ≤ 13 := by
  obtain ⟨mcn, d, he, hob, hlen, hdd⟩ := A
  exact hlen.2
theorem j_next {j j2 : Nat} {L : List Nat} {q : Nat} (h : j = 0 ∨ gcap (j - 1) + 1 ≤ L.length) (hj : j2 = j ∨ (j2 = j + 1 ∧ L.length = gcap j)) : j2 = 0 ∨ gcap (j2 - 1) + 1 ≤ (L ++ [q]).length := by
  rw [len_push]
  rcases hj with e | ⟨e, g⟩
  · subst e; rcases h with z | z
    · exact Or.inl z
    · exact Or.inr (by omega)
  · subst e
    exact Or.inr (by rw [show j + 1 - 1 = j by omega]; omega)
theorem c_next {j j2 n cells slots : Nat} {G : Prop} (h : cells ≤ 1 + n + j ∧ slots ≤ 3 + 2 * n + gsum j) (hj : j2 = j ∨ (j2 = j + 1 ∧ G)) : cells + 1 + 0 + (j2 - j) ≤ 1 + (n + 1) + j2 ∧ slots + 2 + 0 + (gsum j2 - gsum j) ≤ 3 + 2 * (n + 1) + gsum j2 := by
  rcases hj with e | ⟨e, -⟩
  · subst e; omega
  · subst e
    have : gsum (j + 1) = gsum j + gcap (j + 1) := rfl
    omega
theorem ru_fr {h : Hp} {a la t tl : Nat} {c0 c1 c2 c3 c4 c5 c6 cl : va_E} (he : h a = some (c0, t)) (hn : h la = none) : frO t tl h (hset (hset (hset (hset (hset (hset (hset h la cl tl) a c1 t) a c2 t) a c3 t) a c4 t) a c5 t) a c6 t) := by
  intro b e u hb n1 n2
  have na : b ≠ a := fun q => by subst q; rw [he] at hb; cases hb; exact n1 rfl
  rw [hset_ne _ _ _ na, hset_ne _ _ _ na, hset_ne _ _ _ na, hset_ne _ _ _ na, hset_ne _ _ _ na, hset_ne _ _ _ na, hset_ne _ _ _ (ne_new hb hn)]
  exact hb
theorem ru_ob {h : Hp} {a la t tl : Nat} {c0 cl : va_E} {x1 x2 x3 x4 x5 x6 : Nat × List Value} (he : h a = some (c0, t)) (hn : h la = none) : obK h (hset (hset (hset (hset (hset (hset (hset h la cl tl) a (.inr x1) t) a (.inr x2) t) a (.inr x3) t) a (.inr x4) t) a (.inr x5) t) a (.inr x6) t) := by
  intro y hy
  by_cases c : y = a
  · subst c; exact ⟨x6.1, x6.2, t, hset_self _ _ _ _⟩
  · obtain ⟨ci, fs, u, hb⟩ := hy
    refine ⟨ci, fs, u, ?_⟩
    rw [hset_ne _ _ _ c, hset_ne _ _ _ c, hset_ne _ _ _ c, hset_ne _ _ _ c, hset_ne _ _ _ c, hset_ne _ _ _ c, hset_ne _ _ _ (ne_new hb hn)]
    exact hb
theorem gcap_8 : ∀ j, j ≤ 7 → gcap (j + 1) ≤ 163 := by decide
