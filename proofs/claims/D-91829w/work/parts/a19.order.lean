/-! order in the component: small rows -/
set_option maxRecDepth 100000
def gL (Ls : Nat → List Nat) (L : List Nat) : List Nat := L.map (fun g => (Ls 0).getD g 0)
theorem gL_len {Ls : Nat → List Nat} {L : List Nat} : (gL Ls L).length = L.length := by unfold gL; rw [List.length_map]
theorem gL_get {Ls : Nat → List Nat} {L : List Nat} {i : Nat} (h : i < L.length) : Value.ref ((gL Ls L).getD i 0) = .ref ((Ls 0).getD (L.getD i 0) 0) := by
  unfold gL
  rw [List.getD_eq_getElem?_getD, List.getElem?_map, List.getElem?_eq_getElem h, List.getD_eq_getElem?_getD (l := L), List.getElem?_eq_getElem h]
  rfl
theorem gL_er {Ls : Nat → List Nat} : ∀ (L : List Nat) (i : Nat), (gL Ls L).eraseIdx i = gL Ls (L.eraseIdx i) := by
  intro L
  induction L with
  | nil => intro i; rfl
  | cons a L ih =>
    intro i
    cases i with
    | zero => rfl
    | succ i =>
      show (Ls 0).getD a 0 :: (gL Ls L).eraseIdx i = (Ls 0).getD a 0 :: gL Ls (L.eraseIdx i)
      rw [ih]
theorem er_er {L : List Nat} (hn : L.Nodup) {i : Nat} (hi : i < L.length) : L.eraseIdx i = L.erase (L.getD i 0) := (List.erase_eq_eraseIdx_of_idxOf (idx_of hn hi)).symm
def heldB (A : Gr) (L : List Nat) (g : Nat) : Bool := L.any (fun x => A x g)
theorem held_t {A : Gr} {L : List Nat} {g k : Nat} (hk : k < L.length) (h : A (L.getD k 0) g = true) : heldB A L g = true := List.any_eq_true.mpr ⟨_, getD_mem hk, h⟩
theorem held_f {A : Gr} {L : List Nat} {g : Nat} (h : ∀ u, u < L.length → ¬ A (L.getD u 0) g = true) : heldB A L g = false := by
  unfold heldB
  rw [List.any_eq_false]
  intro x hx
  obtain ⟨h1, h2⟩ := idx_at hx
  have := h _ h1
  rw [h2] at this
  exact this
theorem pick_first {A : Gr} : ∀ (M L : List Nat) (i : Nat), i < L.length → heldB A M (L.getD i 0) = false → (∀ u, u < i → heldB A M (L.getD u 0) = true) → L.find? (fun g => !(M.any (fun x => A x g))) = some (L.getD i 0) := by
  intro M L
  induction L with
  | nil => intro i h; exact absurd h (Nat.not_lt_zero _)
  | cons a L ih =>
    intro i hi h1 h2
    cases i with
    | zero =>
      rw [List.find?_cons]
      have : M.any (fun x => A x a) = false := h1
      rw [this]
      rfl
    | succ i =>
      rw [List.find?_cons]
      have : M.any (fun x => A x a) = true := h2 0 (by omega)
      rw [this]
      exact ih i (by rw [List.length_cons] at hi; omega) h1 (fun u hu => h2 (u + 1) (by omega))
theorem pick_at {A : Gr} {L : List Nat} {i : Nat} (hi : i < L.length) (h1 : heldB A L (L.getD i 0) = false) (h2 : ∀ u, u < i → heldB A L (L.getD u 0) = true) : pickL A L = some (L.getD i 0) := pick_first L L i hi h1 h2
theorem pick_lt {A : Gr} {L : List Nat} {i : Nat} (hp : ∃ g, pickL A L = some g) (hi : i < L.length) (h2 : ∀ u, u < i + 1 → heldB A L (L.getD u 0) = true) : i + 1 < L.length := by
  rcases Nat.lt_or_ge (i + 1) L.length with q | q
  · exact q
  · obtain ⟨g, hg⟩ := hp
    have hm := pick_mem hg
    obtain ⟨h3, h4⟩ := idx_at hm.1
    have := h2 _ (show L.idxOf g < i + 1 by omega)
    rw [h4] at this
    unfold heldB at this
    rw [hm.2] at this
    cases this
theorem ord_at {A : Gr} {f g : Nat} {L pre M : List Nat} (h : M = pre ++ ordL A (f + 1) L) (hp : pickL A L = some g) : M.getD pre.length 0 = g ∧ M = (pre ++ [g]) ++ ordL A f (L.erase g) := by
  have e : ordL A (f + 1) L = g :: ordL A f (L.erase g) := by rw [ordL, hp]
  rw [e] at h
  refine ⟨?_, by rw [h, List.append_assoc]; rfl⟩
  rw [h, List.getD_eq_getElem?_getD, List.getElem?_append_right (Nat.le_refl _), Nat.sub_self]
  rfl
section ZUP
variable {K : Nat → ClassId} {ed : Nat} {S : Ab} {h hX : Hp} {w : Nat → Nat} {Ls : Nat → List Nat} {J : Nat → Nat} {Z Z1 : Nat → Nat → Int32}
theorem zset_up (W : CW K ed S h w Ls J Z1) (x : exH (zset h K w S Z) hX) (Y : Nat → Nat → Int32) : exH (zset h K w S Y) (zset hX K w S Y) := by
  intro b e u q
  rw [← zset_zset W Z Y] at q
  unfold zset at q ⊢
  by_cases c0 : b = w 0
  · rw [if_pos c0] at q ⊢; exact q
  · rw [if_neg c0] at q ⊢
    by_cases c1 : b = w 7
    · rw [if_pos c1] at q ⊢; exact q
    · rw [if_neg c1] at q ⊢
      by_cases c2 : b = w 8
      · rw [if_pos c2] at q ⊢; exact q
      · rw [if_neg c2] at q ⊢
        by_cases c3 : b = w 9
        · rw [if_pos c3] at q ⊢; exact q
        · rw [if_neg c3] at q ⊢
          by_cases c4 : b = w 10
          · rw [if_pos c4] at q ⊢; exact q
          · rw [if_neg c4] at q ⊢
            by_cases c5 : b = w 11
            · rw [if_pos c5] at q ⊢; exact q
            · rw [if_neg c5] at q ⊢
              by_cases c6 : b = w 12
              · rw [if_pos c6] at q ⊢; exact q
              · rw [if_neg c6] at q ⊢
                exact x b e u q
theorem noT_z {t : Nat} (W : CW K ed S h w Ls J Z1) (hn : noT t (zset h K w S Z)) (ht : 30 ≤ t) (Y : Nat → Nat → Int32) : noT t (zset h K w S Y) := by
  intro b e q
  by_cases c0 : b = w 0
  · rw [c0, zset_x] at q; cases q; omega
  · by_cases hk : ∀ k, k < 6 → b ≠ w (7 + k)
    · rw [zset_o c0 hk] at q
      exact hn b e (by rw [zset_o c0 hk]; exact q)
    · have : ∃ k, k < 6 ∧ b = w (7 + k) := by
        apply Classical.byContradiction
        intro z
        exact hk (fun k hk2 e => z ⟨k, hk2, e⟩)
      obtain ⟨k, hk2, e2⟩ := this
      rw [e2, zset_a W Y k hk2] at q
      have := (Prod.mk.inj (Option.some.inj q)).2
      omega
end ZUP
theorem all_up {P : Nat → Prop} {k : Nat} (h : ∀ u, u < k → P u) (hk : P k) : ∀ u, u < k + 1 → P u := fun u hu => by
  rcases Nat.lt_succ_iff_lt_or_eq.mp hu with q | q
  · exact h u q
  · rw [q]; exact hk
