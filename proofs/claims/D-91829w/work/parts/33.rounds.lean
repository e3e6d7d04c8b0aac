/-! rounds: who hangs together, and the least steps -/
set_option maxRecDepth 100000
theorem evn_com {S : Ab} {room : Int32} {x y : Nat} (h : evn S room x y = true) : aCm S x = true ∧ aCm S y = true := by
  unfold evn at h
  obtain ⟨r, -, hr⟩ := (anyB_iff _ _).mp h
  simp [cntF] at hr
  exact ⟨hr.2.1.1.2, hr.2.1.2⟩
theorem evn_sym {S : Ab} {room : Int32} {x y : Nat} (h : evn S room x y = true) : evn S room y x = true := by
  unfold evn at h ⊢
  obtain ⟨r, h1, hr⟩ := (anyB_iff _ _).mp h
  refine (anyB_iff _ _).mpr ⟨r, h1, ?_⟩
  simp [cntF, hasC] at hr ⊢
  obtain ⟨a, ⟨⟨b, c1⟩, c2⟩, d⟩ := hr
  refine ⟨a, ⟨⟨b, c2⟩, c1⟩, ?_⟩
  rw [a] at d ⊢
  simp at d ⊢
  exact d.symm
/-- x leads to y by at most k evens -/
def pthB (E : Gr) (n : Nat) : Nat → Nat → Nat → Bool
  | 0, x, y => decide (x = y)
  | k + 1, x, y => decide (x = y) || anyB (fun z => E x z && pthB E n k z y) n
theorem pth_rf (E : Gr) (n k x : Nat) : pthB E n k x x = true := by cases k <;> simp [pthB]
theorem pth_mono {E : Gr} {n : Nat} : ∀ k x y, pthB E n k x y = true → pthB E n (k + 1) x y = true := by
  intro k
  induction k with
  | zero => intro x y h; simp [pthB] at h; rw [h]; exact pth_rf _ _ _ _
  | succ k ih =>
    intro x y h
    rw [pthB, Bool.or_eq_true] at h ⊢
    rcases h with h | h
    · exact Or.inl h
    · obtain ⟨z, hz, h⟩ := (anyB_iff _ _).mp h
      rw [Bool.and_eq_true] at h
      exact Or.inr ((anyB_iff _ _).mpr ⟨z, hz, by rw [Bool.and_eq_true]; exact ⟨h.1, ih _ _ h.2⟩⟩)
theorem cntN_mono {p q : Nat → Bool} (h : ∀ x, p x = true → q x = true) : ∀ n, cntN p n ≤ cntN q n ∧ ((∃ x, x < n ∧ p x = false ∧ q x = true) → cntN p n < cntN q n) := by
  intro n
  induction n with
  | zero => exact ⟨Nat.le_refl _, fun ⟨x, hx, _⟩ => absurd hx (Nat.not_lt_zero _)⟩
  | succ n ih =>
    unfold cntN
    have hh := h n
    refine ⟨?_, ?_⟩
    · have := ih.1
      cases hp : p n <;> cases hq : q n <;> simp_all <;> omega
    · rintro ⟨x, hx, hp, hq⟩
      by_cases e : x = n
      · subst e
        have := ih.1
        rw [hp, hq]
        simp
        omega
      · have := ih.2 ⟨x, by omega, hp, hq⟩
        cases hp : p n <;> cases hq : q n <;> simp_all <;> omega
/-- a chain of sets that stands still once it has stood stands still behind n steps -/
theorem stab {n : Nat} {p : Nat → Nat → Bool} (hm : ∀ k x, p k x = true → p (k + 1) x = true) (hs : ∀ k, (∀ x, x < n → p (k + 1) x = p k x) → ∀ x, x < n → p (k + 2) x = p (k + 1) x) : ∀ x, x < n → p (n + 1) x = p n x := by
  have key : ∀ k, (∀ x, x < n → p (k + 1) x = p k x) ∨ k < cntN (p (k + 1)) n := by
    intro k
    induction k with
    | zero =>
      by_cases h : ∃ x, x < n ∧ p 0 x = false ∧ p 1 x = true
      · exact Or.inr (Nat.lt_of_le_of_lt (Nat.zero_le _) ((cntN_mono (hm 0) n).2 h))
      · refine Or.inl fun x hx => ?_
        cases h0 : p 0 x
        · cases h1 : p 1 x
          · rfl
          · exact absurd ⟨x, hx, h0, h1⟩ h
        · exact hm 0 x h0
    | succ k ih =>
      rcases ih with ih | ih
      · exact Or.inl (hs k ih)
      · by_cases h : ∃ x, x < n ∧ p (k + 1) x = false ∧ p (k + 2) x = true
        · have := (cntN_mono (hm (k + 1)) n).2 h
          exact Or.inr (by omega)
        · refine Or.inl fun x hx => ?_
          cases h0 : p (k + 1) x
          · cases h1 : p (k + 2) x
            · rfl
            · exact absurd ⟨x, hx, h0, h1⟩ h
          · exact hm _ x h0
  rcases key n with h | h
  · exact h
  · have := cntN_le (p (n + 1)) n
    omega
theorem stab_on {n : Nat} {p : Nat → Nat → Bool} (hm : ∀ k x, p k x = true → p (k + 1) x = true) (hs : ∀ k, (∀ x, x < n → p (k + 1) x = p k x) → ∀ x, x < n → p (k + 2) x = p (k + 1) x) : ∀ j x, x < n → p (n + j) x = p n x := by
  have h1 := stab hm hs
  have h2 : ∀ j, ∀ x, x < n → p (n + j + 1) x = p (n + j) x := by
    intro j
    induction j with
    | zero => exact h1
    | succ j ih => exact hs _ ih
  intro j
  induction j with
  | zero => intro x _; rfl
  | succ j ih => intro x hx; rw [← Nat.add_assoc, h2 j x hx, ih x hx]
theorem pth_stab {E : Gr} {n y : Nat} : ∀ k, (∀ x, x < n → pthB E n (k + 1) x y = pthB E n k x y) → ∀ x, x < n → pthB E n (k + 2) x y = pthB E n (k + 1) x y := by
  intro k h x hx
  cases h1 : pthB E n (k + 1) x y
  · cases h2 : pthB E n (k + 2) x y
    · rfl
    · rw [pthB, Bool.or_eq_true] at h2
      rcases h2 with h2 | h2
      · rw [of_decide_eq_true h2, pth_rf] at h1; cases h1
      · obtain ⟨z, hz, h2⟩ := (anyB_iff _ _).mp h2
        rw [Bool.and_eq_true, h z hz] at h2
        have : pthB E n (k + 1) x y = true := by
          rw [pthB, Bool.or_eq_true]
          exact Or.inr ((anyB_iff _ _).mpr ⟨z, hz, by rw [Bool.and_eq_true]; exact h2⟩)
        rw [this] at h1; cases h1
  · exact pth_mono _ _ _ h1
theorem pth_le {E : Gr} {n j k x y : Nat} (h : pthB E n j x y = true) (hjk : j ≤ k) : pthB E n k x y = true := by
  obtain ⟨d, rfl⟩ := Nat.exists_eq_add_of_le hjk
  clear hjk
  induction d with
  | zero => exact h
  | succ d ih => exact pth_mono _ _ _ ih
theorem pth_10 {E : Gr} {n k x y : Nat} (hn : n ≤ 10) (hx : x < n) (h : pthB E n k x y = true) : pthB E n 10 x y = true := by
  have := stab_on (n := n) (p := fun k x => pthB E n k x y) (fun k x => pth_mono k x y) (fun k => pth_stab k) k x hx
  refine pth_le (j := n) ?_ hn
  rw [← this]
  exact pth_le h (by omega)
/-- in the middle of round k at (x, y) -/
def relI (E : Gr) (n k x y : Nat) (f : Nat → Nat) : Prop := (∀ u, f u ≤ u ∧ ∃ j, pthB E n j u (f u) = true) ∧ (∀ u v, u < n → pthB E n k u v = true → f u ≤ v) ∧ (∀ u v, u < x → pthB E n (k + 1) u v = true → f u ≤ v) ∧ (∀ z v, z < y → E x z = true → pthB E n k z v = true → f x ≤ v)
theorem relI.a {E : Gr} {n k x y : Nat} {f : Nat → Nat} (h : relI E n k x y f) : ∀ u, f u ≤ u ∧ ∃ j, pthB E n j u (f u) = true := h.1
theorem relI.b {E : Gr} {n k x y : Nat} {f : Nat → Nat} (h : relI E n k x y f) : ∀ u v, u < n → pthB E n k u v = true → f u ≤ v := h.2.1
theorem relI.c {E : Gr} {n k x y : Nat} {f : Nat → Nat} (h : relI E n k x y f) : ∀ u v, u < x → pthB E n (k + 1) u v = true → f u ≤ v := h.2.2.1
theorem relI.d {E : Gr} {n k x y : Nat} {f : Nat → Nat} (h : relI E n k x y f) : ∀ z v, z < y → E x z = true → pthB E n k z v = true → f x ≤ v := h.2.2.2
theorem rel_0 {E : Gr} {n : Nat} : relI E n 0 0 0 (fun u => u) := ⟨fun u => ⟨Nat.le_refl _, 0, pth_rf _ _ _ _⟩, fun u v _ h => by rw [pthB] at h; exact Nat.le_of_eq (of_decide_eq_true h), fun _ _ h => absurd h (Nat.not_lt_zero _), fun _ _ h => absurd h (Nat.not_lt_zero _)⟩
theorem rel_skip {E : Gr} {n k x y : Nat} {f : Nat → Nat} (h : relI E n k x y f) (hE : E x y = false) : relI E n k x (y + 1) f :=
  ⟨h.a, h.b, h.c, fun z v hz hx => by
    by_cases e : z = y
    · subst e; rw [hE] at hx; cases hx
    · exact h.d z v (by omega) hx⟩
theorem rel_step {E : Gr} {n k x y : Nat} {f : Nat → Nat} (h : relI E n k x y f) (hE : E x y = true) (hy : y < n) : relI E n k x (y + 1) (va_up f x (min (f x) (f y))) := by
  have hle : ∀ u, va_up f x (min (f x) (f y)) u ≤ f u := by
    intro u
    by_cases e : u = x
    · subst e; rw [va_up_self]; omega
    · rw [va_up_ne _ _ e]; exact Nat.le_refl _
  refine ⟨fun u => ⟨Nat.le_trans (hle u) (h.a u).1, ?_⟩, fun u v hu hp => Nat.le_trans (hle u) (h.b u v hu hp), fun u v hu hp => Nat.le_trans (hle u) (h.c u v hu hp), fun z v hz hx hp => ?_⟩
  · by_cases e : u = x
    · subst e
      rw [va_up_self]
      rcases Nat.le_total (f u) (f y) with q | q
      · rw [Nat.min_eq_left q]; exact (h.a u).2
      · rw [Nat.min_eq_right q]
        obtain ⟨j, hj⟩ := (h.a y).2
        exact ⟨j + 1, by rw [pthB, Bool.or_eq_true]; exact Or.inr ((anyB_iff _ _).mpr ⟨y, hy, by rw [hE, hj]; rfl⟩)⟩
    · rw [va_up_ne _ _ e]; exact (h.a u).2
  · by_cases e : z = y
    · subst e
      have := h.b z v hy hp
      rw [va_up_self]
      omega
    · exact Nat.le_trans (hle x) (h.d z v (by omega) hx hp)
theorem rel_row {E : Gr} {n k x : Nat} {f : Nat → Nat} (h : relI E n k x n f) : relI E n k (x + 1) 0 f :=
  ⟨h.a, h.b, fun u v hu hp => by
    by_cases e : u = x
    · subst e
      rw [pthB, Bool.or_eq_true] at hp
      rcases hp with hp | hp
      · rw [← of_decide_eq_true hp]; exact (h.a u).1
      · obtain ⟨z, hz, hp⟩ := (anyB_iff _ _).mp hp
        rw [Bool.and_eq_true] at hp
        exact h.d z v hz hp.1 hp.2
    · exact h.c u v (by omega) hp, fun _ _ h => absurd h (Nat.not_lt_zero _)⟩
theorem rel_next {E : Gr} {n k : Nat} {f : Nat → Nat} (h : relI E n k n 0 f) : relI E n (k + 1) 0 0 f :=
  ⟨h.a, fun u v hu hp => h.c u v hu hp, fun _ _ h => absurd h (Nat.not_lt_zero _), fun _ _ h => absurd h (Nat.not_lt_zero _)⟩
/-- f: the least of each one's heap -/
def tgF (E : Gr) (n : Nat) (f : Nat → Nat) : Prop := (∀ u, f u ≤ u) ∧ (∀ u, ∃ j, pthB E n j u (f u) = true) ∧ ∀ x y, x < n → y < n → E x y = true → f x = f y
theorem tgF.le {E : Gr} {n : Nat} {f : Nat → Nat} (h : tgF E n f) : ∀ u, f u ≤ u := h.1
theorem tgF.con {E : Gr} {n : Nat} {f : Nat → Nat} (h : tgF E n f) : ∀ u, ∃ j, pthB E n j u (f u) = true := h.2.1
theorem tgF.eq {E : Gr} {n : Nat} {f : Nat → Nat} (h : tgF E n f) : ∀ x y, x < n → y < n → E x y = true → f x = f y := h.2.2
theorem rel_end {E : Gr} {n : Nat} {f : Nat → Nat} (hn : n ≤ 10) (hs : ∀ x y, E x y = true → E y x = true) (h : relI E n 10 0 0 f) : tgF E n f := by
  have key : ∀ x y, x < n → y < n → E x y = true → f x ≤ f y := by
    intro x y hx hy hE
    obtain ⟨j, hj⟩ := (h.a y).2
    refine h.b x _ hx (pth_10 (k := j + 1) hn hx ?_)
    rw [pthB, Bool.or_eq_true]
    exact Or.inr ((anyB_iff _ _).mpr ⟨y, hy, by rw [hE, hj]; rfl⟩)
  exact ⟨fun u => (h.a u).1, fun u => (h.a u).2, fun x y hx hy hE => Nat.le_antisymm (key x y hx hy hE) (key y x hy hx (hs _ _ hE))⟩
theorem tg_con {E : Gr} {n : Nat} {f : Nat → Nat} (h : tgF E n f) : ∀ j x y, x < n → pthB E n j x y = true → f x = f y := by
  intro j
  induction j with
  | zero => intro x y _ hp; rw [pthB] at hp; rw [of_decide_eq_true hp]
  | succ j ih =>
    intro x y hx hp
    rw [pthB, Bool.or_eq_true] at hp
    rcases hp with hp | hp
    · rw [of_decide_eq_true hp]
    · obtain ⟨z, hz, hp⟩ := (anyB_iff _ _).mp hp
      rw [Bool.and_eq_true] at hp
      rw [h.eq x z hx hz hp.1]
      exact ih z y hz hp.2
theorem tg_id {E : Gr} {n : Nat} {f : Nat → Nat} (h : tgF E n f) {x : Nat} (hx : x < n) : f (f x) = f x := by
  obtain ⟨j, hj⟩ := h.con x
  exact (tg_con h j x _ hx hj).symm
/-- a set that is closed under E has all of a heap or none -/
theorem tg_cl {E : Gr} {n : Nat} {P : Nat → Prop} (hP : ∀ x y, x < n → y < n → E x y = true → P x → P y) : ∀ j x y, x < n → pthB E n j x y = true → P x → P y := by
  intro j
  induction j with
  | zero => intro x y _ hp hx; rw [pthB] at hp; rw [← of_decide_eq_true hp]; exact hx
  | succ j ih =>
    intro x y hx hp hPx
    rw [pthB, Bool.or_eq_true] at hp
    rcases hp with hp | hp
    · rw [← of_decide_eq_true hp]; exact hPx
    · obtain ⟨z, hz, hp⟩ := (anyB_iff _ _).mp hp
      rw [Bool.and_eq_true] at hp
      exact ih z y hz hp.2 (hP x z hx hz hp.1 hPx)
