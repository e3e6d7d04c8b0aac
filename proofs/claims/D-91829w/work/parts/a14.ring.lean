/-! rings in the component: small rows -/
set_option maxRecDepth 100000
def rgS (A : Gr) (n g : Nat) : Option Nat := (rgF A n g).map Prod.snd
def rgL (A : Gr) (n g : Nat) : Nat := ((rgF A n g).map Prod.fst).getD 0
section RG
variable {A : Gr} {n g b f d : Nat}
theorem rgS_b (hn : g ≤ 100) : ∀ x, rgS A n g = some x → x < 2 ^ 31 := fun x h => by
  unfold rgS at h
  cases e : rgF A n g with
  | none => rw [e] at h; cases h
  | some q =>
    obtain ⟨b, f⟩ := q
    rw [e] at h
    cases h
    have := (rgF_thr g b f e).1
    show f < _
    omega
theorem rgS_is (h : ¬ oI (rgS A n g) = -1) : ∃ b f, rgF A n g = some (b, f) := by
  cases e : rgF A n g with
  | none => exact absurd (by unfold rgS; rw [e]; rfl) h
  | some q => exact ⟨q.1, q.2, rfl⟩
theorem rgS_not (hn : g ≤ 100) (h : oI (rgS A n g) = -1) : rgF A n g = none := by
  have := (oI_none (rgS_b hn)).mp h
  cases e : rgF A n g with
  | none => rfl
  | some q => unfold rgS at this; rw [e] at this; cases this
theorem rgL_le : rgL A n g ≤ 11 := by
  unfold rgL
  cases e : rgF A n g with
  | none => exact Nat.zero_le _
  | some q =>
    obtain ⟨b, f⟩ := q
    exact (thrO_le _ _ _ _ _ _ (rgF_thr g b f e).2).2
theorem rg_same (h : rgF A n g = rgF A n (g + 1)) : rgS A n (g + 1) = rgS A n g ∧ rgL A n (g + 1) = rgL A n g := by unfold rgS rgL; rw [h]; exact ⟨rfl, rfl⟩
theorem rg_put (h : rgF A n (g + 1) = some (d, g)) : rgS A n (g + 1) = some g ∧ rgL A n (g + 1) = d := by unfold rgS rgL; rw [h]; exact ⟨rfl, rfl⟩
theorem wlk_b {i : Nat} (hf : f < n) (hb : thrO A n (2 ^ n - 1) f n = some b) (hi : i < b) : wlk A n f b i < n := (wlk_ok hf hb i hi).1
end RG
theorem trF_mono {S : Ab} {room : Int32} : ∀ k b, (∃ p, trF S room b = some p) → ∃ p, trF S room (b + k) = some p := by
  intro k
  induction k with
  | zero => intro b h; exact h
  | succ k ih =>
    intro b h
    obtain ⟨p, hp⟩ := ih b h
    rw [← Nat.add_assoc]
    rw [trF]
    split
    · exact ⟨_, rfl⟩
    · exact ⟨p, hp⟩
theorem far_empty {A : Gr} {n hp t : Nat} (hA : ∀ x y, A x y = false) : ∀ k x, x ≠ t → farO A n hp t k x = none := by
  intro k
  induction k with
  | zero => intro x hx; exact if_neg hx
  | succ k ih =>
    intro x hx
    rw [farO, ih x hx]
    dsimp only
    apply if_neg
    intro q
    simp only [Bool.and_eq_true] at q
    obtain ⟨y, -, e⟩ := (anyB_iff _ _).mp q.2
    rw [hA] at e
    simp at e
theorem ring_empty {A : Gr} {n hp : Nat} (hA : ∀ x y, A x y = false) : ringB A n hp = false := by
  cases c : ringB A n hp with
  | false => rfl
  | true =>
    obtain ⟨g, -, e⟩ := (anyB_iff _ _).mp c
    simp only [Bool.and_eq_true] at e
    have : ∀ k, thrO A n hp g k = none := by
      intro k
      induction k with
      | zero => rfl
      | succ k ih => rw [thrO, hA, Bool.and_false]; exact ih
    rw [this] at e
    cases e.2
/-- some rules can rest -/
theorem trF_ex {S : Ab} {room : Int32} : ∃ p, trF S room (2 ^ aRl S) = some p := by
  have h1 := canB_lt S room (aRl S)
  obtain ⟨k, hk⟩ : ∃ k, 2 ^ aRl S = canB S room (aRl S) + 1 + k := ⟨2 ^ aRl S - (canB S room (aRl S) + 1), by omega⟩
  rw [hk]
  apply trF_mono
  cases e : trF S room (canB S room (aRl S)) with
  | some p =>
    rw [trF]
    split
    · exact ⟨_, rfl⟩
    · exact ⟨p, e⟩
  | none =>
    refine ⟨canB S room (aRl S), trF_yes ?_⟩
    have a1 : onlyA S room (canB S room (aRl S)) = true := (onlyA_iff h1).mp (by rw [Nat.and_self, Nat.xor_self])
    have a2 : ringB (abv S room (canB S room (aRl S))) (aN S) (2 ^ aN S - 1) = false := ring_empty fun x y => by
      cases c : abv S room (canB S room (aRl S)) x y with
      | false => rfl
      | true =>
        obtain ⟨r, hr, q⟩ := (anyB_iff _ _).mp c
        rw [canB_bit, decide_eq_true hr] at q
        simp only [Bool.and_eq_true, decide_eq_true_eq, Bool.not_eq_true', Bool.true_and] at q
        obtain ⟨⟨q1, q2⟩, q3⟩ := q
        unfold cntF at q3
        simp only [Bool.and_eq_true] at q3
        rw [decide_eq_true q1, q3.1.1.1] at q2
        cases q2
    rw [a1, a2, e]
    rfl
theorem tr_is {x : Option Nat} (h : ¬ oI x = -1) : ∃ p, x = some p := far_is h
theorem tr_b {S : Ab} {room : Int32} {b : Nat} (hb : b ≤ 4096) : ∀ p, trF S room b = some p → p < 2 ^ 31 := fun p h => by have := trF_lt S room b p h; omega
theorem skip_t1 {S : Ab} {b p : Nat} (h : wtF S p (aRl S) < wtF S b (aRl S)) : trSkip S (some p) b = true := by simp [trSkip, h]
theorem skip_t2 {S : Ab} {b p : Nat} (h : wtF S b (aRl S) = wtF S p (aRl S)) (h2 : popN p ≤ popN b) : trSkip S (some p) b = true := by simp [trSkip, h, h2]
theorem skip_f1 {S : Ab} {b p : Nat} (h : wtF S b (aRl S) < wtF S p (aRl S)) : trSkip S (some p) b = false := by unfold trSkip; dsimp only; rw [decide_eq_false (by omega), decide_eq_false (by omega)]; rfl
theorem skip_f2 {S : Ab} {b p : Nat} (h : wtF S b (aRl S) = wtF S p (aRl S)) (h2 : popN b < popN p) : trSkip S (some p) b = false := by unfold trSkip; dsimp only; rw [decide_eq_false (by omega), decide_eq_false (show ¬ popN p ≤ popN b by omega)]; simp
theorem nI_bm (b : Bool) (x : Nat) : zI b * nI x = nI ((if b then 1 else 0) * x) := by rw [zI_nI]; exact pk_mul _ _
theorem only_f {S : Ab} {room : Int32} {b i : Nat} (hi : i < aRl S) (h1 : b.testBit i = true) (h2 : aKd S i ≠ 0 ∨ cnt S i room = false) : onlyA S room b = false := by
  unfold onlyA
  rw [show anyB _ _ = true from (anyB_iff _ _).mpr ⟨i, hi, ?_⟩]
  · rfl
  · rcases h2 with q | q <;> simp [h1, q]
theorem only_t {S : Ab} {room : Int32} {b : Nat} (h : ∀ u, u < aRl S → ¬ (b.testBit u = true ∧ ¬ (aKd S u = 0 ∧ cnt S u room = true))) : onlyA S room b = true := by
  unfold onlyA
  rw [Bool.not_eq_true']
  cases c : anyB (fun r => b.testBit r && !(decide (aKd S r = 0) && cnt S r room)) (aRl S) with
  | false => rfl
  | true =>
    obtain ⟨u, hu, q⟩ := (anyB_iff _ _).mp c
    simp only [Bool.and_eq_true, Bool.not_eq_true'] at q
    exact absurd ⟨q.1, fun z => by rw [z.1, z.2] at q; simp at q⟩ (h u hu)
