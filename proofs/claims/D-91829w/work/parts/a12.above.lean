/-! who is above whom: the component's rows; steps -/
set_option maxRecDepth 100000
theorem ofB_lt (p : Nat → Bool) (k : Nat) : ofB p k < 2 ^ k := bit_lt fun i hi => by
  rw [ofB_bit] at hi
  exact of_decide_eq_true (Bool.and_eq_true_iff.mp hi).1
theorem ofB_10 (p : Nat → Bool) : ofB p 10 < 1024 := ofB_lt p 10
theorem ofB_cgz {p q : Nat → Bool} {k : Nat} (h : ∀ z, z < k → p z = q z) : ofB p k = ofB q k := by
  apply Nat.eq_of_testBit_eq
  intro i
  rw [ofB_bit, ofB_bit]
  by_cases c : i < k
  · rw [h i c]
  · rw [decide_eq_false c]; rfl
theorem ofB_or {p : Nat → Bool} {k y : Nat} (hy : y < k) : ofB p k ||| 2 ^ y = ofB (fun z => p z || decide (z = y)) k := by
  apply Nat.eq_of_testBit_eq
  intro i
  rw [Nat.testBit_or, ofB_bit, ofB_bit, Nat.testBit_two_pow]
  by_cases c : i = y
  · subst c; simp [hy]
  · have c2 : ¬ y = i := fun q => c q.symm
    simp [c, c2]
theorem ofB_0 (k : Nat) : ofB (fun _ => false) k = 0 := by
  apply Nat.eq_of_testBit_eq
  intro i
  rw [ofB_bit, Nat.zero_testBit, Bool.and_false]
theorem ofB_at {p : Nat → Bool} {k z : Nat} (h : z < k) : (ofB p k).testBit z = p z := by rw [ofB_bit, decide_eq_true h, Bool.true_and]
/-- the rows of 'above' hold A -/
def rowZ (A : Gr) (Z : Nat → Nat → Int32) : Prop := ∀ x, x < 10 → Z 0 x = nI (ofB (A x) 10)
theorem rowZ_c {A A' : Gr} {Z : Nat → Nat → Int32} (h : rowZ A Z) (e : ∀ x y, x < 10 → y < 10 → A x y = A' x y) : rowZ A' Z := fun x hx => by rw [h x hx, ofB_cgz (fun z hz => e x z hx hz)]
theorem rowZ_k {A : Gr} {Z Z' : Nat → Nat → Int32} {ks : List Nat} (h : rowZ A Z) (hk : kp ks Z Z') (h0 : 0 ∉ ks) : rowZ A Z' := fun x hx => by rw [hk 0 h0]; exact h x hx
def abF (S : Ab) (room : Int32) (wo i : Nat) : Gr := fun x y => anyB (fun r => decide (aKd S r = 0) && !(wo.testBit r) && cntF S r room x y) i
def cpF (S : Ab) (i k : Nat) : Gr := fun x y => anyB (fun u => decide (cX S i u = x) && decide (cY S i u = y) && (aCm S x && aCm S y)) k
def abG (S : Ab) (room : Int32) (wo i k : Nat) : Gr := fun x y => abF S room wo i x y || cpF S i k x y
theorem abF_all (S : Ab) (room : Int32) (wo : Nat) : abF S room wo (aRl S) = abv S room wo := rfl
section ABOVE
variable {S : Ab} {room : Int32} {wo i k : Nat} {Z : Nat → Nat → Int32}
theorem ab_zero (h : ∀ u, u < 10 → Z 0 u = nI 0) : rowZ (abF S room wo 0) Z := fun x hx => by
  rw [h x hx, show ofB (abF S room wo 0 x) 10 = 0 from ofB_0 10]
theorem ab_in (h : rowZ (abF S room wo i) Z) : rowZ (abG S room wo i 0) Z := rowZ_c h fun x y _ _ => by
  unfold abG cpF anyB
  rw [Bool.or_false]
theorem ab_put (hc : (aCm S (cX S i k) && aCm S (cY S i k)) = true) (hy : cY S i k < 10) (h : rowZ (abG S room wo i k) Z) : rowZ (abG S room wo i (k + 1)) (vset Z 0 (cX S i k) (nI (ofB (abG S room wo i k (cX S i k)) 10 ||| 2 ^ cY S i k))) := fun x hx => by
  rw [vset_in]
  by_cases c : x = cX S i k
  · rw [if_pos c, ofB_or hy]
    congr 1
    apply ofB_cgz
    intro z _
    unfold abG cpF
    rw [anyB, c, decide_eq_true (rfl : cX S i k = cX S i k), Bool.true_and, Bool.or_assoc]
    congr 1
    by_cases e : cY S i k = z
    · rw [← e, hc]; simp
    · have e2 : ¬ z = cY S i k := fun q => e q.symm
      simp [e, e2]
  · rw [if_neg c, h x hx]
    congr 1
    apply ofB_cgz
    intro z _
    unfold abG cpF
    have c2 : ¬ cX S i k = x := fun q => c q.symm
    rw [anyB, decide_eq_false c2]
    simp
theorem ab_not (hc : (aCm S (cX S i k) && aCm S (cY S i k)) = false) (h : rowZ (abG S room wo i k) Z) : rowZ (abG S room wo i (k + 1)) Z := rowZ_c h fun x y _ _ => by
  unfold abG cpF
  rw [anyB]
  by_cases c : cX S i k = x ∧ cY S i k = y
  · rw [← c.1, ← c.2, hc]; simp
  · have : (decide (cX S i k = x) && decide (cY S i k = y)) = false := by
      rw [← Bool.decide_and]; exact decide_eq_false c
    rw [this]; simp
theorem cpF_all (hO : SOK S) (h2 : SO2 S) (hi : i < aRl S) (x y : Nat) : cpF S i (cN S i) x y = (cplL S i x y && (aCm S x && aCm S y)) := by
  unfold cpF
  apply Bool.eq_iff_iff.mpr
  rw [anyB_iff]
  constructor
  · rintro ⟨j, hj, e⟩
    simp only [Bool.and_eq_true, decide_eq_true_eq] at e
    rw [cpl_yes hj e.1.1 e.1.2, e.2.1, e.2.2]; rfl
  · intro q
    simp only [Bool.and_eq_true] at q
    apply Classical.byContradiction
    intro z
    have := cpl_no hO h2 hi (x := x) (y := y) (fun u hu e => z ⟨u, hu, by simp [e.1, e.2, q.2.1, q.2.2]⟩)
    rw [q.1] at this
    cases this
theorem ab_end (hO : SOK S) (h2 : SO2 S) (hi : i < aRl S) (hk : aKd S i = 0) (hc : cnt S i room = true) (hw : wo.testBit i = false) (h : rowZ (abG S room wo i (cN S i)) Z) : rowZ (abF S room wo (i + 1)) Z := rowZ_c h fun x y _ _ => by
  unfold abG
  rw [cpF_all hO h2 hi]
  unfold abF
  rw [anyB, cntF_L hk, hk, hw, hc]
  simp
theorem ab_skip (hs : aKd S i ≠ 0 ∨ cnt S i room = false ∨ wo.testBit i = true) (h : rowZ (abF S room wo i) Z) : rowZ (abF S room wo (i + 1)) Z := rowZ_c h fun x y _ _ => by
  unfold abF
  rw [anyB]
  rcases hs with q | q | q
  · simp [q]
  · simp [cntF, q]
  · simp [q]
end ABOVE
theorem abv_lt {S : Ab} (hO : SOK S) (h2 : SO2 S) {room : Int32} {wo x y : Nat} (h : abv S room wo x y = true) : x < aN S ∧ y < aN S := by
  unfold abv at h
  rw [anyB_iff] at h
  obtain ⟨r, hr, e⟩ := h
  simp only [Bool.and_eq_true] at e
  have h3 := e.2
  unfold cntF hasC at h3
  simp only [Bool.and_eq_true, Bool.or_eq_true] at h3
  rcases h3.2 with q | q
  · exact cpl_lt hO h2 hr q
  · exact (cpl_lt hO h2 hr q.2).symm
/-! steps down to one -/
def stQf (A : Gr) (n t k x : Nat) (f : Nat → Option Nat) : Bool := if k = 0 then A x t else anyB (fun y => decide (y ≠ t) && (decide (f y = some k) && A x y)) n
def stO (A : Gr) (n t : Nat) : Nat → Nat → Option Nat
  | 0, _ => none
  | k + 1, x => match stO A n t k x with
    | some d => some d
    | none => if decide (x < n) && stQf A n t k x (stO A n t k) then some (k + 1) else none
section STEPS
variable {A : Gr} {n t k x : Nat}
theorem st_keep {d : Nat} (h : stO A n t k x = some d) : stO A n t (k + 1) x = some d := by rw [stO, h]
theorem st_le : ∀ k x d, stO A n t k x = some d → d ≤ k ∧ 1 ≤ d := by
  intro k
  induction k with
  | zero => intro x d h; cases h
  | succ k ih =>
    intro x d h
    cases e : stO A n t k x with
    | some d' =>
      rw [st_keep e] at h
      cases h
      have := ih x d e
      omega
    | none =>
      rw [stO, e] at h
      dsimp only at h
      split at h
      · cases h; omega
      · cases h
theorem st_b (hk : k ≤ 100) : ∀ d, stO A n t k x = some d → d < 2 ^ 31 := fun d h => by have := st_le k x d h; omega
theorem st_mid (hk : k < 100) : oI (stO A n t (k + 1) x) = nI k ↔ stO A n t k x = some k := by
  rw [oI_some (st_b (by omega)) (by omega)]
  refine ⟨fun h => ?_, st_keep⟩
  cases e : stO A n t k x with
  | some d => rw [st_keep e] at h; exact h
  | none =>
    rw [stO, e] at h
    dsimp only at h
    split at h
    · have := Option.some.inj h; omega
    · cases h
theorem st_far (ht : t < n) (hx : x ≠ t) : ∀ k, stO A n t k x = farO A n (2 ^ n - 1) t k x := by
  have far0 : ∀ k, farO A n (2 ^ n - 1) t k t = some 0 := by
    intro k
    induction k with
    | zero => exact if_pos rfl
    | succ k ih => exact farO_keep ih
  intro k
  induction k generalizing x with
  | zero => exact (if_neg hx).symm
  | succ k ih =>
    have e0 := ih hx
    cases e : farO A n (2 ^ n - 1) t k x with
    | some d => rw [farO_keep e, st_keep (e0.trans e)]
    | none =>
      rw [stO, e0.trans e, farO, e]
      dsimp only
      by_cases hxn : x < n
      · rw [all_bit hxn, decide_eq_true hxn]
        simp only [Bool.true_and]
        have key : stQf A n t k x (stO A n t k) = anyB (fun y => decide (farO A n (2 ^ n - 1) t k y = some k) && (2 ^ n - 1).testBit y && A x y) n := by
          apply Bool.eq_iff_iff.mpr
          unfold stQf
          rw [anyB_iff]
          by_cases hk : k = 0
          · subst hk
            rw [if_pos rfl]
            constructor
            · intro q
              exact ⟨t, ht, by rw [far0, all_bit ht, q]; simp⟩
            · rintro ⟨y, hy, q⟩
              simp only [Bool.and_eq_true, decide_eq_true_eq] at q
              have h1 := q.1.1
              unfold farO at h1
              split at h1
              · rename_i c; rw [c] at q; exact q.2
              · cases h1
          · rw [if_neg hk, anyB_iff]
            constructor
            · rintro ⟨y, hy, q⟩
              simp only [Bool.and_eq_true, decide_eq_true_eq] at q
              refine ⟨y, hy, ?_⟩
              rw [← ih q.1, decide_eq_true q.2.1, all_bit hy, q.2.2]; rfl
            · rintro ⟨y, hy, q⟩
              simp only [Bool.and_eq_true, decide_eq_true_eq] at q
              have hyt : y ≠ t := fun c => by
                rw [c, far0] at q
                exact hk (Option.some.inj q.1.1).symm
              refine ⟨y, hy, ?_⟩
              rw [decide_eq_true hyt, ih hyt, decide_eq_true q.1.1, q.2]; rfl
        rw [key]
      · rw [decide_eq_false hxn]; rfl
theorem far_cnt {hp : Nat} (ht : t < n) : ∀ d y, farO A n hp t 10 y = some d → d + 1 ≤ cntN (fun x => decide (∃ e, farO A n hp t 10 x = some e ∧ e ≤ d)) n := by
  intro d
  induction d with
  | zero =>
    intro y h
    have h0 : farO A n hp t 10 t = some 0 := by
      have : ∀ k, farO A n hp t k t = some 0 := by
        intro k
        induction k with
        | zero => exact if_pos rfl
        | succ k ih => exact farO_keep ih
      exact this 10
    have := (cntN_mono (p := fun _ => false) (q := fun x => decide (∃ e, farO A n hp t 10 x = some e ∧ e ≤ 0)) (fun x h => by cases h) n).2 ⟨t, ht, rfl, decide_eq_true ⟨0, h0, Nat.le_refl _⟩⟩
    omega
  | succ d ih =>
    intro y h
    obtain ⟨hy, -, z, hz, -, -, hz2⟩ := farO_next _ _ _ h
    have h1 := ih z hz2
    have h2 := (cntN_mono (p := fun x => decide (∃ e, farO A n hp t 10 x = some e ∧ e ≤ d)) (q := fun x => decide (∃ e, farO A n hp t 10 x = some e ∧ e ≤ d + 1)) (fun x q => by
      obtain ⟨e, e1, e2⟩ := of_decide_eq_true q
      exact decide_eq_true ⟨e, e1, by omega⟩) n).2 ⟨y, hy, decide_eq_false (fun ⟨e, e1, e2⟩ => by rw [h] at e1; cases e1; omega), decide_eq_true ⟨d + 1, h, Nat.le_refl _⟩⟩
    omega
theorem far_lt {hp : Nat} (ht : t < n) {d y : Nat} (h : farO A n hp t 10 y = some d) : d < n := by
  have h1 := far_cnt ht d y h
  have h2 := cntN_le (fun x => decide (∃ e, farO A n hp t 10 x = some e ∧ e ≤ d)) n
  omega
theorem thr_min {hp y d : Nat} (hy : y ≠ t) (hA : A t y = true) (hd : farO A n hp t 10 y = some d) : ∀ k, y < k → ∃ b, thrO A n hp t k = some b ∧ b ≤ d + 1 := by
  intro k
  induction k with
  | zero => intro q; exact absurd q (Nat.not_lt_zero _)
  | succ k ih =>
    intro q
    by_cases c : y = k
    · subst c
      unfold thrO
      rw [decide_eq_true hy, hA, hd]
      cases thrO A n hp t y with
      | none => exact ⟨d + 1, rfl, Nat.le_refl _⟩
      | some b =>
        simp only [Bool.and_self, if_true, Option.map_some, minO]
        split
        · exact ⟨d + 1, rfl, Nat.le_refl _⟩
        · exact ⟨b, rfl, by omega⟩
    · obtain ⟨b, e, hb⟩ := ih (by omega)
      unfold thrO
      rw [e]
      split
      · cases farO A n hp t 10 k with
        | none => exact ⟨b, rfl, hb⟩
        | some d2 =>
          simp only [Option.map_some, minO]
          split
          · exact ⟨d2 + 1, rfl, by omega⟩
          · exact ⟨b, rfl, hb⟩
      · exact ⟨b, rfl, hb⟩
theorem st_thr (ht : t < n) (hA : A t t = false) : ∀ k, k ≤ 10 → stO A n t k t = match thrO A n (2 ^ n - 1) t n with
    | some b => if b ≤ k then some b else none
    | none => none := by
  intro k
  induction k with
  | zero =>
    intro _
    cases e : thrO A n (2 ^ n - 1) t n with
    | none => rfl
    | some b => have := thrO_le _ _ _ _ _ _ e; dsimp only; rw [if_neg (by omega)]; rfl
  | succ k ih =>
    intro hk
    have ih := ih (by omega)
    cases e : thrO A n (2 ^ n - 1) t n with
    | none =>
      rw [e] at ih
      dsimp only at ih ⊢
      rw [stO, ih]
      dsimp only
      apply if_neg
      intro q
      rw [decide_eq_true ht, Bool.true_and] at q
      unfold stQf at q
      split at q
      · rw [hA] at q; cases q
      · rw [anyB_iff] at q
        obtain ⟨y, hy, q⟩ := q
        simp only [Bool.and_eq_true, decide_eq_true_eq] at q
        have h1 := q.2.1
        rw [st_far ht q.1] at h1
        have h2 : ∀ j, farO A n (2 ^ n - 1) t (k + j) y = some k := by
          intro j
          induction j with
          | zero => exact h1
          | succ j ih => exact farO_keep ih
        have h3 := h2 (10 - k)
        rw [show k + (10 - k) = 10 by omega] at h3
        obtain ⟨b, hb, -⟩ := thr_min q.1 q.2.2 h3 n hy
        rw [e] at hb
        cases hb
    | some b =>
      rw [e] at ih
      dsimp only at ih ⊢
      have hb1 := thrO_le _ _ _ _ _ _ e
      by_cases c : b ≤ k
      · rw [if_pos c] at ih
        rw [st_keep ih, if_pos (by omega)]
      · rw [if_neg c] at ih
        rw [stO, ih]
        dsimp only
        by_cases c2 : b = k + 1
        · rw [if_pos (show b ≤ k + 1 by omega), c2]
          apply if_pos
          rw [decide_eq_true ht, Bool.true_and]
          obtain ⟨y, hy, hy2, d, hd, hd2⟩ := thrO_next _ _ e
          have hyt : y ≠ t := fun q => by rw [q, hA] at hy2; cases hy2
          have hdk : d = k := by omega
          subst hdk
          have hd0 : d ≠ 0 := fun q => by
            subst q
            have := st_far (A := A) ht hyt 10
            rw [hd] at this
            have := (st_le 10 y 0 this).2
            omega
          unfold stQf
          rw [if_neg hd0, anyB_iff]
          refine ⟨y, hy, ?_⟩
          have h5 : stO A n t d y = some d := by
            have h6 : ∀ j, stO A n t (d + j) y = some d → stO A n t d y = some d := by
              intro j
              induction j with
              | zero => exact id
              | succ j ih =>
                intro q
                apply ih
                cases e2 : stO A n t (d + j) y with
                | some d2 => rw [← Nat.add_assoc, st_keep e2] at q; exact q
                | none =>
                  rw [← Nat.add_assoc, stO, e2] at q
                  dsimp only at q
                  split at q
                  · have := Option.some.inj q; omega
                  · cases q
            refine h6 (10 - d) ?_
            rw [show d + (10 - d) = 10 by omega, st_far ht hyt]
            exact hd
          rw [decide_eq_true hyt, decide_eq_true h5, hy2]; rfl
        · rw [if_neg (show ¬ b ≤ k + 1 by omega)]
          apply if_neg
          intro q
          rw [decide_eq_true ht, Bool.true_and] at q
          unfold stQf at q
          split at q
          · rw [hA] at q; cases q
          · rw [anyB_iff] at q
            obtain ⟨y, hy, q⟩ := q
            simp only [Bool.and_eq_true, decide_eq_true_eq] at q
            have h1 := q.2.1
            rw [st_far ht q.1] at h1
            have h2 : ∀ j, farO A n (2 ^ n - 1) t (k + j) y = some k := by
              intro j
              induction j with
              | zero => exact h1
              | succ j ih => exact farO_keep ih
            have h3 := h2 (10 - k)
            rw [show k + (10 - k) = 10 by omega] at h3
            obtain ⟨b', hb', hb2⟩ := thr_min q.1 q.2.2 h3 n hy
            rw [e] at hb'
            cases hb'
            omega
theorem st_ring (ht : t < n) (hn : n ≤ 10) (hA : A t t = false) : stO A n t 10 t = thrO A n (2 ^ n - 1) t n := by
  rw [st_thr ht hA 10 (Nat.le_refl _)]
  cases e : thrO A n (2 ^ n - 1) t n with
  | none => rfl
  | some b =>
    obtain ⟨y, hy, hy2, d, hd, hd2⟩ := thrO_next _ _ e
    have := far_lt ht hd
    dsimp only
    rw [if_pos (by omega)]
theorem ring_st (hn : n ≤ 10) (hA : ∀ x, A x x = false) : ringB A n (2 ^ n - 1) = anyB (fun g => decide (stO A n g 10 g ≠ none)) n := by
  unfold ringB
  apply Bool.eq_iff_iff.mpr
  rw [anyB_iff, anyB_iff]
  constructor
  · rintro ⟨g, hg, q⟩
    refine ⟨g, hg, ?_⟩
    rw [st_ring hg hn (hA g)]
    simp only [Bool.and_eq_true] at q
    apply decide_eq_true
    intro z
    rw [z] at q
    cases q.2
  · rintro ⟨g, hg, q⟩
    refine ⟨g, hg, ?_⟩
    rw [st_ring hg hn (hA g)] at q
    rw [all_bit hg, Bool.true_and]
    cases e : thrO A n (2 ^ n - 1) g n with
    | none => rw [e] at q; exact absurd rfl (of_decide_eq_true q)
    | some b => rfl
end STEPS
/-- 'steps' holds the steps down to t -/
def stpZ (A : Gr) (n t k x : Nat) (Z : Nat → Nat → Int32) : Prop := ∀ g, g < 10 → Z 1 g = oI (if g < x then stO A n t (k + 1) g else stO A n t k g)
section STEPI
variable {A : Gr} {n t k x y : Nat} {Z : Nat → Nat → Int32}
theorem sz_0 (h : ∀ u, u < 10 → Z 1 u = -1) : stpZ A n t 0 0 Z := fun g hg => by rw [h g hg, if_neg (Nat.not_lt_zero _)]; rfl
theorem sz_next (h : stpZ A n t k n Z) (hn : n ≤ 10) : stpZ A n t (k + 1) 0 Z := fun g hg => by
  rw [h g hg, if_neg (Nat.not_lt_zero _)]
  by_cases c : g < n
  · rw [if_pos c]
  · rw [if_neg c]
    congr 1
    cases e : stO A n t k g with
    | some d => rw [st_keep e]
    | none => rw [stO, e, decide_eq_false c]; rfl
/-- what is asked of x in round k + 1 -/
def stQ (A : Gr) (n t k x : Nat) : Bool := stQf A n t k x (stO A n t k)
theorem sz_at (h : stpZ A n t k x Z) (hx : x < 10) : Z 1 x = oI (stO A n t k x) := by rw [h x hx, if_neg (Nat.lt_irrefl _)]
theorem sz_set (h : stpZ A n t k x Z) (hx : x < n) (hn : n ≤ 10) (h0 : stO A n t k x = none) (hq : stQ A n t k x = true) : stpZ A n t k (x + 1) (vset Z 1 x (nI (k + 1))) := fun g hg => by
  rw [vset_in]
  by_cases c : g = x
  · subst c
    rw [if_pos rfl, if_pos (Nat.lt_succ_self _), stO, h0]
    unfold stQ at hq
    rw [decide_eq_true hx, Bool.true_and]
    dsimp only
    rw [if_pos hq]
    rfl
  · rw [if_neg c, h g hg]
    by_cases c2 : g < x
    · rw [if_pos c2, if_pos (by omega)]
    · rw [if_neg c2, if_neg (by omega)]
theorem sz_no (h : stpZ A n t k x Z) (h0 : stO A n t (k + 1) x = stO A n t k x) : stpZ A n t k (x + 1) Z := fun g hg => by
  rw [h g hg]
  by_cases c : g = x
  · subst c
    rw [if_neg (Nat.lt_irrefl _), if_pos (Nat.lt_succ_self _), h0]
  · by_cases c2 : g < x
    · rw [if_pos c2, if_pos (by omega)]
    · rw [if_neg c2, if_neg (by omega)]
theorem st_same1 {d : Nat} (h : stO A n t k x = some d) : stO A n t (k + 1) x = stO A n t k x := by rw [st_keep h, h]
theorem st_same2 (h : stO A n t k x = none) (hq : stQ A n t k x = false) : stO A n t (k + 1) x = stO A n t k x := by
  rw [stO, h]
  unfold stQ at hq
  dsimp only
  rw [hq, Bool.and_false]
  rfl
theorem sz_key (h : stpZ A n t k x Z) (hy : y < 10) (hk : k < 100) : Z 1 y = nI k ↔ stO A n t k y = some k := by
  rw [h y hy]
  by_cases c : y < x
  · rw [if_pos c]; exact st_mid hk
  · rw [if_neg c]; exact oI_some (st_b (by omega)) (by omega)
theorem stQ_0 : stQ A n t 0 x = A x t := by unfold stQ stQf; exact if_pos rfl
theorem stQ_k (hk : k ≠ 0) : stQ A n t k x = anyB (fun y => decide (y ≠ t) && (decide (stO A n t k y = some k) && A x y)) n := by unfold stQ stQf; exact if_neg hk
theorem anyB_mono {p : Nat → Bool} {j k : Nat} (h : anyB p j = true) (hk : j ≤ k) : anyB p k = true := by
  rw [anyB_iff] at h ⊢
  obtain ⟨u, hu, e⟩ := h
  exact ⟨u, by omega, e⟩
end STEPI
theorem abv_rr (S : Ab) (room : Int32) (wo x : Nat) : abv S room wo x x = false := by
  cases c : abv S room wo x x with
  | false => rfl
  | true => exact absurd rfl (abv_com c).2.2
