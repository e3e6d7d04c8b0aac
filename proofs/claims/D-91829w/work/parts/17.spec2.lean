/-! slights, sources, ranks: by the abstract state -/
set_option maxRecDepth 100000
/-- all but the places ks are as they were -/
def kp {α : Type} (ks : List Nat) (f g : Nat → α) : Prop := ∀ k, k ∉ ks → g k = f k
theorem kp.rf {α : Type} {ks : List Nat} {f : Nat → α} : kp ks f f := fun _ _ => rfl
theorem kp.tr {α : Type} {ks : List Nat} {f g h : Nat → α} (a : kp ks f g) (b : kp ks g h) : kp ks f h := fun k hk => (b k hk).trans (a k hk)
theorem kp.wide {α : Type} {ks ks' : List Nat} {f g : Nat → α} (a : kp ks f g) (h : ∀ k ∈ ks, k ∈ ks') : kp ks' f g := fun k hk => a k (fun q => hk (h k q))
theorem kp.up {α : Type} {ks : List Nat} {f g : Nat → α} (a : kp ks f g) {k : Nat} (hk : k ∈ ks) (x : α) : kp ks f (va_up g k x) := fun j hj => (va_up_ne _ _ (fun e => hj (by rw [e]; exact hk))).trans (a j hj)
theorem kp.vs {ks : List Nat} {f g : Nat → Nat → Int32} (a : kp ks f g) {k : Nat} (hk : k ∈ ks) (i : Nat) (x : Int32) : kp ks f (vset g k i x) := a.up hk _
theorem MOK.kpt {S : Ab} {I P : Nat → Int32} {V U : Nat → Nat → Int32} {ks ki : List Nat} (h : MOK S I V) (hV : kp ks V U) (hI : kp ki I P) (hk : ks.all (fun k => !persV k) = true) (h1 : 1 ∉ ki) (h26 : 26 ∉ ki) : MOK S P U :=
  h.keep (fun k hp => hV k (fun q => by have := List.all_eq_true.mp hk k q; rw [hp] at this; cases this)) (hI 1 h1) (hI 26 h26)
def ipn (S : Ab) (g : Nat) : Nat := (aIp S g).toNatClampNeg
theorem ipn_at {S : Ab} (hO : SOK S) {g q : Nat} (hg : g < aN S) (hq : q < aRm S) (h : aIr S g = nI q) : aIp S g = nI (ipn S g) ∧ ipn S g < aRp S q ∧ aCm S g = true := by
  have hrm := hO.rm
  rcases hO.at hg with ⟨a, -⟩ | ⟨hc, q', p, hq', hp, e1, e2⟩
  · rw [h] at a
    exact absurd a (nI_m1 (by omega))
  · have : q = q' := nI_inj (by omega) (by omega) (h.symm.trans e1)
    subst this
    have hp10 := (hO.rp hq).2
    have e3 : ipn S g = p := by unfold ipn; rw [e2]; exact nI_clamp (by omega)
    rw [e3]
    exact ⟨e2, hp, hc⟩
theorem cntF_sl {S : Ab} (hO : SOK S) {r q x y : Nat} (hx : x < aN S) (hy : y < aN S) (hq : q < aRm S) (h1 : aIr S x = nI q) (h2 : aIr S y = nI q) (hk : aKd S r ≠ 0 → x < y) : cntF S r (nI q) x y = (cnt S r (nI q) && cplL S r x y) := by
  unfold cntF
  rw [(ipn_at hO hx hq h1).2.2, (ipn_at hO hy hq h2).2.2]
  have := hasC_cpl hk rfl
  rw [← this]
  simp
/-- who minds a couple's places, all gone on so far -/
def slW (S : Ab) (r q cr on x y : Nat) : Nat := whoM S r q cr ((ipn S x + on) % aRp S q) ((ipn S y + on) % aRp S q)
def slP (S : Ab) (r q cr on x y : Nat) : Bool := decide (aIr S x = nI q) && decide (aIr S y = nI q) && (cnt S r (nI q) && cplL S r x y) && decide (slW S r q cr on x y ≠ 0)
def slY (S : Ab) (q cr on r x : Nat) : Nat → List (Nat × Nat × Nat × Nat)
  | 0 => []
  | y + 1 => slY S q cr on r x y ++ (if slP S r q cr on x y then [(r, x, y, slW S r q cr on x y)] else [])
def slX (S : Ab) (q cr on r : Nat) : Nat → List (Nat × Nat × Nat × Nat)
  | 0 => []
  | x + 1 => slX S q cr on r x ++ slY S q cr on r x (aN S)
def slR (S : Ab) (q cr on : Nat) : Nat → List (Nat × Nat × Nat × Nat)
  | 0 => []
  | r + 1 => slR S q cr on r ++ slX S q cr on r (aN S)
/-- all slights of a room, in order: rule, the two, who minds -/
def slL (S : Ab) (q cr on : Nat) : List (Nat × Nat × Nat × Nat) := slR S q cr on (aRl S)
def slC (S : Ab) (q cr on r x y : Nat) : List (Nat × Nat × Nat × Nat) := slR S q cr on r ++ slX S q cr on r x ++ slY S q cr on r x y
theorem slY_len (S : Ab) (q cr on r x : Nat) : ∀ y, (slY S q cr on r x y).length ≤ y := by
  intro y
  induction y with
  | zero => exact Nat.le_refl _
  | succ y ih => unfold slY; rw [List.length_append]; split <;> simp <;> omega
theorem slX_len (S : Ab) (q cr on r : Nat) (hn : aN S ≤ 10) : ∀ x, (slX S q cr on r x).length ≤ 10 * x := by
  intro x
  induction x with
  | zero => exact Nat.le_refl _
  | succ x ih => unfold slX; rw [List.length_append]; have := slY_len S q cr on r x (aN S); omega
theorem slR_len (S : Ab) (q cr on : Nat) (hn : aN S ≤ 10) : ∀ r, (slR S q cr on r).length ≤ 100 * r := by
  intro r
  induction r with
  | zero => exact Nat.le_refl _
  | succ r ih => unfold slR; rw [List.length_append]; have := slX_len S q cr on r hn (aN S); omega
theorem slC_len (S : Ab) (q cr on r x y : Nat) (hn : aN S ≤ 10) : (slC S q cr on r x y).length ≤ 100 * r + 10 * x + y := by
  unfold slC
  rw [List.length_append, List.length_append]
  have h1 := slR_len S q cr on hn r
  have h2 := slX_len S q cr on r hn x
  have h3 := slY_len S q cr on r x y
  omega
/-- what a slight weighs for a guest -/
def mnd1 (S : Ab) (t : Nat × Nat × Nat × Nat) (g : Nat) : Nat := (if t.2.1 = g ∧ t.2.2.2 &&& 1 ≠ 0 then aWt S t.1 else 0) + (if t.2.2.1 = g ∧ t.2.2.2 &&& 2 ≠ 0 then aWt S t.1 else 0)
def mnd (S : Ab) (L : List (Nat × Nat × Nat × Nat)) (g : Nat) : Nat := (L.map (fun t => mnd1 S t g)).sum
theorem mnd_app (S : Ab) (L : List (Nat × Nat × Nat × Nat)) (t : Nat × Nat × Nat × Nat) (g : Nat) : mnd S (L ++ [t]) g = mnd S L g + mnd1 S t g := by simp [mnd]
/-- the model's arrays hold the list -/
def slA (S : Ab) (L : List (Nat × Nat × Nat × Nat)) (I : Nat → Int32) (V : Nat → Nat → Int32) : Prop := I 31 = nI L.length ∧ (∀ i t, L[i]? = some t → V 40 i = nI t.1 ∧ V 41 i = nI t.2.1 ∧ V 42 i = nI t.2.2.1) ∧ ∀ g, g < 10 → V 43 g = nI (mnd S L g)
theorem slA_push {S : Ab} {L : List (Nat × Nat × Nat × Nat)} {I : Nat → Int32} {V : Nat → Nat → Int32} {r x y w : Nat} (h : slA S L I V) (hxy : x ≠ y) : slA S (L ++ [(r, x, y, w)]) (va_up I 31 (nI (L.length + 1))) (vset (vset (vset (vset (vset V 40 L.length (nI r)) 41 L.length (nI x)) 42 L.length (nI y)) 43 x (nI (mnd S L x + (if w &&& 1 ≠ 0 then aWt S r else 0)))) 43 y (nI (mnd S L y + (if w &&& 2 ≠ 0 then aWt S r else 0)))) := by
  obtain ⟨h1, h2, h3⟩ := h
  refine ⟨by rw [va_up_self, List.length_append]; rfl, fun i t ht => ?_, fun g hg => ?_⟩
  · refine ⟨Eq.trans (b := if i = L.length then nI r else V 40 i) (by simp [vset, va_up, upd]) ?_, Eq.trans (b := if i = L.length then nI x else V 41 i) (by simp [vset, va_up, upd]) ?_, Eq.trans (b := if i = L.length then nI y else V 42 i) (by simp [vset, va_up, upd]) ?_⟩
    all_goals
      by_cases hi : i = L.length
      · subst hi
        rw [List.getElem?_append_right (Nat.le_refl _), Nat.sub_self] at ht
        have ht : some (r, x, y, w) = some t := ht
        cases ht
        rw [if_pos rfl]
      · have hi2 : i < L.length := by
          have := (List.getElem?_eq_some_iff.mp ht).1
          rw [List.length_append] at this
          have h4 : [(r, x, y, w)].length = 1 := rfl
          omega
        rw [List.getElem?_append_left hi2] at ht
        rw [if_neg hi]
        first | exact (h2 i t ht).1 | exact (h2 i t ht).2.1 | exact (h2 i t ht).2.2
  · rw [vset_in, vset_in, vset_off _ _ (by decide), vset_off _ _ (by decide), vset_off _ _ (by decide), h3 g hg, mnd_app]
    by_cases e1 : g = y
    · subst e1
      simp [mnd1, hxy]
    · by_cases e2 : g = x
      · subst e2
        simp [mnd1, e1]
        simp [Ne.symm hxy]
      · simp [mnd1, e1, e2]
        simp [Ne.symm e1, Ne.symm e2]
theorem slC_no {S : Ab} {q cr on r x y : Nat} (h : slP S r q cr on x y = false) : slC S q cr on r x (y + 1) = slC S q cr on r x y := by
  unfold slC
  rw [slY, h]
  simp
theorem slC_yes {S : Ab} {q cr on r x y : Nat} (h : slP S r q cr on x y = true) : slC S q cr on r x (y + 1) = slC S q cr on r x y ++ [(r, x, y, slW S r q cr on x y)] := by
  unfold slC
  rw [slY, h]
  simp
theorem slY_low {S : Ab} {q cr on r x : Nat} (hk : aKd S r ≠ 0) : slY S q cr on r x (x + 1) = [] := by
  have : ∀ k, k ≤ x + 1 → slY S q cr on r x k = [] := by
    intro k
    induction k with
    | zero => intro _; rfl
    | succ k ih =>
      intro h
      unfold slY
      rw [ih (by omega)]
      have : slP S r q cr on x k = false := by
        unfold slP cplL
        simp [hk, show ¬ x < k by omega]
      rw [this]
      rfl
  exact this _ (Nat.le_refl _)
theorem cpl_ne {S : Ab} {r x y : Nat} (h : cpl S r x y = true) : x ≠ y := by
  unfold cpl at h
  simp at h
  exact h.1.1.1
theorem cplL_ne {S : Ab} {r x y : Nat} (h : cplL S r x y = true) : x ≠ y := by
  unfold cplL at h
  split at h
  · exact cpl_ne h
  · simp at h
    omega
/-- weights of slights -/
def slSum (S : Ab) (L : List (Nat × Nat × Nat × Nat)) : Nat → Nat
  | 0 => 0
  | k + 1 => slSum S L k + aWt S (L.getD k (0, 0, 0, 0)).1
def slMax (S : Ab) (L : List (Nat × Nat × Nat × Nat)) : Nat → Nat
  | 0 => 0
  | k + 1 => max (slMax S L k) (aWt S (L.getD k (0, 0, 0, 0)).1)
/-- the heaviest rule of above that counts and has the couple; -1 without -/
def srcF (S : Ab) (room : Int32) (x y wo : Nat) : Nat → Int32
  | 0 => -1
  | r + 1 => if aKd S r = 0 ∧ wo.testBit r = false ∧ cntF S r room x y = true ∧ (srcF S room x y wo r = -1 ∨ aWt S (srcF S room x y wo r).toNatClampNeg < aWt S r) then nI r else srcF S room x y wo r
theorem srcF_lt (S : Ab) (room : Int32) (x y wo : Nat) : ∀ r, srcF S room x y wo r = -1 ∨ ∃ j, j < r ∧ srcF S room x y wo r = nI j := by
  intro r
  induction r with
  | zero => exact Or.inl rfl
  | succ r ih =>
    unfold srcF
    split
    · exact Or.inr ⟨r, by omega, rfl⟩
    · rcases ih with h | ⟨j, hj, h⟩
      · exact Or.inl h
      · exact Or.inr ⟨j, by omega, h⟩
def src (S : Ab) (room : Int32) (x y wo : Nat) : Int32 := srcF S room x y wo (aRl S)
/-- whether one of the first k is -/
def anyB (p : Nat → Bool) : Nat → Bool
  | 0 => false
  | k + 1 => anyB p k || p k
theorem anyB_iff (p : Nat → Bool) : ∀ k, anyB p k = true ↔ ∃ j, j < k ∧ p j = true := by
  intro k
  induction k with
  | zero => simp [anyB]
  | succ k ih =>
    unfold anyB
    rw [Bool.or_eq_true, ih]
    constructor
    · rintro (⟨j, hj, h⟩ | h)
      · exact ⟨j, by omega, h⟩
      · exact ⟨k, by omega, h⟩
    · rintro ⟨j, hj, h⟩
      rcases Nat.lt_succ_iff_lt_or_eq.mp hj with q | q
      · exact Or.inl ⟨j, q, h⟩
      · exact Or.inr (q ▸ h)
/-- x is above y; x and y are even -/
def abv (S : Ab) (room : Int32) (wo x y : Nat) : Bool := anyB (fun r => decide (aKd S r = 0) && !(wo.testBit r) && cntF S r room x y) (aRl S)
def evn (S : Ab) (room : Int32) (x y : Nat) : Bool := anyB (fun r => decide (aKd S r = 1) && cntF S r room x y) (aRl S)
theorem srcF_any (S : Ab) (room : Int32) (x y wo : Nat) : ∀ r, r ≤ 12 → (srcF S room x y wo r ≠ -1 ↔ anyB (fun r => decide (aKd S r = 0) && !(wo.testBit r) && cntF S r room x y) r = true) := by
  intro r
  induction r with
  | zero => intro _; simp [srcF, anyB]
  | succ r ih =>
    intro hr
    have ih := ih (by omega)
    unfold srcF anyB
    rw [Bool.or_eq_true, ← ih]
    by_cases h : aKd S r = 0 ∧ wo.testBit r = false ∧ cntF S r room x y = true
    · have hp : (decide (aKd S r = 0) && !(wo.testBit r) && cntF S r room x y) = true := by simp [h]
      constructor
      · intro _; exact Or.inr hp
      · intro _
        split
        · exact nI_m1 (by omega)
        · rename_i h2
          intro he
          exact h2 ⟨h.1, h.2.1, h.2.2, Or.inl he⟩
    · have hp : ¬ (decide (aKd S r = 0) && !(wo.testBit r) && cntF S r room x y) = true := by
        intro q
        simp at q
        exact h ⟨q.1.1, q.1.2, q.2⟩
      rw [if_neg (fun q => h ⟨q.1, q.2.1, q.2.2.1⟩)]
      constructor
      · exact Or.inl
      · rintro (q | q)
        · exact q
        · exact absurd q hp
theorem src_abv {S : Ab} (hO : SOK S) (room : Int32) (x y wo : Nat) : decide (src S room x y wo ≠ -1) = abv S room wo x y := by
  have := srcF_any S room x y wo (aRl S) hO.rl
  unfold src abv
  exact Bool.eq_iff_iff.mpr (by rw [decide_eq_true_iff]; exact this)
theorem whoM_le (S : Ab) (r q cr a b : Nat) : whoM S r q cr a b ≤ 3 := by
  unfold whoM
  split
  · split <;> omega
  · split
    · split <;> omega
    · split
      · omega
      · split <;> omega
theorem slW_le (S : Ab) (r q cr on x y : Nat) : slW S r q cr on x y ≤ 3 := whoM_le _ _ _ _ _ _
theorem slY_mem {S : Ab} {q cr on r x : Nat} {t : Nat × Nat × Nat × Nat} : ∀ y, t ∈ slY S q cr on r x y → t.1 = r ∧ t.2.1 = x ∧ t.2.2.1 < y := by
  intro y
  induction y with
  | zero => intro h; cases h
  | succ y ih =>
    intro h
    unfold slY at h
    rcases List.mem_append.mp h with h | h
    · obtain ⟨a, b, c⟩ := ih h
      exact ⟨a, b, by omega⟩
    · split at h
      · rw [List.mem_singleton.mp h]
        exact ⟨rfl, rfl, by simp⟩
      · cases h
theorem slX_mem {S : Ab} {q cr on r : Nat} {t : Nat × Nat × Nat × Nat} : ∀ x, t ∈ slX S q cr on r x → t.1 = r ∧ t.2.1 < x ∧ t.2.2.1 < aN S := by
  intro x
  induction x with
  | zero => intro h; cases h
  | succ x ih =>
    intro h
    unfold slX at h
    rcases List.mem_append.mp h with h | h
    · obtain ⟨a, b, c⟩ := ih h
      exact ⟨a, by omega, c⟩
    · obtain ⟨a, b, c⟩ := slY_mem _ h
      exact ⟨a, by omega, c⟩
theorem slR_mem {S : Ab} {q cr on : Nat} {t : Nat × Nat × Nat × Nat} : ∀ r, t ∈ slR S q cr on r → t.1 < r ∧ t.2.1 < aN S ∧ t.2.2.1 < aN S := by
  intro r
  induction r with
  | zero => intro h; cases h
  | succ r ih =>
    intro h
    unfold slR at h
    rcases List.mem_append.mp h with h | h
    · obtain ⟨a, b, c⟩ := ih h
      exact ⟨by omega, b, c⟩
    · obtain ⟨a, b, c⟩ := slX_mem _ h
      exact ⟨by omega, b, c⟩
abbrev t4 : Nat × Nat × Nat × Nat := (0, 0, 0, 0)
theorem getD_at {L : List (Nat × Nat × Nat × Nat)} {k : Nat} (hk : k < L.length) : L[k]? = some (L.getD k t4) := by
  rw [List.getD_eq_getElem?_getD, List.getElem?_eq_getElem hk]; rfl
theorem slL_at {S : Ab} {q cr on : Nat} {L : List (Nat × Nat × Nat × Nat)} (hL : L = slL S q cr on) {k : Nat} (hk : k < L.length) : (L.getD k t4).1 < aRl S ∧ (L.getD k t4).2.1 < aN S ∧ (L.getD k t4).2.2.1 < aN S := by
  refine slR_mem (q := q) (cr := cr) (on := on) (aRl S) ?_
  have := List.mem_of_getElem? (getD_at hk)
  rw [hL] at this ⊢
  exact this
theorem slSum_le {S : Ab} (hO : SOK S) {q cr on : Nat} {L : List (Nat × Nat × Nat × Nat)} (hL : L = slL S q cr on) : ∀ k, k ≤ L.length → slSum S L k ≤ 9 * k ∧ slMax S L k ≤ 9 := by
  intro k
  induction k with
  | zero => intro _; exact ⟨Nat.le_refl _, by unfold slMax; omega⟩
  | succ k ih =>
    intro hk
    have := ih (by omega)
    have h2 := hO.wt (slL_at hL (k := k) (by omega)).1
    have e1 : slSum S L (k + 1) = slSum S L k + aWt S (L.getD k t4).1 := rfl
    have e2 : slMax S L (k + 1) = max (slMax S L k) (aWt S (L.getD k t4).1) := rfl
    rw [e1, e2]
    omega
def spSlights (S : Ab) (room course what : Int32) : Int32 := if inN room (aRm S) && inN course 10 && inN what 3 then (if what = nI 0 then nI (slSum S (slL S room.toNatClampNeg course.toNatClampNeg 0) (slL S room.toNatClampNeg course.toNatClampNeg 0).length) else if what = nI 1 then nI (slL S room.toNatClampNeg course.toNatClampNeg 0).length else nI (slMax S (slL S room.toNatClampNeg course.toNatClampNeg 0) (slL S room.toNatClampNeg course.toNatClampNeg 0).length)) else -1
def slSel (S : Ab) (room : Int32) (L : List (Nat × Nat × Nat × Nat)) (k : Nat) (what : Int32) : Int32 := if what = nI 0 then nI (L.getD k t4).1 else if what = nI 1 then nI (L.getD k t4).2.1 else if what = nI 2 then nI (L.getD k t4).2.2.1 else if aKd S (L.getD k t4).1 = 0 then src S room (L.getD k t4).2.2.1 (L.getD k t4).2.1 0 else -1
def spSlight (S : Ab) (room course k what : Int32) : Int32 := if inN room (aRm S) && inN course 10 && inN what 4 && inN k (slL S room.toNatClampNeg course.toNatClampNeg 0).length then slSel S room (slL S room.toNatClampNeg course.toNatClampNeg 0) k.toNatClampNeg what else -1
/-- the first of those with the most -/
def mBest (f : Nat → Nat) : Nat → Int32
  | 0 => -1
  | x + 1 => if f x ≠ 0 ∧ (mBest f x = -1 ∨ f (mBest f x).toNatClampNeg < f x) then nI x else mBest f x
theorem mBest_lt (f : Nat → Nat) : ∀ x, mBest f x = -1 ∨ ∃ j, j < x ∧ mBest f x = nI j := by
  intro x
  induction x with
  | zero => exact Or.inl rfl
  | succ x ih =>
    unfold mBest
    split
    · exact Or.inr ⟨x, by omega, rfl⟩
    · rcases ih with h | ⟨j, hj, h⟩
      · exact Or.inl h
      · exact Or.inr ⟨j, by omega, h⟩
def spMinds (S : Ab) (room course g : Int32) : Int32 := if inN room (aRm S) && inN course 10 && (decide (g = -1) || inN g (aN S)) then (if g = -1 then mBest (mnd S (slL S room.toNatClampNeg course.toNatClampNeg 0)) (aN S) else nI (mnd S (slL S room.toNatClampNeg course.toNatClampNeg 0) g.toNatClampNeg)) else -1
theorem mnd_le {S : Ab} (hO : SOK S) {q cr on : Nat} {L : List (Nat × Nat × Nat × Nat)} (hL : L = slL S q cr on) (g : Nat) : mnd S L g ≤ 18 * L.length := by
  have hm : ∀ t ∈ L, t.1 < aRl S := fun t ht => (slR_mem (aRl S) (by rw [hL] at ht; exact ht)).1
  clear hL
  induction L with
  | nil => exact Nat.le_refl _
  | cons t L ih =>
    have h1 := ih (fun t ht => hm t (List.mem_cons_of_mem _ ht))
    have h2 := hO.wt (hm t List.mem_cons_self)
    have h3 : mnd1 S t g ≤ 18 := by unfold mnd1; split <;> split <;> omega
    have h4 : mnd S (t :: L) g = mnd1 S t g + mnd S L g := by simp [mnd]
    rw [h4, List.length_cons]
    omega
def spSource (S : Ab) (room x y : Int32) : Int32 := if inN room (aRm S) && inN x (aN S) && inN y (aN S) then src S room x.toNatClampNeg y.toNatClampNeg 0 else -1
/-- the model's matrices -/
def rkA (S : Ab) (room : Int32) (wo : Nat) (V : Nat → Nat → Int32) : Prop := (∀ x y, x < aN S → y < aN S → V 44 (10 * x + y) = zI (abv S room wo x y)) ∧ ∀ x y, x < aN S → y < aN S → V 45 (10 * x + y) = zI (evn S room x y)
def quB (S : Ab) (room : Int32) (x : Nat) (y : Nat) : Nat := cntN (fun y => abv S room 0 x y && abv S room 0 y x) y
def quA (S : Ab) (room : Int32) : Nat → Nat
  | 0 => 0
  | x + 1 => quA S room x + quB S room x x
theorem quA_le (S : Ab) (room : Int32) : ∀ x, x ≤ 10 → quA S room x ≤ 10 * x := by
  intro x
  induction x with
  | zero => intro _; exact Nat.le_refl _
  | succ x ih =>
    intro h
    have h1 := ih (by omega)
    have h2 : quB S room x x ≤ x := cntN_le _ _
    have e : quA S room (x + 1) = quA S room x + quB S room x x := rfl
    omega
def spQuarrels (S : Ab) (room : Int32) : Int32 := if inN room (aRm S) then nI (quA S room (aN S)) else -1
theorem qu_t {S : Ab} {room : Int32} {x y : Nat} (h1 : abv S room 0 x y = true) (h2 : abv S room 0 y x = true) : nI (quA S room x + quB S room x y) + nI 1 = nI (quA S room x + quB S room x (y + 1)) := by
  rw [nI_add]; simp [quB, cntN, h1, h2, Nat.add_assoc]
theorem qu_f {S : Ab} {room : Int32} {x y : Nat} (h : (abv S room 0 x y && abv S room 0 y x) = false) : nI (quA S room x + quB S room x y) + nI 0 = nI (quA S room x + quB S room x (y + 1)) := by
  rw [nI_add]; simp [quB, cntN, h]
theorem in4_3 {x : Int32} (h : nI 3 ≤ x) : ¬ x = nI 0 ∧ ¬ x = nI 1 ∧ ¬ x = nI 2 := by
  refine ⟨fun e => ?_, fun e => ?_, fun e => ?_⟩ <;> (rw [e] at h; exact absurd h (by decide))
theorem in4_2 {x : Int32} (h : inN x 4 = true) (h3 : ¬ nI 3 ≤ x) (h0 : ¬ x = nI 0) (h1 : ¬ x = nI 1) : x = nI 2 := by
  obtain ⟨j, hj, rfl⟩ := inN_t h
  match j, hj with
  | 0, _ => exact absurd rfl h0
  | 1, _ => exact absurd rfl h1
  | 2, _ => rfl
  | 3, _ => exact absurd (Int32.le_refl _) h3
theorem rk_two {U : Nat → Nat → Int32} {i j : Nat} {a b : Int32} (h : j ≠ i) : vset (vset U 44 i a) 45 i b 44 j = U 44 j ∧ vset (vset U 44 i a) 45 i b 45 j = U 45 j := by simp [vset, va_up, upd, h]
theorem rk_one {U : Nat → Nat → Int32} {i j : Nat} (h : j ≠ i) (b : Int32) : vset U 45 i b 44 j = U 44 j ∧ vset U 45 i b 45 j = U 45 j := by simp [vset, va_up, upd, h]
theorem or_zI {a b : Bool} {x : Int32} (h : x = zI b) : zI a ||| x = zI (a || b) := by subst h; cases a <;> cases b <;> decide
