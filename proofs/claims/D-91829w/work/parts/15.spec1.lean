/-! the answers of the small public methods, by the abstract state -/
set_option maxRecDepth 100000
def setB (S : Ab) (k i : Nat) (b : Bool) : Ab := (S.1, S.2.1, va_up S.2.2.1 k (va_up (S.2.2.1 k) i b), S.2.2.2)
def setX (S : Ab) (k i : Nat) (x : Int32) : Ab := (S.1, S.2.1, S.2.2.1, va_up S.2.2.2 k (va_up (S.2.2.2 k) i x))
def setA (S : Ab) (k i : Nat) (x : Nat) : Ab := (S.1, va_up S.2.1 k (va_up (S.2.1 k) i x), S.2.2.1, S.2.2.2)
def setN (S : Ab) (k : Nat) (x : Nat) : Ab := (va_up S.1 k x, S.2.1, S.2.2.1, S.2.2.2)
theorem MOK.sRs {S : Ab} {I : Nat → Int32} {V : Nat → Nat → Int32} (h : MOK S I V) (r : Nat) (b : Bool) : MOK (setB S 0 r b) I (vset V 33 r (zI b)) := by
  refine ⟨h.1, h.2.1, fun r' hr' => ?_, h.2.2.2.1, h.2.2.2.2.1, h.2.2.2.2.2⟩
  have k := h.2.2.1 r' hr'
  refine ⟨k.1, k.2.1, k.2.2.1, k.2.2.2.1, k.2.2.2.2.1, k.2.2.2.2.2.1, ?_⟩
  show vset V 33 r (zI b) 33 r' = zI (va_up (S.2.2.1 0) r b r')
  rw [vset_in]
  unfold va_up
  split
  · rfl
  · exact k.2.2.2.2.2.2
theorem MOK.sCm {S : Ab} {I : Nat → Int32} {V : Nat → Nat → Int32} (h : MOK S I V) (g : Nat) (b : Bool) : MOK (setB S 1 g b) I (vset V 34 g (zI b)) := by
  refine ⟨h.1, h.2.1, h.2.2.1, fun r' hr' => ?_, h.2.2.2.2.1, h.2.2.2.2.2⟩
  have k := h.2.2.2.1 r' hr'
  refine ⟨?_, k.2.1, k.2.2.1, k.2.2.2⟩
  show vset V 34 g (zI b) 34 r' = zI (va_up (S.2.2.1 1) g b r')
  rw [vset_in]
  unfold va_up
  split
  · rfl
  · exact k.1
theorem MOK.sSi {S : Ab} {I : Nat → Int32} {V : Nat → Nat → Int32} (h : MOK S I V) (g : Nat) (b : Bool) : MOK (setB S 2 g b) I (vset V 35 g (zI b)) := by
  refine ⟨h.1, h.2.1, h.2.2.1, fun r' hr' => ?_, h.2.2.2.2.1, h.2.2.2.2.2⟩
  have k := h.2.2.2.1 r' hr'
  refine ⟨k.1, ?_, k.2.2.1, k.2.2.2⟩
  show vset V 35 g (zI b) 35 r' = zI (va_up (S.2.2.1 2) g b r')
  rw [vset_in]
  unfold va_up
  split
  · rfl
  · exact k.2.1
theorem MOK.sIr {S : Ab} {I : Nat → Int32} {V : Nat → Nat → Int32} (h : MOK S I V) (g : Nat) (x : Int32) : MOK (setX S 2 g x) I (vset V 36 g x) := by
  refine ⟨h.1, h.2.1, h.2.2.1, fun r' hr' => ?_, h.2.2.2.2.1, h.2.2.2.2.2⟩
  have k := h.2.2.2.1 r' hr'
  refine ⟨k.1, k.2.1, ?_, k.2.2.2⟩
  show vset V 36 g x 36 r' = va_up (S.2.2.2 2) g x r'
  rw [vset_in]
  unfold va_up
  split
  · rfl
  · exact k.2.2.1
theorem MOK.sIp {S : Ab} {I : Nat → Int32} {V : Nat → Nat → Int32} (h : MOK S I V) (g : Nat) (x : Int32) : MOK (setX S 3 g x) I (vset V 37 g x) := by
  refine ⟨h.1, h.2.1, h.2.2.1, fun r' hr' => ?_, h.2.2.2.2.1, h.2.2.2.2.2⟩
  have k := h.2.2.2.1 r' hr'
  refine ⟨k.1, k.2.1, k.2.2.1, ?_⟩
  show vset V 37 g x 37 r' = va_up (S.2.2.2 3) g x r'
  rw [vset_in]
  unfold va_up
  split
  · rfl
  · exact k.2.2.2
/-- a room is made -/
theorem MOK.sRoom {S : Ab} {I : Nat → Int32} {V : Nat → Nat → Int32} (h : MOK S I V) (k n : Nat) : MOK (setN (setA (setA S 5 (aRm S) k) 6 (aRm S) n) 3 (aRm S + 1)) (va_up I 26 (nI (aRm S + 1))) (vset (vset V 38 (aRm S) (nI k)) 39 (aRm S) (nI n)) := by
  refine ⟨⟨h.1.1, h.1.2.1, h.1.2.2.1, rfl, h.1.2.2.2.2⟩, h.2.1, h.2.2.1, h.2.2.2.1, fun q hq => ?_, h.2.2.2.2.2⟩
  have hq : q < aRm S + 1 := hq
  constructor
  · show vset V 38 (aRm S) (nI k) 38 q = nI (va_up (S.2.1 5) (aRm S) k q)
    rw [vset_in]
    unfold va_up
    split
    · rfl
    · exact (h.2.2.2.2.1 q (by omega)).1
  · show vset (vset V 38 (aRm S) (nI k)) 39 (aRm S) (nI n) 39 q = nI (va_up (S.2.1 6) (aRm S) n q)
    rw [vset_in]
    unfold va_up
    split
    · rfl
    · exact (h.2.2.2.2.1 q (by omega)).2
/-- how many of the first k -/
def cntN (p : Nat → Bool) : Nat → Nat
  | 0 => 0
  | k + 1 => cntN p k + (if p k then 1 else 0)
theorem cntN_le (p : Nat → Bool) : ∀ k, cntN p k ≤ k := by
  intro k
  induction k with
  | zero => exact Nat.le_refl _
  | succ k ih => unfold cntN; split <;> omega
theorem cntN_t {p : Nat → Bool} {k : Nat} (h : p k = true) : nI (cntN p k) + nI 1 = nI (cntN p (k + 1)) := by rw [nI_add]; simp [cntN, h]
theorem cntN_f {p : Nat → Bool} {k : Nat} (h : p k = false) : nI (cntN p k) + nI 0 = nI (cntN p (k + 1)) := by rw [nI_add]; simp [cntN, h]
def spGuest (S : Ab) (g what : Int32) : Int32 := if inN g (aN S) then (if what = nI 0 then zI (aCm S g.toNatClampNeg) else if what = nI 1 then nI (mrkB S g.toNatClampNeg (aMk S)) else if what = nI 2 then aIr S g.toNatClampNeg else if what = nI 3 then aIp S g.toNatClampNeg else if what = nI 4 then zI (aSi S g.toNatClampNeg) else -1) else -1
/-- a rule's couples as the first lists them: x up, y up -/
def cplL (S : Ab) (r x y : Nat) : Bool := if aKd S r = 0 then cpl S r x y else decide (x < y) && (cpl S r x y || cpl S r y x)
/-- how many of the couples (x, _) with y among the first k -/
def rowN (S : Ab) (r x : Nat) (k : Nat) : Nat := cntN (fun y => cplL S r x y) k
def allN (S : Ab) (r : Nat) : Nat → Nat
  | 0 => 0
  | x + 1 => allN S r x + rowN S r x (aN S)
theorem allN_le (S : Ab) (r : Nat) : ∀ k, allN S r k ≤ k * aN S := by
  intro k
  induction k with
  | zero => simp [allN]
  | succ k ih =>
    have h2 := cntN_le (fun y => cplL S r k y) (aN S)
    have h1 : allN S r (k + 1) = allN S r k + cntN (fun y => cplL S r k y) (aN S) := rfl
    rw [h1, Nat.succ_mul]
    omega
theorem rowN_low {S : Ab} {r x : Nat} (hk : aKd S r ≠ 0) : rowN S r x (x + 1) = 0 := by
  have : ∀ k, k ≤ x + 1 → cntN (fun y => cplL S r x y) k = 0 := by
    intro k
    induction k with
    | zero => intro _; rfl
    | succ k ih =>
      intro h
      unfold cntN
      rw [ih (by omega)]
      simp [cplL, hk]
      omega
  exact this _ (Nat.le_refl _)
def spRule (S : Ab) (r what : Int32) : Int32 := if inN r (aRl S) then (if what = nI 0 then nI (aKd S r.toNatClampNeg) else if what = nI 1 then nI (aOn S r.toNatClampNeg) else if what = nI 2 then nI (aOt S r.toNatClampNeg) else if what = nI 3 then nI (aWt S r.toNatClampNeg) else if what = nI 4 then aTl S r.toNatClampNeg else if what = nI 5 then aUn S r.toNatClampNeg else if what = nI 6 then nI (allN S r.toNatClampNeg (aN S)) else if what = nI 7 then zI (aRs S r.toNatClampNeg) else -1) else -1
def okRest (S : Ab) (r : Int32) (b : Bool) : Bool := inN r (aRl S) && (aRs S r.toNatClampNeg != b)
def stRest (S : Ab) (r : Int32) (b : Bool) : Ab := if okRest S r b then setB S 0 r.toNatClampNeg b else S
def outS (S : Ab) (g : Nat) : Ab := setX (setX (setB S 2 g false) 2 g (-1)) 3 g (-1)
def okComes (S : Ab) (g : Int32) (b : Bool) : Bool := inN g (aN S) && (aCm S g.toNatClampNeg != b)
def stComes (S : Ab) (g : Int32) (b : Bool) : Ab := if okComes S g b then outS (setB S 1 g.toNatClampNeg b) g.toNatClampNeg else S
/-- nobody of the first k is at that place -/
def freeP (S : Ab) (room place : Int32) (k : Nat) : Prop := ∀ x, x < k → ¬ (aIr S x = room ∧ aIp S x = place)
def freeB (S : Ab) (room place : Int32) : Bool := decide (∀ x, x < aN S → ¬ (aIr S x = room ∧ aIp S x = place))
def okSeat (S : Ab) (g room place : Int32) : Bool := inN g (aN S) && aCm S g.toNatClampNeg && !(aSi S g.toNatClampNeg) && inN room (aRm S) && inN place (aRp S room.toNatClampNeg) && freeB S room place
def stSeat (S : Ab) (g room place : Int32) : Ab := if okSeat S g room place then setX (setX S 2 g.toNatClampNeg room) 3 g.toNatClampNeg place else S
def okLeave (S : Ab) (g : Int32) : Bool := inN g (aN S) && decide (aIr S g.toNatClampNeg ≠ -1) && !(aSi S g.toNatClampNeg)
def stLeave (S : Ab) (g : Int32) : Ab := if okLeave S g then setX (setX S 2 g.toNatClampNeg (-1)) 3 g.toNatClampNeg (-1) else S
def okSits (S : Ab) (g : Int32) (b : Bool) : Bool := inN g (aN S) && decide (aIr S g.toNatClampNeg ≠ -1) && (aSi S g.toNatClampNeg != b)
def stSits (S : Ab) (g : Int32) (b : Bool) : Ab := if okSits S g b then setB S 2 g.toNatClampNeg b else S
def spHigher (S : Ab) (room course a b : Int32) : Int32 := if inN room (aRm S) && inN course 10 && inN a (aRp S room.toNatClampNeg) && inN b (aRp S room.toNatClampNeg) then hgh S room.toNatClampNeg course.toNatClampNeg a.toNatClampNeg b.toNatClampNeg else -1
def okRoom (S : Ab) (k n : Int32) : Bool := inN k 5 && inN (n - 1) 10 && decide (aRm S ≠ 4)
def stRoom (S : Ab) (k n : Int32) : Ab := if okRoom S k n then setN (setA (setA S 5 (aRm S) k.toNatClampNeg) 6 (aRm S) n.toNatClampNeg) 3 (aRm S + 1) else S
def spRoom (S : Ab) (k n : Int32) : Int32 := if okRoom S k n then nI (aRm S) else -1
def spCount (S : Ab) (what : Int32) : Int32 := if what = nI 0 then nI (aN S) else if what = nI 1 then nI (aMk S) else if what = nI 2 then nI (aRl S) else if what = nI 3 then nI (aRm S) else if what = nI 4 then nI (aSz S) else if what = nI 5 then nI (cntN (aCm S) (aN S)) else if what = nI 6 then nI (cntN (fun g => decide (aIr S g ≠ -1)) (aN S)) else if what = nI 7 then nI (cntN (aSi S) (aN S)) else if what = nI 8 then nI (cntN (aRs S) (aRl S)) else -1
theorem nI_neJ {a b : Nat} (ha : a < 2 ^ 31) (hb : b < 2 ^ 31) (h : a ≠ b) : ¬ nI a = nI b := fun q => h (nI_inj ha hb q)
theorem b_shlt (b : Bool) {k : Nat} (hk : k < 31) : (if b then 1 else 0) * 2 ^ k < 2 ^ 32 := by
  have := Nat.pow_lt_pow_right (a := 2) (by omega) (show k < 32 by omega)
  cases b <;> simp <;> omega
theorem nIn8 : ((nI 3 : Int32) = nI 0 ↔ False) ∧ ((nI 3 : Int32) = nI 1 ↔ False) ∧ ((nI 3 : Int32) = nI 2 ↔ False) ∧ ((nI 4 : Int32) = nI 0 ↔ False) ∧ ((nI 4 : Int32) = nI 1 ↔ False) ∧ ((nI 4 : Int32) = nI 2 ↔ False) ∧ ((nI 4 : Int32) = nI 3 ↔ False) ∧ ((nI 5 : Int32) = nI 0 ↔ False) ∧ ((nI 5 : Int32) = nI 1 ↔ False) ∧ ((nI 5 : Int32) = nI 2 ↔ False) ∧ ((nI 5 : Int32) = nI 3 ↔ False) ∧ ((nI 5 : Int32) = nI 4 ↔ False) ∧ ((nI 6 : Int32) = nI 0 ↔ False) ∧ ((nI 6 : Int32) = nI 1 ↔ False) ∧ ((nI 6 : Int32) = nI 2 ↔ False) ∧ ((nI 6 : Int32) = nI 3 ↔ False) ∧ ((nI 6 : Int32) = nI 4 ↔ False) ∧ ((nI 6 : Int32) = nI 5 ↔ False) := by decide
theorem nIn9 : ((nI 7 : Int32) = nI 0 ↔ False) ∧ ((nI 7 : Int32) = nI 1 ↔ False) ∧ ((nI 7 : Int32) = nI 2 ↔ False) ∧ ((nI 7 : Int32) = nI 3 ↔ False) ∧ ((nI 7 : Int32) = nI 4 ↔ False) ∧ ((nI 7 : Int32) = nI 5 ↔ False) ∧ ((nI 7 : Int32) = nI 6 ↔ False) ∧ ((nI 8 : Int32) = nI 0 ↔ False) ∧ ((nI 8 : Int32) = nI 1 ↔ False) ∧ ((nI 8 : Int32) = nI 2 ↔ False) ∧ ((nI 8 : Int32) = nI 3 ↔ False) ∧ ((nI 8 : Int32) = nI 4 ↔ False) ∧ ((nI 8 : Int32) = nI 5 ↔ False) ∧ ((nI 8 : Int32) = nI 6 ↔ False) ∧ ((nI 8 : Int32) = nI 7 ↔ False) := by decide
theorem nI01 : (nI 0 : Int32) = 0 ∧ (nI 1 : Int32) = 1 := ⟨rfl, rfl⟩
theorem hasC_cpl {S : Ab} {r x y : Nat} {b : Bool} (h : aKd S r ≠ 0 → x < y) (hc : hasC S r x y = b) : cplL S r x y = b := by
  rw [← hc]
  unfold cplL hasC
  by_cases h0 : aKd S r = 0
  · simp [h0]
  · simp [h0, h h0]
theorem rule_t {S : Ab} {r x y : Nat} (h : cplL S r x y = true) : nI (allN S r x + rowN S r x y) + nI 1 = nI (allN S r x + rowN S r x (y + 1)) := by
  rw [nI_add]; simp [rowN, cntN, h, Nat.add_assoc]
theorem rule_f {S : Ab} {r x y : Nat} (h : cplL S r x y = false) : nI (allN S r x + rowN S r x y) + nI 0 = nI (allN S r x + rowN S r x (y + 1)) := by
  rw [nI_add]; simp [rowN, cntN, h]
theorem free_up {S : Ab} {room place : Int32} {x : Nat} (h : freeP S room place x) (hx : ¬ (aIr S x = room ∧ aIp S x = place)) : freeP S room place (x + 1) := by
  intro z hz
  rcases Nat.lt_succ_iff_lt_or_eq.mp hz with q | q
  · exact h z q
  · rw [q]; exact hx
theorem in1_t {x : Int32} (h : inN (x - 1) 10 = true) : ∃ j : Nat, (1 ≤ j ∧ j ≤ 10) ∧ x = nI j := by
  obtain ⟨j, hj, e⟩ := inN_t h
  refine ⟨j + 1, by omega, ?_⟩
  rw [← nI_1, ← e]
  grind
theorem in_1k {g : Int32} : decide ((1 : Int64) ≤ Int32.toInt64 g ∧ Int32.toInt64 g ≤ (10 : Int64)) = inN (g - 1) 10 := by
  apply decide_eq_decide.mpr
  have h1 : (1 : Int64) = Int32.toInt64 1 := by decide
  have h2 : (10 : Int64) = Int32.toInt64 10 := by decide
  rw [h1, h2, i64_le, i64_le, Int32.toInt_sub]
  have h3 : (1 : Int32).toInt = 1 := by decide
  have h4 : (10 : Int32).toInt = 10 := by decide
  rw [h3, h4]
  have ha := g.le_toInt
  have hb := g.toInt_lt
  constructor
  · intro ⟨p, q⟩
    rw [Int.bmod_eq_of_le (by omega) (by omega)]
    omega
  · intro ⟨p, q⟩
    by_cases hm : g.toInt = -2147483648
    · rw [hm] at p q
      exfalso
      revert p q
      decide
    · rw [Int.bmod_eq_of_le (by omega) (by omega)] at p q
      omega
