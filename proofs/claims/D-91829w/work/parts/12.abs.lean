/-! THE ABSTRACT STATE of the house, and what the model's cells hold of it -/
set_option maxRecDepth 100000
abbrev Ab : Type := (Nat → Nat) × (Nat → Nat → Nat) × (Nat → Nat → Bool) × (Nat → Nat → Int32)
/-- guests, marks, rules, rooms, bytes of text -/
def aN (S : Ab) : Nat := S.1 0
def aMk (S : Ab) : Nat := S.1 1
def aRl (S : Ab) : Nat := S.1 2
def aRm (S : Ab) : Nat := S.1 3
def aSz (S : Ab) : Nat := S.1 4
/-- a mark's guests as bits; a rule's kind, first, second, weight; a room's kind, places -/
def aMd (S : Ab) (m : Nat) : Nat := S.2.1 0 m
def aKd (S : Ab) (r : Nat) : Nat := S.2.1 1 r
def aOn (S : Ab) (r : Nat) : Nat := S.2.1 2 r
def aOt (S : Ab) (r : Nat) : Nat := S.2.1 3 r
def aWt (S : Ab) (r : Nat) : Nat := S.2.1 4 r
def aRk (S : Ab) (q : Nat) : Nat := S.2.1 5 q
def aRp (S : Ab) (q : Nat) : Nat := S.2.1 6 q
/-- a rule rests; a guest comes, sits -/
def aRs (S : Ab) (r : Nat) : Bool := S.2.2.1 0 r
def aCm (S : Ab) (g : Nat) : Bool := S.2.2.1 1 g
def aSi (S : Ab) (g : Nat) : Bool := S.2.2.1 2 g
/-- a rule's room, its 'unless'; a guest's room, place; the text -/
def aTl (S : Ab) (r : Nat) : Int32 := S.2.2.2 0 r
def aUn (S : Ab) (r : Nat) : Int32 := S.2.2.2 1 r
def aIr (S : Ab) (g : Nat) : Int32 := S.2.2.2 2 g
def aIp (S : Ab) (g : Nat) : Int32 := S.2.2.2 3 g
def aTx (S : Ab) (k : Nat) : Int32 := S.2.2.2 4 k
/-- a guest's number, or 100 and a mark's -/
def aWho (S : Ab) (w : Nat) : Prop := w < aN S ∨ (100 ≤ w ∧ w < 100 + aMk S)
def SOK (S : Ab) : Prop := (aN S ≤ 10 ∧ aMk S ≤ 5 ∧ aRl S ≤ 12 ∧ aRm S ≤ 4 ∧ aSz S ≤ 700) ∧ (∀ m, m < aMk S → aMd S m < 1024) ∧
  (∀ r, r < aRl S → aKd S r < 3 ∧ aWho S (aOn S r) ∧ aWho S (aOt S r) ∧ (1 ≤ aWt S r ∧ aWt S r ≤ 9) ∧ (aTl S r = -1 ∨ ∃ q, q < 4 ∧ aTl S r = nI q) ∧ (aUn S r = -1 ∨ ∃ m, m < aMk S ∧ aUn S r = nI m)) ∧
  (∀ q, q < aRm S → aRk S q < 5 ∧ 1 ≤ aRp S q ∧ aRp S q ≤ 10) ∧
  (∀ g, g < aN S → (aIr S g = -1 ∧ aIp S g = -1 ∧ aSi S g = false) ∨ (aCm S g = true ∧ ∃ q p, q < aRm S ∧ p < aRp S q ∧ aIr S g = nI q ∧ aIp S g = nI p))
/-- the model's cells hold S -/
def MOK (S : Ab) (I : Nat → Int32) (V : Nat → Nat → Int32) : Prop := (V 29 0 = nI (aN S) ∧ V 30 0 = nI (aMk S) ∧ V 31 0 = nI (aRl S) ∧ I 26 = nI (aRm S) ∧ I 1 = nI (aSz S)) ∧ (∀ m, m < aMk S → V 9 m = nI (aMd S m)) ∧
  (∀ r, r < aRl S → V 12 r = nI (aKd S r) ∧ V 15 r = nI (aOn S r) ∧ V 18 r = nI (aOt S r) ∧ V 21 r = nI (aWt S r) ∧ V 24 r = aTl S r ∧ V 27 r = aUn S r ∧ V 33 r = zI (aRs S r)) ∧
  (∀ g, g < aN S → V 34 g = zI (aCm S g) ∧ V 35 g = zI (aSi S g) ∧ V 36 g = aIr S g ∧ V 37 g = aIp S g) ∧
  (∀ q, q < aRm S → V 38 q = nI (aRk S q) ∧ V 39 q = nI (aRp S q)) ∧ (∀ k, k < aSz S → V 1 k = aTx S k)
theorem SOK.n {S : Ab} (h : SOK S) : aN S ≤ 10 := h.1.1
theorem SOK.mk {S : Ab} (h : SOK S) : aMk S ≤ 5 := h.1.2.1
theorem SOK.rl {S : Ab} (h : SOK S) : aRl S ≤ 12 := h.1.2.2.1
theorem SOK.rm {S : Ab} (h : SOK S) : aRm S ≤ 4 := h.1.2.2.2.1
theorem SOK.sz {S : Ab} (h : SOK S) : aSz S ≤ 700 := h.1.2.2.2.2
theorem SOK.md {S : Ab} (h : SOK S) {m : Nat} (hm : m < aMk S) : aMd S m < 1024 := h.2.1 m hm
theorem SOK.kd {S : Ab} (h : SOK S) {r : Nat} (hr : r < aRl S) : aKd S r < 3 := (h.2.2.1 r hr).1
theorem SOK.on {S : Ab} (h : SOK S) {r : Nat} (hr : r < aRl S) : aWho S (aOn S r) := (h.2.2.1 r hr).2.1
theorem SOK.ot {S : Ab} (h : SOK S) {r : Nat} (hr : r < aRl S) : aWho S (aOt S r) := (h.2.2.1 r hr).2.2.1
theorem SOK.wt {S : Ab} (h : SOK S) {r : Nat} (hr : r < aRl S) : 1 ≤ aWt S r ∧ aWt S r ≤ 9 := (h.2.2.1 r hr).2.2.2.1
theorem SOK.tl {S : Ab} (h : SOK S) {r : Nat} (hr : r < aRl S) : aTl S r = -1 ∨ ∃ q, q < 4 ∧ aTl S r = nI q := (h.2.2.1 r hr).2.2.2.2.1
theorem SOK.un {S : Ab} (h : SOK S) {r : Nat} (hr : r < aRl S) : aUn S r = -1 ∨ ∃ m, m < aMk S ∧ aUn S r = nI m := (h.2.2.1 r hr).2.2.2.2.2
theorem SOK.rk {S : Ab} (h : SOK S) {q : Nat} (hq : q < aRm S) : aRk S q < 5 := (h.2.2.2.1 q hq).1
theorem SOK.rp {S : Ab} (h : SOK S) {q : Nat} (hq : q < aRm S) : 1 ≤ aRp S q ∧ aRp S q ≤ 10 := (h.2.2.2.1 q hq).2
theorem SOK.at {S : Ab} (h : SOK S) {g : Nat} (hg : g < aN S) : (aIr S g = -1 ∧ aIp S g = -1 ∧ aSi S g = false) ∨ (aCm S g = true ∧ ∃ q p, q < aRm S ∧ p < aRp S q ∧ aIr S g = nI q ∧ aIp S g = nI p) := h.2.2.2.2 g hg
theorem MOK.n {S : Ab} {I : Nat → Int32} {V : Nat → Nat → Int32} (h : MOK S I V) : V 29 0 = nI (aN S) := h.1.1
theorem MOK.mk {S : Ab} {I : Nat → Int32} {V : Nat → Nat → Int32} (h : MOK S I V) : V 30 0 = nI (aMk S) := h.1.2.1
theorem MOK.rl {S : Ab} {I : Nat → Int32} {V : Nat → Nat → Int32} (h : MOK S I V) : V 31 0 = nI (aRl S) := h.1.2.2.1
theorem MOK.rm {S : Ab} {I : Nat → Int32} {V : Nat → Nat → Int32} (h : MOK S I V) : I 26 = nI (aRm S) := h.1.2.2.2.1
theorem MOK.sz {S : Ab} {I : Nat → Int32} {V : Nat → Nat → Int32} (h : MOK S I V) : I 1 = nI (aSz S) := h.1.2.2.2.2
theorem MOK.md {S : Ab} {I : Nat → Int32} {V : Nat → Nat → Int32} (h : MOK S I V) {m : Nat} (hm : m < aMk S) : V 9 m = nI (aMd S m) := h.2.1 m hm
theorem MOK.kd {S : Ab} {I : Nat → Int32} {V : Nat → Nat → Int32} (h : MOK S I V) {r : Nat} (hr : r < aRl S) : V 12 r = nI (aKd S r) := (h.2.2.1 r hr).1
theorem MOK.on {S : Ab} {I : Nat → Int32} {V : Nat → Nat → Int32} (h : MOK S I V) {r : Nat} (hr : r < aRl S) : V 15 r = nI (aOn S r) := (h.2.2.1 r hr).2.1
theorem MOK.ot {S : Ab} {I : Nat → Int32} {V : Nat → Nat → Int32} (h : MOK S I V) {r : Nat} (hr : r < aRl S) : V 18 r = nI (aOt S r) := (h.2.2.1 r hr).2.2.1
theorem MOK.wt {S : Ab} {I : Nat → Int32} {V : Nat → Nat → Int32} (h : MOK S I V) {r : Nat} (hr : r < aRl S) : V 21 r = nI (aWt S r) := (h.2.2.1 r hr).2.2.2.1
theorem MOK.tl {S : Ab} {I : Nat → Int32} {V : Nat → Nat → Int32} (h : MOK S I V) {r : Nat} (hr : r < aRl S) : V 24 r = aTl S r := (h.2.2.1 r hr).2.2.2.2.1
theorem MOK.un {S : Ab} {I : Nat → Int32} {V : Nat → Nat → Int32} (h : MOK S I V) {r : Nat} (hr : r < aRl S) : V 27 r = aUn S r := (h.2.2.1 r hr).2.2.2.2.2.1
theorem MOK.rs {S : Ab} {I : Nat → Int32} {V : Nat → Nat → Int32} (h : MOK S I V) {r : Nat} (hr : r < aRl S) : V 33 r = zI (aRs S r) := (h.2.2.1 r hr).2.2.2.2.2.2
theorem MOK.cm {S : Ab} {I : Nat → Int32} {V : Nat → Nat → Int32} (h : MOK S I V) {g : Nat} (hg : g < aN S) : V 34 g = zI (aCm S g) := (h.2.2.2.1 g hg).1
theorem MOK.si {S : Ab} {I : Nat → Int32} {V : Nat → Nat → Int32} (h : MOK S I V) {g : Nat} (hg : g < aN S) : V 35 g = zI (aSi S g) := (h.2.2.2.1 g hg).2.1
theorem MOK.ir {S : Ab} {I : Nat → Int32} {V : Nat → Nat → Int32} (h : MOK S I V) {g : Nat} (hg : g < aN S) : V 36 g = aIr S g := (h.2.2.2.1 g hg).2.2.1
theorem MOK.ip {S : Ab} {I : Nat → Int32} {V : Nat → Nat → Int32} (h : MOK S I V) {g : Nat} (hg : g < aN S) : V 37 g = aIp S g := (h.2.2.2.1 g hg).2.2.2
theorem MOK.rk {S : Ab} {I : Nat → Int32} {V : Nat → Nat → Int32} (h : MOK S I V) {q : Nat} (hq : q < aRm S) : V 38 q = nI (aRk S q) := (h.2.2.2.2.1 q hq).1
theorem MOK.rp {S : Ab} {I : Nat → Int32} {V : Nat → Nat → Int32} (h : MOK S I V) {q : Nat} (hq : q < aRm S) : V 39 q = nI (aRp S q) := (h.2.2.2.2.1 q hq).2
theorem MOK.tx {S : Ab} {I : Nat → Int32} {V : Nat → Nat → Int32} (h : MOK S I V) {k : Nat} (hk : k < aSz S) : V 1 k = aTx S k := h.2.2.2.2.2 k hk
/-- the places of V that hold S -/
def persV (k : Nat) : Bool := decide (k ∈ [1, 9, 12, 15, 18, 21, 24, 27, 29, 30, 31, 33, 34, 35, 36, 37, 38, 39])
theorem MOK.keep {S : Ab} {I I' : Nat → Int32} {V V' : Nat → Nat → Int32} (h : MOK S I V) (hV : ∀ k, persV k = true → V' k = V k) (h1 : I' 1 = I 1) (h26 : I' 26 = I 26) : MOK S I' V' := by
  unfold MOK
  rw [hV 1 rfl, hV 9 rfl, hV 12 rfl, hV 15 rfl, hV 18 rfl, hV 21 rfl, hV 24 rfl, hV 27 rfl, hV 29 rfl, hV 30 rfl, hV 31 rfl, hV 33 rfl, hV 34 rfl, hV 35 rfl, hV 36 rfl, hV 37 rfl, hV 38 rfl, hV 39 rfl, h1, h26]
  exact h
theorem MOK.vS {S : Ab} {I : Nat → Int32} {V : Nat → Nat → Int32} (h : MOK S I V) {k : Nat} (hk : persV k = false) (i : Nat) (x : Int32) : MOK S I (vset V k i x) :=
  h.keep (fun j hj => vset_off _ _ (fun e => by rw [e, hk] at hj; cases hj)) rfl rfl
theorem MOK.iS {S : Ab} {I : Nat → Int32} {V : Nat → Nat → Int32} (h : MOK S I V) {k : Nat} (hk : k ≠ 1 ∧ k ≠ 26) (x : Int32) : MOK S (va_up I k x) V :=
  h.keep (fun _ _ => rfl) (va_up_ne _ _ (Ne.symm hk.1)) (va_up_ne _ _ (Ne.symm hk.2))
/-! what rules say -/
def isOf (S : Ab) (w g : Nat) : Bool := if w < 100 then decide (w = g) else (aMd S (w - 100)).testBit g
def unB (S : Ab) (r y : Nat) : Bool := if aUn S r = -1 then true else !((aMd S (aUn S r).toNatClampNeg).testBit y)
def cpl (S : Ab) (r x y : Nat) : Bool := decide (x ≠ y) && isOf S (aOn S r) x && isOf S (aOt S r) y && unB S r y
def hasC (S : Ab) (r x y : Nat) : Bool := cpl S r x y || (decide (aKd S r ≠ 0) && cpl S r y x)
def cnt (S : Ab) (r : Nat) (room : Int32) : Bool := !(aRs S r) && (decide (aTl S r = -1) || decide (aTl S r = room))
def cntF (S : Ab) (r : Nat) (room : Int32) (x y : Nat) : Bool := cnt S r room && aCm S x && aCm S y && hasC S r x y
theorem sw_out2 {x : Int32} (h0 : ¬ x = nI 0) (h1 : ¬ x = nI 1) : x.toInt < 0 ∨ 1 < x.toInt := by
  have g0 := lv_neT (a := 0) h0 rfl
  have g1 := lv_neT (a := 1) h1 rfl
  omega
theorem sw_out3 {x : Int32} (h0 : ¬ x = nI 0) (h1 : ¬ x = nI 1) (h2 : ¬ x = nI 2) : x.toInt < 0 ∨ 2 < x.toInt := by
  have g0 := lv_neT (a := 0) h0 rfl
  have g1 := lv_neT (a := 1) h1 rfl
  have g2 := lv_neT (a := 2) h2 rfl
  omega
theorem sw_out4 {x : Int32} (h0 : ¬ x = nI 0) (h1 : ¬ x = nI 1) (h2 : ¬ x = nI 2) (h3 : ¬ x = nI 3) : x.toInt < 0 ∨ 3 < x.toInt := by
  have g0 := lv_neT (a := 0) h0 rfl
  have g1 := lv_neT (a := 1) h1 rfl
  have g2 := lv_neT (a := 2) h2 rfl
  have g3 := lv_neT (a := 3) h3 rfl
  omega
theorem sw_out5 {x : Int32} (h0 : ¬ x = nI 0) (h1 : ¬ x = nI 1) (h2 : ¬ x = nI 2) (h3 : ¬ x = nI 3) (h4 : ¬ x = nI 4) : x.toInt < 0 ∨ 4 < x.toInt := by
  have g0 := lv_neT (a := 0) h0 rfl
  have g1 := lv_neT (a := 1) h1 rfl
  have g2 := lv_neT (a := 2) h2 rfl
  have g3 := lv_neT (a := 3) h3 rfl
  have g4 := lv_neT (a := 4) h4 rfl
  omega
theorem sw_out8 {x : Int32} (h0 : ¬ x = nI 0) (h1 : ¬ x = nI 1) (h2 : ¬ x = nI 2) (h3 : ¬ x = nI 3) (h4 : ¬ x = nI 4) (h5 : ¬ x = nI 5) (h6 : ¬ x = nI 6) (h7 : ¬ x = nI 7) : x.toInt < 0 ∨ 7 < x.toInt := by
  have g0 := lv_neT (a := 0) h0 rfl
  have g1 := lv_neT (a := 1) h1 rfl
  have g2 := lv_neT (a := 2) h2 rfl
  have g3 := lv_neT (a := 3) h3 rfl
  have g4 := lv_neT (a := 4) h4 rfl
  have g5 := lv_neT (a := 5) h5 rfl
  have g6 := lv_neT (a := 6) h6 rfl
  have g7 := lv_neT (a := 7) h7 rfl
  omega
theorem sw_out9 {x : Int32} (h0 : ¬ x = nI 0) (h1 : ¬ x = nI 1) (h2 : ¬ x = nI 2) (h3 : ¬ x = nI 3) (h4 : ¬ x = nI 4) (h5 : ¬ x = nI 5) (h6 : ¬ x = nI 6) (h7 : ¬ x = nI 7) (h8 : ¬ x = nI 8) : x.toInt < 0 ∨ 8 < x.toInt := by
  have g0 := lv_neT (a := 0) h0 rfl
  have g1 := lv_neT (a := 1) h1 rfl
  have g2 := lv_neT (a := 2) h2 rfl
  have g3 := lv_neT (a := 3) h3 rfl
  have g4 := lv_neT (a := 4) h4 rfl
  have g5 := lv_neT (a := 5) h5 rfl
  have g6 := lv_neT (a := 6) h6 rfl
  have g7 := lv_neT (a := 7) h7 rfl
  have g8 := lv_neT (a := 8) h8 rfl
  omega
/-! Math -/
def i_min (x y : Int32) : Int32 := if y < x then y else x
def i_max (x y : Int32) : Int32 := if x < y then y else x
def i_abs (x : Int32) : Int32 := if 0 ≤ x then x else 0 - x
theorem i_minN {a b : Nat} (ha : a < 2 ^ 31) (hb : b < 2 ^ 31) : i_min (nI a) (nI b) = nI (min a b) := by
  unfold i_min
  by_cases h : b < a
  · rw [if_pos ((nI_ltI hb ha).mpr h), Nat.min_eq_right (by omega)]
  · rw [if_neg (fun q => h ((nI_ltI hb ha).mp q)), Nat.min_eq_left (by omega)]
theorem i_maxN {a b : Nat} (ha : a < 2 ^ 31) (hb : b < 2 ^ 31) : i_max (nI a) (nI b) = nI (max a b) := by
  unfold i_max
  by_cases h : a < b
  · rw [if_pos ((nI_ltI ha hb).mpr h), Nat.max_eq_right (by omega)]
  · rw [if_neg (fun q => h ((nI_ltI ha hb).mp q)), Nat.max_eq_left (by omega)]
