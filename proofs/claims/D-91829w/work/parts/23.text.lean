/-! the text: feed, end -/
set_option maxRecDepth 100000
/-- a byte more -/
def pushB (S : Ab) (x : Int32) : Ab := setN (setX S 4 (aSz S) x) 4 (aSz S + 1)
theorem MOK.push {S : Ab} {I : Nat → Int32} {V : Nat → Nat → Int32} (h : MOK S I V) (x : Int32) : MOK (pushB S x) (va_up I 1 (nI (aSz S + 1))) (vset V 1 (aSz S) x) := by
  refine ⟨⟨h.1.1, h.1.2.1, h.1.2.2.1, h.1.2.2.2.1, rfl⟩, h.2.1, h.2.2.1, h.2.2.2.1, h.2.2.2.2.1, fun k hk => ?_⟩
  have hk : k < aSz S + 1 := hk
  show vset V 1 (aSz S) x 1 k = va_up (S.2.2.2 4) (aSz S) x k
  rw [vset_in]
  unfold va_up
  split
  · rfl
  · exact h.2.2.2.2.2 k (by omega)
theorem MOK.sSz {S : Ab} {I : Nat → Int32} {V : Nat → Nat → Int32} (h : MOK S I V) {j : Nat} (hj : j ≤ aSz S) : MOK (setN S 4 j) (va_up I 1 (nI j)) V := by
  refine ⟨⟨h.1.1, h.1.2.1, h.1.2.2.1, h.1.2.2.2.1, rfl⟩, h.2.1, h.2.2.1, h.2.2.2.1, h.2.2.2.2.1, fun k hk => ?_⟩
  have hk : k < j := hk
  exact h.2.2.2.2.2 k (by omega)
/-- byte k of a word, 3 the highest -/
def byU (v : Int32) (k : Nat) : Int32 := Int8.toInt32 (Int32.toInt8 (ushr v (8 * k)))
def stFeeds (S : Ab) (v : Int32) : Ab := pushB (pushB (pushB (pushB S (byU v 3)) (byU v 2)) (byU v 1)) (byU v 0)
def stFeed (S : Ab) (a b c d e : Int32) : Ab := if aSz S + 20 ≤ 700 then stFeeds (stFeeds (stFeeds (stFeeds (stFeeds S a) b) c) d) e else S
def spFeed (S : Ab) : Int32 := if aSz S + 20 ≤ 700 then nI (aSz S + 20) else -1
theorem in_le {g : Int32} {n : Nat} (hn : n < 2 ^ 30) : decide ((0 : Int64) ≤ Int32.toInt64 g ∧ Int32.toInt64 g ≤ Int32.toInt64 (nI n)) = inN g (n + 1) := by
  apply decide_eq_decide.mpr
  have h0 : (0 : Int64) = Int32.toInt64 0 := by decide
  rw [h0, i64_le, i64_le, nI_toInt (by omega)]
  have h1 : (0 : Int32).toInt = 0 := by decide
  rw [h1]
  omega
def okEnd (S : Ab) (n : Int32) : Bool := inN n (aSz S + 1)
def stEnd (S : Ab) (n : Int32) : Ab := if okEnd S n then setN S 4 n.toNatClampNeg else S
