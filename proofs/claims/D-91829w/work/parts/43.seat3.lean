/-! seatings: the search, as a fold over the seatings in their order -/
set_option maxRecDepth 100000
/-- what the last of a row of places adds -/
def seW (S : Ab) (q : Nat) (mem pl : List Nat) (p : Nat) : Nat → Nat
  | 0 => 0
  | j + 1 => seW S q mem pl p j + wgP S q j pl.length (mem.getD j 0) (mem.getD pl.length 0) (pl.getD j 0) p
def seH (S : Ab) (q : Nat) (mem pl : List Nat) (p m : Nat) : Nat → Nat
  | 0 => m
  | j + 1 => max (seH S q mem pl p m j) (hvP S q j pl.length (mem.getD j 0) (mem.getD pl.length 0) (pl.getD j 0) p)
/-- all seatings from a beginning pl on, with the sum w and the worst m so far; leaf takes each -/
def srF {σ : Type} (S : Ab) (q n : Nat) (mem : List Nat) (ok : Nat → Nat → Bool) (leaf : σ → List Nat → Nat → Nat → σ) : Nat → List Nat → Nat → Nat → σ → σ
  | 0, pl, w, m, z => leaf z pl w m
  | k + 1, pl, w, m, z => (List.range n).foldl (fun z p => if pl.contains p || !(ok pl.length p) then z else srF S q n mem ok leaf k (pl ++ [p]) (w + seW S q mem pl p pl.length) (seH S q mem pl p m pl.length) z) z
/-- the least sum, and all seatings that have it -/
def lsU (z : Option (Nat × List (List Nat))) (pl : List Nat) (w : Nat) : Option (Nat × List (List Nat)) := match z with
  | none => some (w, [pl])
  | some (b, L) => if w < b then some (w, [pl]) else if w = b then some (b, L ++ [pl]) else some (b, L)
/-- the mildest, of these the least, of these the first: worst, sum, seating -/
def mlU (z : Option (Nat × Nat × List Nat)) (pl : List Nat) (w m : Nat) : Option (Nat × Nat × List Nat) := match z with
  | none => some (m, w, pl)
  | some (b, a, L) => if m < b ∨ (m = b ∧ w < a) then some (m, w, pl) else some (b, a, L)
/-- how many move -/
def mvN (S : Ab) (q : Nat) (mem pl : List Nat) (k : Nat) : Nat := cntN (fun i => decide (aIr S (mem.getD i 0) = nI q) && decide (aIp S (mem.getD i 0) ≠ nI (pl.getD i 0))) k
def mdU (S : Ab) (q : Nat) (mem : List Nat) (lim : Int32) (z : Option (Nat × List Nat)) (pl : List Nat) (w : Nat) : Option (Nat × List Nat) := if lim < nI w then z else match z with
  | none => some (mvN S q mem pl mem.length, pl)
  | some (b, L) => if mvN S q mem pl mem.length < b then some (mvN S q mem pl mem.length, pl) else some (b, L)
