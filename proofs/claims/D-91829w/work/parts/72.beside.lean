/-! who is beside whom, by a room's kind -/
set_option maxRecDepth 100000
def beB (k n a b : Nat) : Bool := if k = 1 then decide (adist a b = 2) else if k = 2 then decide (adist a b ≠ 0) && (decide (adist a b = 1) || decide (adist a b = n - 1)) else if k = 3 then decide (adist a b ≠ 0) && decide (a / 2 = b / 2) else decide (adist a b = 1)
theorem bes_be (S : Ab) (q a b : Nat) : bes S q a b = beB (aRk S q) (aRp S q) a b := rfl
