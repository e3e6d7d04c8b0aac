/-! rules: which couples are told -/
set_option maxRecDepth 100000
def tldB (b1 b2 : Nat) (bu : Option Nat) (x y : Nat) : Bool := decide (x ≠ y) && (b1.testBit x && (b2.testBit y && (match bu with | none => true | some u => !(u.testBit y))))
/-- a rule's 'unless' -/
def UNL (h : Hp) (un : Value) (bu : Option Nat) : Prop := (un = .null ∧ bu = none) ∨ ∃ ma nm num bits t, un = .ref ma ∧ bu = some bits ∧ h ma = some (.inr (5, [.ref nm, .int (nI num), .int (nI bits)]), t) ∧ bits < 1024
/-- a couple that a rule of a kind holds -/
def hldB (kd b1 b2 : Nat) (bu : Option Nat) (x y : Nat) : Bool := if kd = 0 then tldB b1 b2 bu x y else decide (x < y) && (tldB b1 b2 bu x y || tldB b1 b2 bu y x)
