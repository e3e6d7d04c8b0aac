/-! rules: who minds, by kind -/
set_option maxRecDepth 100000
def hiI (k n c a b : Nat) : Int32 := if a = b then nI 0 else if htN k n c a = htN k n c b then alI k else if htN k n c a < htN k n c b then nI 1 else nI 2
def wmN (kd k n c a b : Nat) : Nat := if kd = 2 then (if beB k n a b then 3 else 0) else if kd = 0 then (if hiI k n c a b = nI 2 ∨ hiI k n c a b = nI 0 then 1 else 0) else (if hiI k n c a b = nI 1 then 2 else if hiI k n c a b = nI 2 then 1 else 0)
theorem whoM_wm {S : Ab} {r q c a b : Nat} (hk : aRk S q < 5) (ha : a < aRp S q) (hb : b < aRp S q) : whoM S r q c a b = wmN (aKd S r) (aRk S q) (aRp S q) c a b := by
  unfold whoM wmN
  rw [bes_be, hgh_ht hk ha hb]
  rfl
/-- a rule's class, by its kind -/
def cRl (kd : Nat) : Nat := if kd = 0 then 6 else if kd = 1 then 8 else 9
/-- a guest or a mark: its code, its guests as bits -/
def SIDE (h : Hp) (sa w bits : Nat) : Prop := (∃ nm f2 f3 f4 f5 t, h sa = some (.inr (4, [.ref nm, .int (nI w), f2, f3, f4, f5]), t) ∧ w < 10 ∧ bits = 2 ^ w) ∨ (∃ nm num t, h sa = some (.inr (5, [.ref nm, .int (nI num), .int (nI bits)]), t) ∧ w = 100 + num ∧ num < 5 ∧ bits < 1024)
