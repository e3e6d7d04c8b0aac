/-! Integer.bitCount, numberOfTrailingZeros, by Nat -/
set_option maxRecDepth 100000
def ushr (x : Int32) (k : Nat) : Int32 := UInt32.toInt32 (Int32.toUInt32 x >>> (Int32.toUInt32 (nI k) &&& Int32.toUInt32 31))
def bc1 (x : Int32) : Int32 := x - (ushr x 1 &&& 1431655765)
def bc2 (x : Int32) : Int32 := (x &&& 858993459) + (ushr x 2 &&& 858993459)
def bc3 (x : Int32) : Int32 := (x + ushr x 4) &&& 252645135
def bc4 (x : Int32) : Int32 := x + ushr x 8
def bc5 (x : Int32) : Int32 := x + ushr x 16
def bcI (x : Int32) : Int32 := bc5 (bc4 (bc3 (bc2 (bc1 x)))) &&& nI 63
/-- how many bits -/
def popN (x : Nat) : Nat := cntN (fun k => x.testBit k) 12
theorem bcI_nI : ∀ x, x < 4096 → bcI (nI x) = nI (popN x) := by decide +kernel
theorem popN_le (x : Nat) : popN x ≤ 12 := cntN_le _ _
def nz4 (n y : Int32) : Int32 := n + ushr y 1
def nz3 (n y : Int32) : Int32 := if y ≤ nI 4 then nz4 n y else nz4 (n + (2)) (ushr y 2)
def nz2 (n y : Int32) : Int32 := if y ≤ nI 16 then nz3 n y else nz3 (n + (4)) (ushr y 4)
def nz1 (n y : Int32) : Int32 := if y ≤ nI 256 then nz2 n y else nz2 (n + (8)) (ushr y 8)
def nz0 (n y : Int32) : Int32 := if y ≤ 65536 then nz1 n y else nz1 (n + (16)) (ushr y 16)
def ntzI (x : Int32) : Int32 := if 0 < ((x ^^^ (-1)) &&& (x - nI 1)) then nz0 (nI 1) ((x ^^^ (-1)) &&& (x - nI 1)) else ((x ^^^ (-1)) &&& (x - nI 1)) &&& nI 32
/-- the lowest bit -/
def ntzN (x : Nat) : Nat := firstB (fun k => x.testBit k) 10 0
theorem ntzI_nI : ∀ x, x < 1024 → x ≠ 0 → ntzI (nI x) = nI (ntzN x) := by decide +kernel
