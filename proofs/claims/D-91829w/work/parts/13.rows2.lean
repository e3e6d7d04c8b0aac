/-! more rows over numbers; the specifications of the model's small methods -/
set_option maxRecDepth 100000
section NROWS2
variable {p : Program} {l : Launch} {e : Env} {R : Room} {s s0 : State} {m : MethodId} {args : Array Value} {below : List Frame} {meth : Method} {c : Code} {H H0 : Heap} {locs : List Loc} {cells slots : Nat} {Q : State → Prop}
variable {cc : ByteArray} {pc : Nat} {ls : Array Slot} {rest st : List Value}
theorem lvZ_eq (hx : p.tables.exec = Jvm.exec) (hb : c.code = cc) {a : Nat} {off : Int} {tgt : Nat} (ha : a < 2 ^ 31) (hdg : decode cc pc = .ok (.ifCond .eq off, 3)) (ht : (pc : Int) + off = (tgt : Int)) (kt : a = 0 → W p l e R s m args below meth c H locs cells slots Q (F0 m tgt ls rest)) (kf : a ≠ 0 → W p l e R s m args below meth c H locs cells slots Q (F0 m (pc + 3) ls rest)) : W p l e R s m args below meth c H locs cells slots Q (F0 m pc ls (.int (nI a) :: rest)) :=
  lv_if_eq hx hb hdg ht (fun c => kt ((nI_eq ha (by omega)).mp c)) (fun c => kf (fun q => c (by rw [q]; rfl)))
theorem lvZ_ne (hx : p.tables.exec = Jvm.exec) (hb : c.code = cc) {a : Nat} {off : Int} {tgt : Nat} (ha : a < 2 ^ 31) (hdg : decode cc pc = .ok (.ifCond .ne off, 3)) (ht : (pc : Int) + off = (tgt : Int)) (kt : a ≠ 0 → W p l e R s m args below meth c H locs cells slots Q (F0 m tgt ls rest)) (kf : a = 0 → W p l e R s m args below meth c H locs cells slots Q (F0 m (pc + 3) ls rest)) : W p l e R s m args below meth c H locs cells slots Q (F0 m pc ls (.int (nI a) :: rest)) :=
  lv_if_ne hx hb hdg ht (fun c => kt (fun q => c (by rw [q]; rfl))) (fun c => kf ((nI_eq ha (by omega)).mp c))
theorem lvZ_le (hx : p.tables.exec = Jvm.exec) (hb : c.code = cc) {a : Nat} {off : Int} {tgt : Nat} (ha : a < 2 ^ 31) (hdg : decode cc pc = .ok (.ifCond .le off, 3)) (ht : (pc : Int) + off = (tgt : Int)) (kt : a = 0 → W p l e R s m args below meth c H locs cells slots Q (F0 m tgt ls rest)) (kf : a ≠ 0 → W p l e R s m args below meth c H locs cells slots Q (F0 m (pc + 3) ls rest)) : W p l e R s m args below meth c H locs cells slots Q (F0 m pc ls (.int (nI a) :: rest)) :=
  lv_if_le hx hb hdg ht (fun c => kt (Nat.le_zero.mp ((nI_leI ha (b := 0) (by omega)).mp c))) (fun c => kf (fun q => c (by rw [q]; exact Int32.le_refl _)))
theorem lvZ_gt (hx : p.tables.exec = Jvm.exec) (hb : c.code = cc) {a : Nat} {off : Int} {tgt : Nat} (ha : a < 2 ^ 31) (hdg : decode cc pc = .ok (.ifCond .gt off, 3)) (ht : (pc : Int) + off = (tgt : Int)) (kt : a ≠ 0 → W p l e R s m args below meth c H locs cells slots Q (F0 m tgt ls rest)) (kf : a = 0 → W p l e R s m args below meth c H locs cells slots Q (F0 m (pc + 3) ls rest)) : W p l e R s m args below meth c H locs cells slots Q (F0 m pc ls (.int (nI a) :: rest)) :=
  lv_if_gt hx hb hdg ht (fun c => kt (fun q => absurd ((nI_ltI (a := 0) (b := a) (by omega) ha).mp c) (by omega))) (fun c => kf (Nat.le_zero.mp (Nat.not_lt.mp (fun q => c ((nI_ltI (a := 0) (b := a) (by omega) ha).mpr q)))))
end NROWS2
theorem i64_le {x y : Int32} : Int32.toInt64 x ≤ Int32.toInt64 y ↔ x.toInt ≤ y.toInt := by
  rw [Int64.le_iff_toInt_le, Int32.toInt_toInt64, Int32.toInt_toInt64]
/-- the model's 'in' from 0 to n - 1 -/
theorem in_n {g : Int32} {n : Nat} (hn : n < 2 ^ 30) : decide ((0 : Int64) ≤ Int32.toInt64 g ∧ Int32.toInt64 g ≤ Int32.toInt64 (nI n - nI 1)) = inN g n := by
  apply decide_eq_decide.mpr
  have h0 : (0 : Int64) = Int32.toInt64 0 := by decide
  rw [h0, i64_le, i64_le, pk_sub_toInt hn (by omega)]
  have h1 : (0 : Int32).toInt = 0 := by decide
  rw [h1]
  omega
theorem in_k {g : Int32} {b : Int64} (k : Nat) (hb : b.toInt = (k : Int)) : decide ((0 : Int64) ≤ Int32.toInt64 g ∧ Int32.toInt64 g ≤ b) = inN g (k + 1) := by
  apply decide_eq_decide.mpr
  rw [Int64.le_iff_toInt_le, Int64.le_iff_toInt_le, Int32.toInt_toInt64, hb]
  have h1 : (0 : Int64).toInt = 0 := by decide
  rw [h1]
  omega
/-- how far apart -/
def adist (a b : Nat) : Nat := (a - b) + (b - a)
theorem i_abs_d {a b : Nat} (ha : a < 2 ^ 30) (hb : b < 2 ^ 30) : i_abs (nI a - nI b) = nI (adist a b) := by
  unfold i_abs adist
  by_cases h : b ≤ a
  · rw [pk_sub h, if_pos (nI_pos' (by omega))]
    congr 1
    omega
  · have hs := pk_sub_toInt ha hb
    rw [if_neg (fun q => absurd (Int32.le_iff_toInt_le.mp q) (by rw [hs, show (0 : Int32).toInt = 0 by decide]; omega))]
    apply Int32.toInt_inj.mp
    rw [Int32.toInt_sub, hs, nI_toInt (by omega)]
    rw [show (0 : Int32).toInt = 0 by decide]
    rw [show (0 : Int) - ((a : Int) - (b : Int)) = ((a - b + (b - a) : Nat) : Int) by omega]
    exact Int.bmod_eq_of_le (by omega) (by omega)
/-- which of two places is higher -/
def hgh (S : Ab) (q c a b : Nat) : Int32 := if a = b then nI 0 else if aRk S q = 0 then (if a < b then nI 1 else nI 2) else if aRk S q = 1 then (if a / 2 = b / 2 then -1 else if a < b then nI 1 else nI 2) else if aRk S q = 2 then -1 else if aRk S q = 3 then (if a / 2 = b / 2 then nI 0 else if a < b then nI 1 else nI 2) else (if (a + c) % aRp S q < (b + c) % aRp S q then nI 1 else nI 2)
def bes (S : Ab) (q a b : Nat) : Bool := if aRk S q = 1 then decide (adist a b = 2) else if aRk S q = 2 then decide (adist a b ≠ 0) && (decide (adist a b = 1) || decide (adist a b = aRp S q - 1)) else if aRk S q = 3 then decide (adist a b ≠ 0) && decide (a / 2 = b / 2) else decide (adist a b = 1)
/-- who minds: 1 the first, 2 the second -/
def whoM (S : Ab) (r q c a b : Nat) : Nat := if aKd S r = 2 then (if bes S q a b then 3 else 0) else if aKd S r = 0 then (if hgh S q c a b = nI 2 ∨ hgh S q c a b = nI 0 then 1 else 0) else (if hgh S q c a b = nI 1 then 2 else if hgh S q c a b = nI 2 then 1 else 0)
/-- a guest's marks as bits, the first k of them -/
def mrkB (S : Ab) (g : Nat) : Nat → Nat
  | 0 => 0
  | k + 1 => mrkB S g k ||| (if (aMd S k).testBit g then 1 else 0) * 2 ^ k
theorem mrkB_lt (S : Ab) (g : Nat) : ∀ k, mrkB S g k < 2 ^ k := by
  intro k
  induction k with
  | zero => exact Nat.one_pos
  | succ k ih =>
    unfold mrkB
    refine Nat.or_lt_two_pow (Nat.lt_of_lt_of_le ih (Nat.pow_le_pow_right (by omega) (by omega))) ?_
    split
    · rw [Nat.one_mul]; exact Nat.pow_lt_pow_right (by omega) (by omega)
    · rw [Nat.zero_mul]; exact Nat.two_pow_pos _
theorem zI_nI (b : Bool) : zI b = nI (if b then 1 else 0) := by cases b <;> rfl
theorem nIne : ((nI 0 : Int32) = nI 1 ↔ False) ∧ ((nI 0 : Int32) = nI 2 ↔ False) ∧ ((nI 1 : Int32) = nI 0 ↔ False) ∧ ((nI 1 : Int32) = nI 2 ↔ False) ∧ ((nI 2 : Int32) = nI 0 ↔ False) ∧ ((nI 2 : Int32) = nI 1 ↔ False) := by decide
