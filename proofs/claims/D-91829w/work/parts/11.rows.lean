/-! ROWS over numbers: zI (a truth as an int), comparisons by Nat, bits by Nat, loops -/
set_option maxRecDepth 100000
def zI (b : Bool) : Int32 := if b = true then 1 else 0
theorem zI_t : zI true = 1 := rfl
theorem zI_f : zI false = 0 := rfl
theorem zI_1 {b : Bool} (h : b = true) : (nI 1 : Int32) = zI b := by rw [h]; rfl
theorem zI_0 {b : Bool} (h : b = false) : (nI 0 : Int32) = zI b := by rw [h]; rfl
theorem zI_eq0 (b : Bool) : zI b = 0 ↔ b = false := by cases b <;> decide
theorem zI_inj {a b : Bool} : zI a = zI b ↔ a = b := by cases a <;> cases b <;> decide
theorem zI_nar (b : Bool) : narrow .boolean (.int (zI b)) = .int (zI b) := by cases b <;> rfl
theorem zI_vnar (b : Bool) : vp_nar .boolean (zI b) = zI b := by cases b <;> rfl
theorem zI_fits (b : Bool) : fits .boolean (.int (zI b)) = true := by cases b <;> rfl
/-- an int between 0 and n, n out -/
def inN (x : Int32) (n : Nat) : Bool := decide (0 ≤ x.toInt ∧ x.toInt < n)
theorem inN_t {x : Int32} {n : Nat} (h : inN x n = true) : ∃ j : Nat, j < n ∧ x = nI j := by
  have h := of_decide_eq_true h
  have h2 : x.toInt < 2 ^ 31 := by have := x.toInt_lt; exact this
  refine ⟨x.toInt.toNat, by omega, Int32.toInt_inj.mp ?_⟩
  rw [nI_toInt (by omega)]
  omega
theorem inN_nI {j n : Nat} (hj : j < 2 ^ 31) : inN (nI j) n = decide (j < n) := by
  unfold inN
  rw [nI_toInt hj]
  simp
theorem nI_inj {a b : Nat} (ha : a < 2 ^ 31) (hb : b < 2 ^ 31) (h : nI a = nI b) : a = b := (nI_eq ha hb).mp h
theorem nI_m1 {a : Nat} (ha : a < 2 ^ 31) : nI a ≠ -1 := by
  intro h
  have := congrArg Int32.toInt h
  rw [nI_toInt ha] at this
  have h2 : (-1 : Int32).toInt = -1 := by decide
  omega
theorem bi_and (a b : Nat) : nI a &&& nI b = nI (a &&& b) := by
  apply Int32.toBitVec_inj.mp
  show (BitVec.ofNat 32 a) &&& (BitVec.ofNat 32 b) = BitVec.ofNat 32 (a &&& b)
  simp
theorem bi_or (a b : Nat) : nI a ||| nI b = nI (a ||| b) := by
  apply Int32.toBitVec_inj.mp
  show (BitVec.ofNat 32 a) ||| (BitVec.ofNat 32 b) = BitVec.ofNat 32 (a ||| b)
  simp
theorem bi_xor (a b : Nat) : nI a ^^^ nI b = nI (a ^^^ b) := by
  apply Int32.toBitVec_inj.mp
  show (BitVec.ofNat 32 a) ^^^ (BitVec.ofNat 32 b) = BitVec.ofNat 32 (a ^^^ b)
  simp
theorem bi_cnt : ∀ k, k < 32 → ((nI k &&& 31).toBitVec.smod 32).toNat = k := by decide +kernel
theorem bi_shl {a k : Nat} (hk : k < 32) (h : a * 2 ^ k < 2 ^ 32) : nI a <<< (nI k &&& 31) = nI (a * 2 ^ k) := pk_shlN _ k (bi_cnt k hk) h
theorem bi_shl1 {k : Nat} (hk : k < 32) : nI 1 <<< (nI k &&& 31) = nI (2 ^ k) := by
  have := bi_shl (a := 1) hk (by rw [Nat.one_mul]; exact Nat.pow_lt_pow_right (by omega) hk)
  rw [Nat.one_mul] at this
  exact this
theorem bi_shr {a k : Nat} (ha : a < 2 ^ 31) (hk : k < 32) : nI a >>> (nI k &&& 31) = nI (a / 2 ^ k) := pk_shrN ha _ k (bi_cnt k hk)
/-- bit k of a -/
theorem bi_bit (a k : Nat) : a / 2 ^ k &&& 1 = if a.testBit k then 1 else 0 := by
  rw [Nat.and_one_is_mod, Nat.testBit, Nat.shiftRight_eq_div_pow]
  rw [show (1 &&& a / 2 ^ k) = a / 2 ^ k % 2 by rw [Nat.and_comm, Nat.and_one_is_mod]]
  rcases Nat.mod_two_eq_zero_or_one (a / 2 ^ k) with h | h <;> simp [h]
theorem bi_z (a k : Nat) : nI (a / 2 ^ k &&& 1) = zI (a.testBit k) := by
  rw [bi_bit]
  cases a.testBit k <;> rfl
theorem bi_sel {x k : Nat} (hx : x < 2 ^ 31) (hk : k < 32) : (nI x >>> (nI k &&& 31)) &&& nI 1 = zI (x.testBit k) := by
  rw [bi_shr hx hk, bi_and, bi_z]
section NROWS
variable {p : Program} {l : Launch} {e : Env} {R : Room} {s s0 : State} {m : MethodId} {args : Array Value} {below : List Frame} {meth : Method} {c : Code} {H H0 : Heap} {locs : List Loc} {cells slots : Nat} {Q : State → Prop}
variable {cc : ByteArray} {pc : Nat} {ls : Array Slot} {rest st : List Value}
theorem lvN_eq (hx : p.tables.exec = Jvm.exec) (hb : c.code = cc) {a b : Nat} {off : Int} {tgt : Nat} (ha : a < 2 ^ 31) (hb2 : b < 2 ^ 31) (hdg : decode cc pc = .ok (.if_icmp .eq off, 3)) (ht : (pc : Int) + off = (tgt : Int)) (kt : a = b → W p l e R s m args below meth c H locs cells slots Q (F0 m tgt ls rest)) (kf : a ≠ b → W p l e R s m args below meth c H locs cells slots Q (F0 m (pc + 3) ls rest)) : W p l e R s m args below meth c H locs cells slots Q (F0 m pc ls (.int (nI b) :: .int (nI a) :: rest)) :=
  lv_icmp_eq hx hb hdg ht (fun c => kt ((nI_eq ha hb2).mp c)) (fun c => kf (fun q => c ((nI_eq ha hb2).mpr q)))
theorem lvN_ne (hx : p.tables.exec = Jvm.exec) (hb : c.code = cc) {a b : Nat} {off : Int} {tgt : Nat} (ha : a < 2 ^ 31) (hb2 : b < 2 ^ 31) (hdg : decode cc pc = .ok (.if_icmp .ne off, 3)) (ht : (pc : Int) + off = (tgt : Int)) (kt : a ≠ b → W p l e R s m args below meth c H locs cells slots Q (F0 m tgt ls rest)) (kf : a = b → W p l e R s m args below meth c H locs cells slots Q (F0 m (pc + 3) ls rest)) : W p l e R s m args below meth c H locs cells slots Q (F0 m pc ls (.int (nI b) :: .int (nI a) :: rest)) :=
  lv_icmp_ne hx hb hdg ht (fun c => kt (fun q => c ((nI_eq ha hb2).mpr q))) (fun c => kf ((nI_eq ha hb2).mp c))
theorem lvN_lt (hx : p.tables.exec = Jvm.exec) (hb : c.code = cc) {a b : Nat} {off : Int} {tgt : Nat} (ha : a < 2 ^ 31) (hb2 : b < 2 ^ 31) (hdg : decode cc pc = .ok (.if_icmp .lt off, 3)) (ht : (pc : Int) + off = (tgt : Int)) (kt : a < b → W p l e R s m args below meth c H locs cells slots Q (F0 m tgt ls rest)) (kf : b ≤ a → W p l e R s m args below meth c H locs cells slots Q (F0 m (pc + 3) ls rest)) : W p l e R s m args below meth c H locs cells slots Q (F0 m pc ls (.int (nI b) :: .int (nI a) :: rest)) :=
  lv_icmp_lt hx hb hdg ht (fun c => kt ((nI_ltI ha hb2).mp c)) (fun c => kf (Nat.not_lt.mp (fun q => c ((nI_ltI ha hb2).mpr q))))
theorem lvN_ge (hx : p.tables.exec = Jvm.exec) (hb : c.code = cc) {a b : Nat} {off : Int} {tgt : Nat} (ha : a < 2 ^ 31) (hb2 : b < 2 ^ 31) (hdg : decode cc pc = .ok (.if_icmp .ge off, 3)) (ht : (pc : Int) + off = (tgt : Int)) (kt : b ≤ a → W p l e R s m args below meth c H locs cells slots Q (F0 m tgt ls rest)) (kf : a < b → W p l e R s m args below meth c H locs cells slots Q (F0 m (pc + 3) ls rest)) : W p l e R s m args below meth c H locs cells slots Q (F0 m pc ls (.int (nI b) :: .int (nI a) :: rest)) :=
  lv_icmp_ge hx hb hdg ht (fun c => kt ((nI_leI hb2 ha).mp c)) (fun c => kf (Nat.not_le.mp (fun q => c ((nI_leI hb2 ha).mpr q))))
theorem lvN_gt (hx : p.tables.exec = Jvm.exec) (hb : c.code = cc) {a b : Nat} {off : Int} {tgt : Nat} (ha : a < 2 ^ 31) (hb2 : b < 2 ^ 31) (hdg : decode cc pc = .ok (.if_icmp .gt off, 3)) (ht : (pc : Int) + off = (tgt : Int)) (kt : b < a → W p l e R s m args below meth c H locs cells slots Q (F0 m tgt ls rest)) (kf : a ≤ b → W p l e R s m args below meth c H locs cells slots Q (F0 m (pc + 3) ls rest)) : W p l e R s m args below meth c H locs cells slots Q (F0 m pc ls (.int (nI b) :: .int (nI a) :: rest)) :=
  lv_icmp_gt hx hb hdg ht (fun c => kt ((nI_ltI hb2 ha).mp c)) (fun c => kf (Nat.not_lt.mp (fun q => c ((nI_ltI hb2 ha).mpr q))))
theorem lvN_le (hx : p.tables.exec = Jvm.exec) (hb : c.code = cc) {a b : Nat} {off : Int} {tgt : Nat} (ha : a < 2 ^ 31) (hb2 : b < 2 ^ 31) (hdg : decode cc pc = .ok (.if_icmp .le off, 3)) (ht : (pc : Int) + off = (tgt : Int)) (kt : a ≤ b → W p l e R s m args below meth c H locs cells slots Q (F0 m tgt ls rest)) (kf : b < a → W p l e R s m args below meth c H locs cells slots Q (F0 m (pc + 3) ls rest)) : W p l e R s m args below meth c H locs cells slots Q (F0 m pc ls (.int (nI b) :: .int (nI a) :: rest)) :=
  lv_icmp_le hx hb hdg ht (fun c => kt ((nI_leI ha hb2).mp c)) (fun c => kf (Nat.not_le.mp (fun q => c ((nI_leI ha hb2).mpr q))))
theorem lvB_eq (hx : p.tables.exec = Jvm.exec) (hb : c.code = cc) {b : Bool} {off : Int} {tgt : Nat} (hdg : decode cc pc = .ok (.ifCond .eq off, 3)) (ht : (pc : Int) + off = (tgt : Int)) (kt : b = false → W p l e R s m args below meth c H locs cells slots Q (F0 m tgt ls rest)) (kf : b = true → W p l e R s m args below meth c H locs cells slots Q (F0 m (pc + 3) ls rest)) : W p l e R s m args below meth c H locs cells slots Q (F0 m pc ls (.int (zI b) :: rest)) :=
  lv_if_eq hx hb hdg ht (fun c => kt ((zI_eq0 b).mp c)) (fun c => kf (by cases b with | true => rfl | false => exact absurd rfl c))
theorem lvB_ne (hx : p.tables.exec = Jvm.exec) (hb : c.code = cc) {b : Bool} {off : Int} {tgt : Nat} (hdg : decode cc pc = .ok (.ifCond .ne off, 3)) (ht : (pc : Int) + off = (tgt : Int)) (kt : b = true → W p l e R s m args below meth c H locs cells slots Q (F0 m tgt ls rest)) (kf : b = false → W p l e R s m args below meth c H locs cells slots Q (F0 m (pc + 3) ls rest)) : W p l e R s m args below meth c H locs cells slots Q (F0 m pc ls (.int (zI b) :: rest)) :=
  lv_if_ne hx hb hdg ht (fun c => kt (by cases b with | true => rfl | false => exact absurd rfl c)) (fun c => kf ((zI_eq0 b).mp c))
/-- a truth against 1 -/
theorem lvB_ne1 (hx : p.tables.exec = Jvm.exec) (hb : c.code = cc) {b : Bool} {off : Int} {tgt : Nat} (hdg : decode cc pc = .ok (.if_icmp .ne off, 3)) (ht : (pc : Int) + off = (tgt : Int)) (kt : b = false → W p l e R s m args below meth c H locs cells slots Q (F0 m tgt ls rest)) (kf : b = true → W p l e R s m args below meth c H locs cells slots Q (F0 m (pc + 3) ls rest)) : W p l e R s m args below meth c H locs cells slots Q (F0 m pc ls (.int (nI 1) :: .int (zI b) :: rest)) :=
  lv_icmp_ne hx hb hdg ht (fun c => kt (by cases b with | true => exact absurd rfl c | false => rfl)) (fun c => kf (by cases b with | true => rfl | false => exact absurd c (by decide)))
theorem lvB_eq1 (hx : p.tables.exec = Jvm.exec) (hb : c.code = cc) {b : Bool} {off : Int} {tgt : Nat} (hdg : decode cc pc = .ok (.if_icmp .eq off, 3)) (ht : (pc : Int) + off = (tgt : Int)) (kt : b = true → W p l e R s m args below meth c H locs cells slots Q (F0 m tgt ls rest)) (kf : b = false → W p l e R s m args below meth c H locs cells slots Q (F0 m (pc + 3) ls rest)) : W p l e R s m args below meth c H locs cells slots Q (F0 m pc ls (.int (nI 1) :: .int (zI b) :: rest)) :=
  lv_icmp_eq hx hb hdg ht (fun c => kt (by cases b with | true => rfl | false => exact absurd c (by decide))) (fun c => kf (by cases b with | true => exact absurd rfl c | false => rfl))
theorem w_loop1 {A1 : Type} (μ : A1 → Nat) (P : A1 → Heap → List Loc → Array Slot → Prop)
    (body : ∀ (a1 : A1), (∀ (b1 : A1), μ b1 < μ a1 → ∀ (H : Heap) (locs : List Loc) (ls : Array Slot), P b1 H locs ls → W p l e R s m args below meth c H locs cells slots Q (F0 m pc ls st)) → ∀ (H : Heap) (locs : List Loc) (ls : Array Slot), P a1 H locs ls → W p l e R s m args below meth c H locs cells slots Q (F0 m pc ls st))
    (a1 : A1) (h0 : P a1 H locs ls) : W p l e R s m args below meth c H locs cells slots Q (F0 m pc ls st) := by
  suffices key : ∀ (n : Nat) (b1 : A1) (H : Heap) (locs : List Loc) (ls : Array Slot), μ b1 < n → P b1 H locs ls → W p l e R s m args below meth c H locs cells slots Q (F0 m pc ls st) from key _ a1 H locs ls (Nat.lt_succ_self _) h0
  intro n
  induction n with
  | zero => intro b1 H locs ls h; exact absurd h (Nat.not_lt_zero _)
  | succ n ih => exact fun b1 H locs ls h hP => body b1 (fun c1 h2 H locs ls hP2 => ih c1 H locs ls (by omega) hP2) H locs ls hP
theorem w_loop2 {A1 A2 : Type} (μ : A1 → A2 → Nat) (P : A1 → A2 → Heap → List Loc → Array Slot → Prop)
    (body : ∀ (a1 : A1) (a2 : A2), (∀ (b1 : A1) (b2 : A2), μ b1 b2 < μ a1 a2 → ∀ (H : Heap) (locs : List Loc) (ls : Array Slot), P b1 b2 H locs ls → W p l e R s m args below meth c H locs cells slots Q (F0 m pc ls st)) → ∀ (H : Heap) (locs : List Loc) (ls : Array Slot), P a1 a2 H locs ls → W p l e R s m args below meth c H locs cells slots Q (F0 m pc ls st))
    (a1 : A1) (a2 : A2) (h0 : P a1 a2 H locs ls) : W p l e R s m args below meth c H locs cells slots Q (F0 m pc ls st) := by
  suffices key : ∀ (n : Nat) (b1 : A1) (b2 : A2) (H : Heap) (locs : List Loc) (ls : Array Slot), μ b1 b2 < n → P b1 b2 H locs ls → W p l e R s m args below meth c H locs cells slots Q (F0 m pc ls st) from key _ a1 a2 H locs ls (Nat.lt_succ_self _) h0
  intro n
  induction n with
  | zero => intro b1 b2 H locs ls h; exact absurd h (Nat.not_lt_zero _)
  | succ n ih => exact fun b1 b2 H locs ls h hP => body b1 b2 (fun c1 c2 h2 H locs ls hP2 => ih c1 c2 H locs ls (by omega) hP2) H locs ls hP
theorem w_loop3 {A1 A2 A3 : Type} (μ : A1 → A2 → A3 → Nat) (P : A1 → A2 → A3 → Heap → List Loc → Array Slot → Prop)
    (body : ∀ (a1 : A1) (a2 : A2) (a3 : A3), (∀ (b1 : A1) (b2 : A2) (b3 : A3), μ b1 b2 b3 < μ a1 a2 a3 → ∀ (H : Heap) (locs : List Loc) (ls : Array Slot), P b1 b2 b3 H locs ls → W p l e R s m args below meth c H locs cells slots Q (F0 m pc ls st)) → ∀ (H : Heap) (locs : List Loc) (ls : Array Slot), P a1 a2 a3 H locs ls → W p l e R s m args below meth c H locs cells slots Q (F0 m pc ls st))
    (a1 : A1) (a2 : A2) (a3 : A3) (h0 : P a1 a2 a3 H locs ls) : W p l e R s m args below meth c H locs cells slots Q (F0 m pc ls st) := by
  suffices key : ∀ (n : Nat) (b1 : A1) (b2 : A2) (b3 : A3) (H : Heap) (locs : List Loc) (ls : Array Slot), μ b1 b2 b3 < n → P b1 b2 b3 H locs ls → W p l e R s m args below meth c H locs cells slots Q (F0 m pc ls st) from key _ a1 a2 a3 H locs ls (Nat.lt_succ_self _) h0
  intro n
  induction n with
  | zero => intro b1 b2 b3 H locs ls h; exact absurd h (Nat.not_lt_zero _)
  | succ n ih => exact fun b1 b2 b3 H locs ls h hP => body b1 b2 b3 (fun c1 c2 c3 h2 H locs ls hP2 => ih c1 c2 c3 H locs ls (by omega) hP2) H locs ls hP
theorem w_loop4 {A1 A2 A3 A4 : Type} (μ : A1 → A2 → A3 → A4 → Nat) (P : A1 → A2 → A3 → A4 → Heap → List Loc → Array Slot → Prop)
    (body : ∀ (a1 : A1) (a2 : A2) (a3 : A3) (a4 : A4), (∀ (b1 : A1) (b2 : A2) (b3 : A3) (b4 : A4), μ b1 b2 b3 b4 < μ a1 a2 a3 a4 → ∀ (H : Heap) (locs : List Loc) (ls : Array Slot), P b1 b2 b3 b4 H locs ls → W p l e R s m args below meth c H locs cells slots Q (F0 m pc ls st)) → ∀ (H : Heap) (locs : List Loc) (ls : Array Slot), P a1 a2 a3 a4 H locs ls → W p l e R s m args below meth c H locs cells slots Q (F0 m pc ls st))
    (a1 : A1) (a2 : A2) (a3 : A3) (a4 : A4) (h0 : P a1 a2 a3 a4 H locs ls) : W p l e R s m args below meth c H locs cells slots Q (F0 m pc ls st) := by
  suffices key : ∀ (n : Nat) (b1 : A1) (b2 : A2) (b3 : A3) (b4 : A4) (H : Heap) (locs : List Loc) (ls : Array Slot), μ b1 b2 b3 b4 < n → P b1 b2 b3 b4 H locs ls → W p l e R s m args below meth c H locs cells slots Q (F0 m pc ls st) from key _ a1 a2 a3 a4 H locs ls (Nat.lt_succ_self _) h0
  intro n
  induction n with
  | zero => intro b1 b2 b3 b4 H locs ls h; exact absurd h (Nat.not_lt_zero _)
  | succ n ih => exact fun b1 b2 b3 b4 H locs ls h hP => body b1 b2 b3 b4 (fun c1 c2 c3 c4 h2 H locs ls hP2 => ih c1 c2 c3 c4 H locs ls (by omega) hP2) H locs ls hP
theorem w_loop5 {A1 A2 A3 A4 A5 : Type} (μ : A1 → A2 → A3 → A4 → A5 → Nat) (P : A1 → A2 → A3 → A4 → A5 → Heap → List Loc → Array Slot → Prop)
    (body : ∀ (a1 : A1) (a2 : A2) (a3 : A3) (a4 : A4) (a5 : A5), (∀ (b1 : A1) (b2 : A2) (b3 : A3) (b4 : A4) (b5 : A5), μ b1 b2 b3 b4 b5 < μ a1 a2 a3 a4 a5 → ∀ (H : Heap) (locs : List Loc) (ls : Array Slot), P b1 b2 b3 b4 b5 H locs ls → W p l e R s m args below meth c H locs cells slots Q (F0 m pc ls st)) → ∀ (H : Heap) (locs : List Loc) (ls : Array Slot), P a1 a2 a3 a4 a5 H locs ls → W p l e R s m args below meth c H locs cells slots Q (F0 m pc ls st))
    (a1 : A1) (a2 : A2) (a3 : A3) (a4 : A4) (a5 : A5) (h0 : P a1 a2 a3 a4 a5 H locs ls) : W p l e R s m args below meth c H locs cells slots Q (F0 m pc ls st) := by
  suffices key : ∀ (n : Nat) (b1 : A1) (b2 : A2) (b3 : A3) (b4 : A4) (b5 : A5) (H : Heap) (locs : List Loc) (ls : Array Slot), μ b1 b2 b3 b4 b5 < n → P b1 b2 b3 b4 b5 H locs ls → W p l e R s m args below meth c H locs cells slots Q (F0 m pc ls st) from key _ a1 a2 a3 a4 a5 H locs ls (Nat.lt_succ_self _) h0
  intro n
  induction n with
  | zero => intro b1 b2 b3 b4 b5 H locs ls h; exact absurd h (Nat.not_lt_zero _)
  | succ n ih => exact fun b1 b2 b3 b4 b5 H locs ls h hP => body b1 b2 b3 b4 b5 (fun c1 c2 c3 c4 c5 h2 H locs ls hP2 => ih c1 c2 c3 c4 c5 H locs ls (by omega) hP2) H locs ls hP
theorem w_loop6 {A1 A2 A3 A4 A5 A6 : Type} (μ : A1 → A2 → A3 → A4 → A5 → A6 → Nat) (P : A1 → A2 → A3 → A4 → A5 → A6 → Heap → List Loc → Array Slot → Prop)
    (body : ∀ (a1 : A1) (a2 : A2) (a3 : A3) (a4 : A4) (a5 : A5) (a6 : A6), (∀ (b1 : A1) (b2 : A2) (b3 : A3) (b4 : A4) (b5 : A5) (b6 : A6), μ b1 b2 b3 b4 b5 b6 < μ a1 a2 a3 a4 a5 a6 → ∀ (H : Heap) (locs : List Loc) (ls : Array Slot), P b1 b2 b3 b4 b5 b6 H locs ls → W p l e R s m args below meth c H locs cells slots Q (F0 m pc ls st)) → ∀ (H : Heap) (locs : List Loc) (ls : Array Slot), P a1 a2 a3 a4 a5 a6 H locs ls → W p l e R s m args below meth c H locs cells slots Q (F0 m pc ls st))
    (a1 : A1) (a2 : A2) (a3 : A3) (a4 : A4) (a5 : A5) (a6 : A6) (h0 : P a1 a2 a3 a4 a5 a6 H locs ls) : W p l e R s m args below meth c H locs cells slots Q (F0 m pc ls st) := by
  suffices key : ∀ (n : Nat) (b1 : A1) (b2 : A2) (b3 : A3) (b4 : A4) (b5 : A5) (b6 : A6) (H : Heap) (locs : List Loc) (ls : Array Slot), μ b1 b2 b3 b4 b5 b6 < n → P b1 b2 b3 b4 b5 b6 H locs ls → W p l e R s m args below meth c H locs cells slots Q (F0 m pc ls st) from key _ a1 a2 a3 a4 a5 a6 H locs ls (Nat.lt_succ_self _) h0
  intro n
  induction n with
  | zero => intro b1 b2 b3 b4 b5 b6 H locs ls h; exact absurd h (Nat.not_lt_zero _)
  | succ n ih => exact fun b1 b2 b3 b4 b5 b6 H locs ls h hP => body b1 b2 b3 b4 b5 b6 (fun c1 c2 c3 c4 c5 c6 h2 H locs ls hP2 => ih c1 c2 c3 c4 c5 c6 H locs ls (by omega) hP2) H locs ls hP
theorem w_loop7 {A1 A2 A3 A4 A5 A6 A7 : Type} (μ : A1 → A2 → A3 → A4 → A5 → A6 → A7 → Nat) (P : A1 → A2 → A3 → A4 → A5 → A6 → A7 → Heap → List Loc → Array Slot → Prop)
    (body : ∀ (a1 : A1) (a2 : A2) (a3 : A3) (a4 : A4) (a5 : A5) (a6 : A6) (a7 : A7), (∀ (b1 : A1) (b2 : A2) (b3 : A3) (b4 : A4) (b5 : A5) (b6 : A6) (b7 : A7), μ b1 b2 b3 b4 b5 b6 b7 < μ a1 a2 a3 a4 a5 a6 a7 → ∀ (H : Heap) (locs : List Loc) (ls : Array Slot), P b1 b2 b3 b4 b5 b6 b7 H locs ls → W p l e R s m args below meth c H locs cells slots Q (F0 m pc ls st)) → ∀ (H : Heap) (locs : List Loc) (ls : Array Slot), P a1 a2 a3 a4 a5 a6 a7 H locs ls → W p l e R s m args below meth c H locs cells slots Q (F0 m pc ls st))
    (a1 : A1) (a2 : A2) (a3 : A3) (a4 : A4) (a5 : A5) (a6 : A6) (a7 : A7) (h0 : P a1 a2 a3 a4 a5 a6 a7 H locs ls) : W p l e R s m args below meth c H locs cells slots Q (F0 m pc ls st) := by
  suffices key : ∀ (n : Nat) (b1 : A1) (b2 : A2) (b3 : A3) (b4 : A4) (b5 : A5) (b6 : A6) (b7 : A7) (H : Heap) (locs : List Loc) (ls : Array Slot), μ b1 b2 b3 b4 b5 b6 b7 < n → P b1 b2 b3 b4 b5 b6 b7 H locs ls → W p l e R s m args below meth c H locs cells slots Q (F0 m pc ls st) from key _ a1 a2 a3 a4 a5 a6 a7 H locs ls (Nat.lt_succ_self _) h0
  intro n
  induction n with
  | zero => intro b1 b2 b3 b4 b5 b6 b7 H locs ls h; exact absurd h (Nat.not_lt_zero _)
  | succ n ih => exact fun b1 b2 b3 b4 b5 b6 b7 H locs ls h hP => body b1 b2 b3 b4 b5 b6 b7 (fun c1 c2 c3 c4 c5 c6 c7 h2 H locs ls hP2 => ih c1 c2 c3 c4 c5 c6 c7 H locs ls (by omega) hP2) H locs ls hP
theorem w_loop8 {A1 A2 A3 A4 A5 A6 A7 A8 : Type} (μ : A1 → A2 → A3 → A4 → A5 → A6 → A7 → A8 → Nat) (P : A1 → A2 → A3 → A4 → A5 → A6 → A7 → A8 → Heap → List Loc → Array Slot → Prop)
    (body : ∀ (a1 : A1) (a2 : A2) (a3 : A3) (a4 : A4) (a5 : A5) (a6 : A6) (a7 : A7) (a8 : A8), (∀ (b1 : A1) (b2 : A2) (b3 : A3) (b4 : A4) (b5 : A5) (b6 : A6) (b7 : A7) (b8 : A8), μ b1 b2 b3 b4 b5 b6 b7 b8 < μ a1 a2 a3 a4 a5 a6 a7 a8 → ∀ (H : Heap) (locs : List Loc) (ls : Array Slot), P b1 b2 b3 b4 b5 b6 b7 b8 H locs ls → W p l e R s m args below meth c H locs cells slots Q (F0 m pc ls st)) → ∀ (H : Heap) (locs : List Loc) (ls : Array Slot), P a1 a2 a3 a4 a5 a6 a7 a8 H locs ls → W p l e R s m args below meth c H locs cells slots Q (F0 m pc ls st))
    (a1 : A1) (a2 : A2) (a3 : A3) (a4 : A4) (a5 : A5) (a6 : A6) (a7 : A7) (a8 : A8) (h0 : P a1 a2 a3 a4 a5 a6 a7 a8 H locs ls) : W p l e R s m args below meth c H locs cells slots Q (F0 m pc ls st) := by
  suffices key : ∀ (n : Nat) (b1 : A1) (b2 : A2) (b3 : A3) (b4 : A4) (b5 : A5) (b6 : A6) (b7 : A7) (b8 : A8) (H : Heap) (locs : List Loc) (ls : Array Slot), μ b1 b2 b3 b4 b5 b6 b7 b8 < n → P b1 b2 b3 b4 b5 b6 b7 b8 H locs ls → W p l e R s m args below meth c H locs cells slots Q (F0 m pc ls st) from key _ a1 a2 a3 a4 a5 a6 a7 a8 H locs ls (Nat.lt_succ_self _) h0
  intro n
  induction n with
  | zero => intro b1 b2 b3 b4 b5 b6 b7 b8 H locs ls h; exact absurd h (Nat.not_lt_zero _)
  | succ n ih => exact fun b1 b2 b3 b4 b5 b6 b7 b8 H locs ls h hP => body b1 b2 b3 b4 b5 b6 b7 b8 (fun c1 c2 c3 c4 c5 c6 c7 c8 h2 H locs ls hP2 => ih c1 c2 c3 c4 c5 c6 c7 c8 H locs ls (by omega) hP2) H locs ls hP
end NROWS
