/-! bytes of a number: both shifts give one byte -/
set_option maxRecDepth 100000
theorem by_one (v : Int32) (k : Nat) (hk : k < 4) : Int32.toInt8 (v >>> (nI (8 * k) &&& 31)) = Int32.toInt8 (ushr v (8 * k)) := by
  apply Int8.toBitVec_inj.mp
  have h1 : ((nI (8 * k) &&& 31 : Int32).toBitVec.smod 32).toNat = 8 * k := bi_cnt (8 * k) (by omega)
  have h2 : ∀ k, k < 4 → ((Int32.toUInt32 (nI (8 * k)) &&& Int32.toUInt32 31) % 32 : UInt32).toNat = 8 * k := by decide
  have h3 := h2 k hk
  have e1 : (v >>> (nI (8 * k) &&& 31) : Int32).toBitVec = v.toBitVec.sshiftRight (8 * k) := by
    show v.toBitVec.sshiftRight' ((nI (8 * k) &&& 31 : Int32).toBitVec.smod 32) = _
    rw [BitVec.sshiftRight', h1]
  have e2 : (ushr v (8 * k)).toBitVec = v.toBitVec >>> (8 * k) := by
    unfold ushr
    show (Int32.toUInt32 v >>> (Int32.toUInt32 (nI (8 * k)) &&& Int32.toUInt32 31)).toBitVec = _
    rw [UInt32.toBitVec_shiftRight]
    show v.toBitVec >>> ((Int32.toUInt32 (nI (8 * k)) &&& Int32.toUInt32 31).toBitVec % 32) = _
    rw [BitVec.ushiftRight_eq']
    congr 1
  rw [Int32.toBitVec_toInt8, Int32.toBitVec_toInt8, e1, e2]
  apply BitVec.eq_of_getLsbD_eq
  intro i hi
  rw [BitVec.getLsbD_signExtend, BitVec.getLsbD_signExtend]
  have hi32 : i < 32 := by omega
  have h8 : 8 * k + i < 32 := by omega
  simp only [BitVec.getLsbD_sshiftRight, BitVec.getLsbD_ushiftRight, hi32, h8]
  have hn : ¬ 32 ≤ i := by omega
  simp [hn]
theorem by_eq (v : Int32) (k : Nat) (hk : k < 4) : Int8.toInt32 (Int32.toInt8 (v >>> (nI (8 * k) &&& 31))) = byU v k := by
  unfold byU
  rw [by_one v k hk]
theorem by_nar (v : Int32) (k : Nat) : vp_nar .byte (byU v k) = byU v k := by
  unfold byU vp_nar narrow
  simp
theorem by_fit (v : Int32) (k : Nat) : fits .byte (.int (byU v k)) = true := by
  show (decide (-128 ≤ byU v k) && decide (byU v k ≤ 127)) = true
  have e : (byU v k).toInt = (Int32.toInt8 (ushr v (8 * k))).toInt := Int8.toInt_toInt32 _
  have h1 := Int8.le_toInt (Int32.toInt8 (ushr v (8 * k)))
  have h2 := Int8.toInt_lt (Int32.toInt8 (ushr v (8 * k)))
  have e1 : (-128 : Int32).toInt = -128 := by decide
  have e2 : (127 : Int32).toInt = 127 := by decide
  rw [Bool.and_eq_true, decide_eq_true_eq, decide_eq_true_eq, Int32.le_iff_toInt_le, Int32.le_iff_toInt_le, e, e1, e2]
  omega
