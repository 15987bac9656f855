/-! rows: shifts by one; a method of a class above that an interface declares -/
set_option maxRecDepth 100000
theorem iI_sr1 {z : Int} (h : 0 ≤ z ∧ z ≤ 2147483647) : ((iI z).toUInt32 >>> ((iI 1).toUInt32 &&& Int32.toUInt32 31)).toInt32 = iI (z / 2) := by
  have h1 : ((iI 1).toUInt32 &&& Int32.toUInt32 31) = 1 := by decide
  rw [h1]
  have h2 : (iI z).toUInt32.toNat = z.toNat := by
    show ((iI z).toBitVec).toNat = _
    show (BitVec.ofInt 32 z).toNat = _
    rw [BitVec.toNat_ofInt]
    show (z % 4294967296).toNat = _
    omega
  have h3 : ((iI z).toUInt32 >>> (1 : UInt32)).toNat = z.toNat / 2 := by
    rw [UInt32.toNat_shiftRight, h2]
    show z.toNat >>> 1 = _
    rw [Nat.shiftRight_eq_div_pow]
  have h4 : (iI (z / 2)).toUInt32.toNat = z.toNat / 2 := by
    show (BitVec.ofInt 32 (z / 2)).toNat = _
    rw [BitVec.toNat_ofInt]
    show (z / 2 % 4294967296).toNat = _
    omega
  have h5 : (iI z).toUInt32 >>> (1 : UInt32) = (iI (z / 2)).toUInt32 := UInt32.toNat_inj.mp (h3.trans h4.symm)
  rw [h5]
  rfl
theorem iI_sl1 {z : Int} : (iI z) <<< ((iI 1) &&& 31) = iI (2 * z) := by
  have h1 : ((iI 1) &&& 31 : Int32) = 1 := by decide
  rw [h1, ← iI_mul]
  have : ∀ x : Int32, x <<< (1 : Int32) = iI 2 * x := by
    intro x
    rw [← Int32.toBitVec_inj, Int32.toBitVec_shiftLeft, Int32.toBitVec_mul]
    show x.toBitVec <<< (BitVec.smod 1#32 32) = 2#32 * x.toBitVec
    have : (BitVec.smod 1#32 32) = 1#32 := by decide
    rw [this, BitVec.shiftLeft_eq']
    apply BitVec.eq_of_toNat_eq
    rw [BitVec.toNat_shiftLeft, BitVec.toNat_mul, Nat.shiftLeft_eq, Nat.mul_comm]
    rfl
  exact this _
