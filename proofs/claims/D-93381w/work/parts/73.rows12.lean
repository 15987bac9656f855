/-! rows: shifts by none, signs -/
set_option maxRecDepth 100000
theorem iI_sh0 {x : Int32} : x >>> ((iI 0) &&& 31) = x := by
  have h1 : ((iI 0) &&& 31 : Int32) = 0 := by decide
  rw [h1, ← Int32.toBitVec_inj, Int32.toBitVec_shiftRight]
  show BitVec.sshiftRight' x.toBitVec (BitVec.smod 0#32 32) = _
  have h2 : (BitVec.smod 0#32 32) = 0#32 := by decide
  rw [h2]
  simp
theorem iI_sl0 {x : Int32} : x <<< ((iI 0) &&& 31) = x := by
  have h1 : ((iI 0) &&& 31 : Int32) = 0 := by decide
  rw [h1, ← Int32.toBitVec_inj, Int32.toBitVec_shiftLeft]
  show x.toBitVec <<< (BitVec.smod 0#32 32) = _
  have h2 : (BitVec.smod 0#32 32) = 0#32 := by decide
  rw [h2]
  simp
theorem sg_all : ∀ k : Fin 128, (iI (k.val : Int)) &&& (iI 255) = iI (k.val : Int) ∧ ((iI (k.val : Int)).toUInt32 % 65536).toInt32 = iI (k.val : Int) := by decide +kernel
theorem sg_and {z : Int} (h : 0 ≤ z ∧ z ≤ 127) : (iI z) &&& (iI 255) = iI z := by
  have := (sg_all ⟨z.toNat, by omega⟩).1
  rwa [show ((z.toNat : Nat) : Int) = z by omega] at this
theorem sg_i2c {z : Int} (h : 0 ≤ z ∧ z ≤ 127) : ((iI z).toUInt32 % 65536).toInt32 = iI z := by
  have := (sg_all ⟨z.toNat, by omega⟩).2
  rwa [show ((z.toNat : Nat) : Int) = z by omega] at this
