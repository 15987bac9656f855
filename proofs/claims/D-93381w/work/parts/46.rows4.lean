/-! rows: division of longs, casts to bytes and chars -/
set_option maxRecDepth 100000
section GR4
variable {p : Program} {l : Launch} {e : Env} {R : Room} {s : State} {m : MethodId} {args : Array Value} {below : List Frame} {meth : Method} {c : Code} {H : Heap} {locs : List Loc} {cells slots : Nat} {Q : State → Prop} {cc : ByteArray} {pc : Nat} {ls : Array Slot} {rest : List Value}
theorem lI_div {a b : Int} (ha : 0 ≤ a ∧ a ≤ 9223372036854775807) (hb : 0 < b ∧ b ≤ 9223372036854775807) : lI a / lI b = lI (a / b) := by
  have h1 : Int64.minValue.toInt = -9223372036854775808 := by decide
  have h2 : Int64.maxValue.toInt = 9223372036854775807 := by decide
  have := (Int64.ofInt_tdiv (a := a) (b := b) (by rw [h1]; omega) (by rw [h2]; omega) (by rw [h1]; omega) (by rw [h2]; omega)).symm
  rw [Int.tdiv_eq_ediv_of_nonneg ha.1] at this
  exact this
theorem lI_rem {a b : Int} (ha : 0 ≤ a ∧ a ≤ 9223372036854775807) (hb : 0 < b ∧ b ≤ 9223372036854775807) : lI a - lI a / lI b * lI b = lI (a % b) := by
  rw [lI_div ha hb]
  show Int64.ofInt a - Int64.ofInt (a / b) * Int64.ofInt b = Int64.ofInt (a % b)
  rw [← Int64.ofInt_mul, ← Int64.ofInt_sub, Int.emod_def, Int.mul_comm]
theorem g_ldiv (hx : p.tables.exec = Jvm.exec) (hb : c.code = cc) {a b : Int} (hdg : decode cc pc = .ok (.ldiv, 1)) (ha : 0 ≤ a ∧ a ≤ 9223372036854775807) (hb0 : 0 < b ∧ b ≤ 9223372036854775807) (k : W p l e R s m args below meth c H locs cells slots Q (F0 m (pc + 1) ls (.long (lI (a / b)) :: rest))) : W p l e R s m args below meth c H locs cells slots Q (F0 m pc ls (.long (lI b) :: .long (lI a) :: rest)) :=
  lv_ldiv hx hb hdg (by rw [show (0 : Int64) = lI 0 from rfl, lI_eq (by omega) (by omega)]; omega) (by rw [lI_div ha hb0]; exact k)
theorem g_lrem (hx : p.tables.exec = Jvm.exec) (hb : c.code = cc) {a b : Int} (hdg : decode cc pc = .ok (.lrem, 1)) (ha : 0 ≤ a ∧ a ≤ 9223372036854775807) (hb0 : 0 < b ∧ b ≤ 9223372036854775807) (k : W p l e R s m args below meth c H locs cells slots Q (F0 m (pc + 1) ls (.long (lI (a % b)) :: rest))) : W p l e R s m args below meth c H locs cells slots Q (F0 m pc ls (.long (lI b) :: .long (lI a) :: rest)) :=
  lv_lrem hx hb hdg (by rw [show (0 : Int64) = lI 0 from rfl, lI_eq (by omega) (by omega)]; omega) (by rw [lI_rem ha hb0]; exact k)
theorem iI_b {z : Int} (h : -128 ≤ z ∧ z ≤ 127) : (iI z).toInt8.toInt32 = iI z := by
  rw [← Int32.toInt_inj, Int8.toInt_toInt32, Int32.toInt_toInt8, iI_toInt (by omega)]
  exact Int.bmod_eq_of_le (by omega) (by omega)
theorem g_i2b (hx : p.tables.exec = Jvm.exec) (hb : c.code = cc) {a : Int} (hdg : decode cc pc = .ok (.i2b, 1)) (ha : -128 ≤ a ∧ a ≤ 127) (k : W p l e R s m args below meth c H locs cells slots Q (F0 m (pc + 1) ls (.int (iI a) :: rest))) : W p l e R s m args below meth c H locs cells slots Q (F0 m pc ls (.int (iI a) :: rest)) := lv_i2b hx hb hdg (iI_b ha) k
theorem narB {z : Int} (h : -128 ≤ z ∧ z ≤ 127) : narrow .byte (.int (iI z)) = .int (iI z) := by
  show Value.int ((iI z).toInt8.toInt32) = _
  rw [iI_b h]
theorem g_ldcw (hx : p.tables.exec = Jvm.exec) (hb : c.code = cc) {own : String} {index : Nat} {v : Int32} (n : Int) (hown : s.vm.findClass own = some m.cls) (hconst : (Jvm.Cond.constant own index v).before args s = true) (hv : v = iI n) (hdg : decode cc pc = .ok (.ldc_w index, 3)) (k : W p l e R s m args below meth c H locs cells slots Q (F0 m (pc + 3) ls (.int (iI n) :: rest))) : W p l e R s m args below meth c H locs cells slots Q (F0 m pc ls (rest)) := lv_ldcw hx hb hown hconst hdg (by rw [hv]; exact k)
end GR4
