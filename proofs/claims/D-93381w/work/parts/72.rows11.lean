/-! statics of the library that nobody writes: strings are compact, the digits' rows -/
set_option maxRecDepth 100000
abbrev tmDO : Term := .static "java/lang/Integer" "DigitOnes" "[B"
abbrev tmDT : Term := .static "java/lang/Integer" "DigitTens" "[B"
theorem gCS {X : gX} {s : State} (hK : gIn X s) : va_Z "java/lang/String" "COMPACT_STRINGS" "Z" (.int (iI 1)) (gA X) s s.heap := by
  have h := va_Zof (A := gA X) (hK.1.1 _ q253) (hK.1.1 _ (lw_all_tbl q80)) (va_eqt (hK.flat (Cond.eq (.static "java/lang/String" "COMPACT_STRINGS" "Z") (.int (1 : Int32))) (by decide +kernel))) (gOut X)
  exact (h.moved hK.2.1.alike).kept hK.kept
theorem gSI {X : gX} {s : State} (hK : gIn X s) : ∃ u : Option Nat, va_Z "jdk/internal/util/Preconditions" "SIOOBE_FORMATTER" "Ljava/util/function/BiFunction;" (va_rf u) (gA X) s s.heap := by
  have h := va_Zqof (A := gA X) (hK.1.1 _ q1063) (hK.1.1 _ (lw_all_tbl q104)) (hK.flat (Cond.isRef (.static "jdk/internal/util/Preconditions" "SIOOBE_FORMATTER" "Ljava/util/function/BiFunction;")) (by decide +kernel)) (gOut X)
  rcases (h.moved hK.2.1.alike).kept hK.kept with h | ⟨t, h⟩
  · exact ⟨none, h⟩
  · exact ⟨some t, h⟩
def isDg (n : String) : Cond → Bool
  | .eq (.elem (.static _ m _) _) _ => m == n
  | _ => false
theorem do_list : (flatC (Jvm.Cond.and given_1 narrow_1)).filter (isDg "DigitOnes") = (List.range 100).map (fun j => Cond.eq (.elem tmDO (.int (Int32.ofNat j))) (.int (iI (48 + (j : Int) % 10)))) := by decide +kernel
theorem dt_list : (flatC (Jvm.Cond.and given_1 narrow_1)).filter (isDg "DigitTens") = (List.range 100).map (fun j => Cond.eq (.elem tmDT (.int (Int32.ofNat j))) (.int (iI (48 + (j : Int) / 10)))) := by decide +kernel
theorem do_words (j : Nat) (h : j < 100) : Cond.eq (.elem tmDO (.int (Int32.ofNat j))) (.int (iI (48 + (j : Int) % 10))) ∈ flatC (Jvm.Cond.and given_1 narrow_1) := by
  have h1 : Cond.eq (.elem tmDO (.int (Int32.ofNat j))) (.int (iI (48 + (j : Int) % 10))) ∈ (flatC (Jvm.Cond.and given_1 narrow_1)).filter (isDg "DigitOnes") := by
    rw [do_list]; exact List.mem_map.mpr ⟨j, List.mem_range.mpr h, rfl⟩
  exact (List.mem_filter.mp h1).1
theorem dt_words (j : Nat) (h : j < 100) : Cond.eq (.elem tmDT (.int (Int32.ofNat j))) (.int (iI (48 + (j : Int) / 10))) ∈ flatC (Jvm.Cond.and given_1 narrow_1) := by
  have h1 : Cond.eq (.elem tmDT (.int (Int32.ofNat j))) (.int (iI (48 + (j : Int) / 10))) ∈ (flatC (Jvm.Cond.and given_1 narrow_1)).filter (isDg "DigitTens") := by
    rw [dt_list]; exact List.mem_map.mpr ⟨j, List.mem_range.mpr h, rfl⟩
  exact (List.mem_filter.mp h1).1
theorem gDO {X : gX} {s : State} (hK : gIn X s) : ∃ t : Nat, va_Z "java/lang/Integer" "DigitOnes" "[B" (.ref t) (gA X) s s.heap ∧ va_T .byte t 100 (fun k => .int (iI (48 + (k : Int) % 10))) (gA X) s s.heap := by
  have hf := hK.flat
  have harr : (Cond.arrayOf tmDO .byte).before X.2.2.2.1 X.2.2.2.2 = true := hf _ (by decide +kernel)
  have hlen := va_eqt (hf (Cond.eq (.length tmDO) (.int (Int32.ofNat 100))) (by decide +kernel))
  obtain ⟨t, ht, hT⟩ := va_Tof (N := 100) (f := fun k => .int (iI (48 + (k : Int) % 10))) (A := gA X) (by decide) harr hlen (fun j hj => va_eqt (hf _ (do_words j hj))) (gOut X)
  have hZ := va_Zref (A := gA X) (hK.1.1 _ q1769) (hK.1.1 _ (lw_all_tbl q99)) ht (gOut X)
  exact ⟨t, (hZ.moved hK.2.1.alike).kept hK.kept, (hT.moved hK.2.1.alike).kept hK.kept⟩
theorem gDT {X : gX} {s : State} (hK : gIn X s) : ∃ t : Nat, va_Z "java/lang/Integer" "DigitTens" "[B" (.ref t) (gA X) s s.heap ∧ va_T .byte t 100 (fun k => .int (iI (48 + (k : Int) / 10))) (gA X) s s.heap := by
  have hf := hK.flat
  have harr : (Cond.arrayOf tmDT .byte).before X.2.2.2.1 X.2.2.2.2 = true := hf _ (by decide +kernel)
  have hlen := va_eqt (hf (Cond.eq (.length tmDT) (.int (Int32.ofNat 100))) (by decide +kernel))
  obtain ⟨t, ht, hT⟩ := va_Tof (N := 100) (f := fun k => .int (iI (48 + (k : Int) / 10))) (A := gA X) (by decide) harr hlen (fun j hj => va_eqt (hf _ (dt_words j hj))) (gOut X)
  have hZ := va_Zref (A := gA X) (hK.1.1 _ q1771) (hK.1.1 _ (lw_all_tbl q99)) ht (gOut X)
  exact ⟨t, (hZ.moved hK.2.1.alike).kept hK.kept, (hT.moved hK.2.1.alike).kept hK.kept⟩
