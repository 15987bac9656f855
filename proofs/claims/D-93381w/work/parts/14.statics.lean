/-! statics that nobody writes -/
set_option maxRecDepth 100000
abbrev tmInv : Term := .static "KeptCurves" "INVERSE" "[I"
theorem gOut (X : gX) : ∀ a : Nat, a < X.2.2.2.2.heap.size → ¬ gA X a := fun _ h z => Nat.not_le.mpr h z
theorem gIn.flat {X : gX} {U : State} (h : gIn X U) : ∀ c ∈ flatC (Jvm.Cond.and given_1 narrow_1), c.before X.2.2.2.1 X.2.2.2.2 = true := flat_of_before _ h.1.2.1.1
theorem gIn.kept {X : gX} {U : State} (h : gIn X U) : ∀ a : Nat, a < X.2.2.2.2.heap.size → ¬ gA X a → U.heap[a]? = X.2.2.2.2.heap[a]? := fun a ha _ => h.2.2.2 a ha
theorem inv_words : ∀ j : Fin 31, Cond.eq (.elem tmInv (.int (Int32.ofNat j.val))) (.int (iI (invZ (j.val : Int)))) ∈ flatC (Jvm.Cond.and given_1 narrow_1) := by decide +kernel
theorem gInv {X : gX} {s : State} (hK : gIn X s) : ∃ t : Nat, va_Z "KeptCurves" "INVERSE" "[I" (.ref t) (gA X) s s.heap ∧ va_T .int t 31 (fun k => .int (iI (invZ (k : Int)))) (gA X) s s.heap := by
  have hf := hK.flat
  have harr : (Cond.arrayOf tmInv .int).before X.2.2.2.1 X.2.2.2.2 = true := hf _ (by decide +kernel)
  have hlen := va_eqt (hf (Cond.eq (.length tmInv) (.int (Int32.ofNat 31))) (by decide +kernel))
  obtain ⟨t, ht, hT⟩ := va_Tof (N := 31) (f := fun k => .int (iI (invZ (k : Int)))) (A := gA X) (by decide) harr hlen (fun j hj => va_eqt (hf _ (inv_words ⟨j, hj⟩))) (gOut X)
  have hZ := va_Zref (A := gA X) (hK.1.1 _ q386) (hK.1.1 _ (lw_all_tbl q69)) ht (gOut X)
  exact ⟨t, (hZ.moved hK.2.1.alike).kept hK.kept, (hT.moved hK.2.1.alike).kept hK.kept⟩
section GST
variable {p : Program} {l : Launch} {e : Env} {R : Room} {s : State} {m : MethodId} {args : Array Value} {below : List Frame} {meth : Method} {c : Code} {H : Heap} {locs : List Loc} {cells slots : Nat} {Q : State → Prop} {cc : ByteArray} {pc : Nat} {ls : Array Slot} {rest : List Value}
theorem g_ti {A : Nat → Prop} (hx : p.tables.exec = Jvm.exec) (hb : c.code = cc) {t n : Nat} {g : Int → Int} {z : Int} (hT : va_T .int t n (fun k => .int (iI (g (k : Int)))) A s s.heap) (hS : va_S A s.heap H locs) (hdg : decode cc pc = .ok (.iaload, 1)) (hz : 0 ≤ z ∧ z < n ∧ z ≤ 2147483647)
    (kk : W p l e R s m args below meth c H locs cells slots Q (F0 m (pc + 1) ls (.int (iI (g z)) :: rest))) : W p l e R s m args below meth c H locs cells slots Q (F0 m pc ls (.int (iI z) :: .ref t :: rest)) := by
  refine va_ti (v := .int (iI (g z))) hx hb hT hS (iI_in hz.1 hz.2.1 hz.2.2) ?_ hdg kk
  rw [iI_clamp hz.1 hz.2.2, Int.toNat_of_nonneg hz.1]
end GST
