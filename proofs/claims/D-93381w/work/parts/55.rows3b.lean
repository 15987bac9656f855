/-! a row for System.arraycopy of ints, from the start to a place -/
set_option maxRecDepth 100000
section GR3b
variable {p : Program} {l : Launch} {e : Env} {R : Room} {s : State} {m : MethodId} {args : Array Value} {below : List Frame} {meth : Method} {c : Code} {H : Heap} {locs : List Loc} {cells slots : Nat} {Q : State → Prop} {cc : ByteArray} {pc : Nat} {ls : Array Slot} {rest : List Value}
/-- N numbers of f at D, around them g's -/
def cpD (D N : Nat) (f g : Int → Int) : Int → Int := fun j => if (D : Int) ≤ j ∧ j < D + N then f (j - D) else g j
theorem g_copyD {X : gX} {σ : gS} {own : String} {index nL a0 a t0 t n0 n N D : Nat} {f g : Int → Int} (hx : p.tables.exec = Jvm.exec) (hb : c.code = cc) (hml : c.maxLocals = nL) (hown : s.vm.findClass own = some m.cls) (hts : ∀ w ∈ lw_all, w.before args s = true) (hK : gIn X s) (hG : gSat X σ H) (hS : va_S (gA X) s.heap H locs) (hls : ls.size = nL)
    (h1 : Cond.methodLink own index arraycopyName ∈ lw_all) (h2 : Cond.native arraycopyName ∈ lw_all) (h3 : Cond.static arraycopyName ∈ lw_all) (h4 : Cond.initialized "java/lang/System" ∈ lw_all)
    (ha0 : σ a0 = some (t0, gI (X.2.1 0) n0 f)) (ha : σ a = some (t, gI (X.2.1 0) n g)) (hN : N < 2147483648) (hn0 : N ≤ n0) (hn : D + N ≤ n) (hD : D < 2147483648)
    (hframes : 1 ≤ R.frames) (hlocals : (rest.map fun v => v.category).sum + (nativeFrameWords "java/lang/System" "arraycopy" 5 + 11) ≤ R.locals) (hdg : decode cc pc = .ok (.invokestatic index, 3))
    (kk : ∀ (H1 : Heap) (locs1 : List Loc), gSat X (gup σ a (t, gI (X.2.1 0) n (cpD D N f g))) H1 → va_S (gA X) s.heap H1 locs1 → W p l e R s m args below meth c H1 locs1 cells slots Q (F0 m (pc + 3) ls rest)) : W p l e R s m args below meth c H locs cells slots Q (F0 m pc ls (.int (iI (N : Int)) :: .int (iI (D : Int)) :: .ref a :: .int (iI 0) :: .ref a0 :: rest)) := by
  have hz : (iI 0).toNatClampNeg = 0 := rfl
  have hNc : (iI (N : Int)).toNatClampNeg = N := iI_cl rfl (by omega)
  have hDc : (iI (D : Int)).toNatClampNeg = D := iI_cl rfl (by omega)
  have hDt : (iI (D : Int)).toInt = (D : Int) := iI_toInt (by omega)
  have hNt : (iI (N : Int)).toInt = (N : Int) := iI_toInt (by omega)
  intro T hT Z
  obtain ⟨hc0, hB0⟩ := hG a0 t0 _ ha0
  obtain ⟨hc1, hB⟩ := hG a t _ ha
  have hc0 : H[a0]? = some (arrV (X.2.1 0) n0 (fun j => .int (iI (f (j : Int))))) := hc0
  have hc1 : H[a]? = some (arrV (X.2.1 0) n (fun j => .int (iI (g (j : Int))))) := hc1
  obtain ⟨-, k0, hk0, cm0, hkk0⟩ := (hK.K.2 0 _ rfl).1 n0 (fun j => .int (iI (f (j : Int))))
  obtain ⟨-, k1, hk1, cm1, hkk1⟩ := (hK.K.2 0 _ rfl).1 n (fun j => .int (iI (g (j : Int))))
  obtain ⟨vm', X', step⟩ := Z.arraycopy hx hown (hts _ h1) (hts _ h2) (hts _ h3) (hts _ h4) (src := a0) (dst := a) (srcPos := iI 0) (destPos := iI (D : Int)) (n := iI (N : Int)) (by rw [hT]; exact hc0) (by rw [hT]; exact hc1)
    (fun _ h => by cases h) (fun _ h => by cases h) (fun h => by cases h) (fun h => by cases h) hk0 hk1 hkk0 hkk1 (by simp [refKind]) (by decide) (by rw [Int32.lt_iff_toInt_lt, hDt]; show ¬ ((D : Int) < 0); omega) (by rw [Int32.lt_iff_toInt_lt, hNt]; show ¬ ((N : Int) < 0); omega)
    (by rw [hNt, arrV_size]; show ¬ ((0 : Int) + _ > _); omega)
    (by rw [hNt, hDt, arrV_size]; omega)
    (fun vm₁ _ i hi => by
      have e : (arrV (X.2.1 0) n0 (fun j => .int (iI (f (j : Int))))).slots.getD ((iI 0).toNatClampNeg + i) .null = .int (iI (f (((iI 0).toNatClampNeg + i : Nat) : Int))) := by
        rw [Array.getD_eq_getD_getElem?, arrV_read _ _ (by rw [hNc] at hi; rw [hz]; omega)]
        rfl
      refine ⟨?_, ?_⟩
      · rw [e]
        rfl
      · rw [e]
        exact trivial)
    (g := F0 m pc ls (.int (iI (N : Int)) :: .int (iI (D : Int)) :: .ref a :: .int (iI 0) :: .ref a0 :: rest)) rfl (by rw [hls, hml]) (rest := rest) rfl (by rw [hb]; exact hdg) hframes (by show 2 * 0 + _ + _ ≤ _; omega)
  have e1 : copied (arrV (X.2.1 0) n0 (fun j => .int (iI (f (j : Int))))) (arrV (X.2.1 0) n (fun j => .int (iI (g (j : Int))))) (iI 0) (iI (D : Int)) (iI (N : Int)) = arrV (X.2.1 0) n (fun j => .int (iI (cpD D N f g (j : Int)))) := by
    refine (va_copied (fun z => .int z) (X.2.1 0) (X.2.1 0) (fun j => iI (f (j : Int))) (fun j => iI (g (j : Int))) (sp := (iI 0).toNatClampNeg) (dp := (iI (D : Int)).toNatClampNeg) (n := (iI (N : Int)).toNatClampNeg) (by rw [hz, hNc]; omega)).trans ?_
    congr 1
    funext k
    congr 1
    rw [va_cpy, hz, hNc, hDc]
    by_cases h : D ≤ k ∧ k < D + N
    · rw [if_pos (by omega)]; unfold cpD; rw [if_pos (by omega)]; congr 2; omega
    · rw [if_neg (by omega)]; unfold cpD; rw [if_neg (by omega)]
  rw [e1] at X' step
  have hl : a < H.size := (Array.getElem?_eq_some_iff.mp hc1).1
  have hheap : ((T.setVm vm').setCell a (arrV (X.2.1 0) n (fun j => .int (iI (cpD D N f g (j : Int)))))).heap = H.setIfInBounds a (arrV (X.2.1 0) n (fun j => .int (iI (cpD D N f g (j : Int))))) := by rw [← hT]; rfl
  have oq : ∀ q : Nat, q ≠ a → (H.setIfInBounds a (arrV (X.2.1 0) n (fun j => .int (iI (cpD D N f g (j : Int))))))[q]? = H[q]? := fun q hq => by simp [Array.getElem?_setIfInBounds, Ne.symm hq]
  obtain ⟨t, a1, b1⟩ := kk _ _ (hG.set hB (show gat X a (gI (X.2.1 0) n (cpD D N f g)) (H.setIfInBounds a _) from (show (H.setIfInBounds a _)[a]? = some _ by simp [Array.getElem?_setIfInBounds, hl]; rfl)) (fun q hq _ => oq q hq)) ⟨by simp; exact hS.1, fun q g1 g2 => by
      rw [oq q (fun e => g2 (by rw [e]; exact hB))]
      exact hS.2.1 q g1 g2, fun q hq => by
      rcases List.mem_append.mp hq with h | h
      · exact hS.2.2 q h
      · obtain ⟨z, -, hz⟩ := List.mem_map.mp h
        rw [← hz]
        exact hB⟩ _ hheap X'
  exact ⟨t, step t a1, b1⟩
end GR3b
