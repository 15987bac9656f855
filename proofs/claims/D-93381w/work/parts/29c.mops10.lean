set_option maxHeartbeats 4000000 in
theorem mX4_writes (l : Launch) (X : gX) (σ : gS) (o : Nat) (a : Nat → Nat) (V : Nat → Int → Int) (Iv : Nat → Int) (L : List Int) (hM : MW X σ o a V Iv) (hL : lisP L (V 26) (Iv 27)) (c : Int) (m : Int)  (h0 : -2147483648 ≤ c ∧ c ≤ 2147483647) (h1 : 0 ≤ m ∧ m ≤ 9) (h2 : (L.length : Int) + m ≤ 120) : gMet l X yX4_writes cX4_writes 4 none 0 0 0 0 σ [.ref o, .int (iI c), .int (iI m)] (oV (fun σ' => ∃ (V' : Nat → Int → Int) (I' : Nat → Int), MW X σ' o a V' I' ∧ gKeep (fun t => t = 10) σ σ' ∧ (lisP (L ++ List.replicate m.toNat c) (V' 26) (I' 27) ∧ (∀ q, q ≠ 26 → V' q = V q) ∧ (∀ j, j ≠ 27 → I' j = Iv j)))) := by
  refine gMet.of (by decide) (Nat.le_of_ble_eq_true rfl) ?_
  intro pp ee ss mm args below meth cd Q H locs ls hargs hx hb hr hlocks hml hown hnm hts hK hG hS hQ hl
  have hown : ss.vm.findClass RX4 = some mm.cls := hown
  have hl : lv_has ls 4 [(0, .ref o), (1, .int (iI c)), (2, .int (iI m))] := hl
  have hkp : gKeep (fun t => t = 10) σ σ := gKeep.rf
  refine g_iconst hx hb dX4_writes_0 ?_
  refine lv_istore_n (lv' := [(3, .int (iI 0)), (0, .ref o), (1, .int (iI c)), (2, .int (iI m))]) hx hb dX4_writes_1 rfl hl (by decide) rfl (fun ls hl => ?_)
  have loop_2 : ∀ (nF : Nat) (σL : gS) (VL : Nat → Int → Int) (IL : Nat → Int) (k9 : Int), ((m - k9).toNat : Nat) < nF → (MW X σL o a VL IL) → (gKeep (fun t => t = 10) σ σL) → (0 ≤ k9 ∧ k9 ≤ m) → (∀ q, q ≠ 26 → VL q = V q) → (∀ j, j ≠ 27 → IL j = Iv j) → (lisP (L ++ List.replicate k9.toNat c) (VL 26) (IL 27)) → ∀ (H : Heap) (locs : List Loc) (ls : Array Slot), gSat X σL H → va_S (gA X) ss.heap H locs → lv_has ls 4 [(3, .int (iI k9)), (0, .ref o), (1, .int (iI c)), (2, .int (iI m))] → W pp l ee (gR 0 0 0 0) ss mm args below meth cd H locs 0 0 Q (F0 mm 2 ls []) := by
    intro nF
    induction nF with
    | zero => intro σL VL IL k9 hm; exact absurd hm (Nat.not_lt_zero _)
    | succ nF ih_2 =>
      intro σL VL IL k9 hm hML hkL hi2_2 hA hI hLL H locs ls hG hS hl
      have hl1 := hLL.1
      rw [List.length_append, List.length_replicate] at hl1
      refine lv_iload_n hx hb dX4_writes_2 rfl (lv_at hl 0 rfl) ?_
      refine lv_iload_n hx hb dX4_writes_3 rfl (lv_at hl 3 rfl) ?_
      refine g_icmp_ge (tgt := 33) hx hb dX4_writes_4 (by decide) (by omega) (by omega) (fun cq1 => ?_) (fun cq1 => ?_)
      · exact g_vret hx hb hr hlocks hQ hG hS (Nat.zero_le _) (Nat.zero_le _) ⟨rfl, VL, IL, hML, hkL, (⟨by rw [show m.toNat = k9.toNat by omega]; exact hLL, hA, hI⟩)⟩ dX4_writes_33
      · refine lv_aload_n hx hb dX4_writes_7 rfl (lv_at hl 1 rfl) ?_
        refine g_get (C := RX4) (T := TX4) (N := 30) (v := .ref (a 26)) hx hb hts hown hK hG hML.o rfl in_X4 26 (by decide) q1984 rfl rfl dX4_writes_8 ?_
        refine lv_aload_n hx hb dX4_writes_11 rfl (lv_at hl 1 rfl) ?_
        refine g_get (C := RX4) (T := TX4) (N := 30) (v := .int (iI (IL 27))) hx hb hts hown hK hG hML.o rfl in_X4 27 (by decide) q1985 rfl rfl dX4_writes_12 ?_
        refine lv_iload_n hx hb dX4_writes_15 rfl (lv_at hl 2 rfl) ?_
        refine g_iast hx hb hK hG hS hML.a26 dX4_writes_16 (by omega) (fun H locs hG hS => ?_)
        obtain ⟨V2, eV2⟩ : ∃ J : Nat → Int → Int, J = va_up VL 26 (iup (VL 26) (IL 27) c) := ⟨_, rfl⟩
        have v26_2 : V2 26 = (iup (VL 26) (IL 27) c) := by rw [eV2, va_up_self]
        have fV2 : ∀ j, j ≠ 26 → V2 j = VL j := fun j hj => by rw [eV2, va_up_ne _ _ hj]
        have hM2 : MW X (gup σL (a 26) (10, gI (X.2.1 0) 120 (iup (VL 26) (IL 27) c))) o a V2 IL := by rw [eV2]; exact hML.set 26 rfl _
        have hkp2 : gKeep (fun t => t = 10) σ (gup σL (a 26) (10, gI (X.2.1 0) 120 (iup (VL 26) (IL 27) c))) := hkL.tr (gKeep.up hML.a26 rfl)
        generalize (gup σL (a 26) (10, gI (X.2.1 0) 120 (iup (VL 26) (IL 27) c))) = σ2 at hG hM2 hkp2
        refine lv_aload_n hx hb dX4_writes_17 rfl (lv_at hl 1 rfl) ?_
        refine lv_dup hx hb dX4_writes_18 rfl ?_
        refine g_get (C := RX4) (T := TX4) (N := 30) (v := .int (iI (IL 27))) hx hb hts hown hK hG hM2.o rfl in_X4 27 (by decide) q1985 rfl rfl dX4_writes_19 ?_
        refine g_iconst hx hb dX4_writes_22 ?_
        refine g_iadd hx hb dX4_writes_23 ?_
        refine g_put (C := RX4) (T := TX4) (N := 30) (ty0 := tyX4) (v := .int (iI ((IL 27) + 1))) hx hb hts hown hK hG hS hM2.o rfl in_X4 tyX4_ok nmX4 27 (by decide) q1985 rfl (by decide) rfl rfl (Nat.le_of_ble_eq_true rfl) dX4_writes_24 (fun H locs hG hS => ?_)
        obtain ⟨I3, eI3⟩ : ∃ J : Nat → Int, J = va_up IL 27 ((IL 27) + 1) := ⟨_, rfl⟩
        have i27_3 : I3 27 = (IL 27) + 1 := by rw [eI3, va_up_self]
        have fI3 : ∀ j, j ≠ 27 → I3 j = IL j := fun j hj => by rw [eI3, va_up_ne _ _ hj]
        have hM3 : MW X (gup σ2 o (10, gO 4 ((mfs a IL).set 27 (.int (iI ((IL 27) + 1)))))) o a V2 I3 := by rw [eI3]; exact hM2.num (mfs_27 a IL _)
        have hkp3 : gKeep (fun t => t = 10) σ (gup σ2 o (10, gO 4 ((mfs a IL).set 27 (.int (iI ((IL 27) + 1)))))) := hkp2.tr (gKeep.up hM2.o rfl)
        generalize (gup σ2 o (10, gO 4 ((mfs a IL).set 27 (.int (iI ((IL 27) + 1)))))) = σ3 at hG hM3 hkp3
        refine g_iinc (lv' := [(3, .int (iI (k9 + 1))), (0, .ref o), (1, .int (iI c)), (2, .int (iI m))]) hx hb dX4_writes_27 hl (k := 0) rfl (by decide) rfl (fun ls hl => ?_)
        refine lv_goto (tgt := 2) hx hb dX4_writes_30 (by decide) ?_
        exact ih_2 σ3 V2 I3 (k9 + 1) (by omega) (hM3) (hkp3) (by omega) (fun q h => (fV2 q h).trans (hA q h)) (fun j h => (fI3 j h).trans (hI j h)) (by
                  have h9 := lisP_add (x := c) hLL (by rw [List.length_append, List.length_replicate]; omega)
                  rw [List.append_assoc, ← List.replicate_succ'] at h9
                  rw [v26_2, i27_3, show (k9 + 1).toNat = k9.toNat + 1 by omega]
                  exact h9)  _ _ _ hG hS (lv_sub hl [0, 1, 2, 3] rfl)
  exact loop_2 _ σ V Iv 0 (Nat.lt_succ_self _) (hM) (hkp) (by omega) (fun q h => rfl) (fun j h => rfl) (by simpa using hL)  _ _ _ hG hS (lv_sub hl [0, 1, 2, 3] rfl)
