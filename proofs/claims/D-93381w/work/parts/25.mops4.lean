set_option maxHeartbeats 4000000 in
theorem mX4_findsKept (l : Launch) (X : gX) (σ : gS) (o : Nat) (a : Nat → Nat) (V : Nat → Int → Int) (Iv : Nat → Int) (hM : MW X σ o a V Iv) (hT : okT (V 0))    : gMet l X yX4_findsKept cX4_findsKept 2 none 3 0 0 70 σ [.ref o] (oV (fun σ' => ∃ (V' : Nat → Int → Int) (I' : Nat → Int), MW X σ' o a V' I' ∧ gKeep (fun t => t = 10) σ σ' ∧ ((∀ q, q ≠ 3 → V' q = V q) ∧ (∀ q : Int, 0 ≤ q → q < 1024 → V' 3 q = kepZ (V 0) (q / 32) (q % 32)) ∧ I' = Iv))) := by
  refine gMet.of (by decide) (Nat.le_of_ble_eq_true rfl) ?_
  intro pp ee ss mm args below meth cd Q H locs ls hargs hx hb hr hlocks hml hown hnm hts hK hG hS hQ hl
  have hown : ss.vm.findClass RX4 = some mm.cls := hown
  have hl : lv_has ls 2 [(0, .ref o)] := hl
  have hkp : gKeep (fun t => t = 10) σ σ := gKeep.rf
  refine g_iconst hx hb dX4_findsKept_0 ?_
  refine lv_istore_n (lv' := [(1, .int (iI 0)), (0, .ref o)]) hx hb dX4_findsKept_1 rfl hl (by decide) rfl (fun ls hl => ?_)
  have loop_2 : ∀ (nF : Nat) (σL : gS) (VL : Nat → Int → Int) (k9 : Int), ((1024 - k9).toNat : Nat) < nF → (MW X σL o a VL Iv) → (gKeep (fun t => t = 10) σ σL) → (0 ≤ k9 ∧ k9 ≤ 1024) → (∀ q, q ≠ 3 → VL q = V q) → (∀ q : Int, 0 ≤ q → q < k9 → VL 3 q = kepZ (V 0) (q / 32) (q % 32)) → ∀ (H : Heap) (locs : List Loc) (ls : Array Slot), gSat X σL H → va_S (gA X) ss.heap H locs → lv_has ls 2 [(1, .int (iI k9)), (0, .ref o)] → W pp l ee (gR 3 0 0 70) ss mm args below meth cd H locs 0 0 Q (F0 mm 2 ls []) := by
    intro nF
    induction nF with
    | zero => intro σL VL k9 hm; exact absurd hm (Nat.not_lt_zero _)
    | succ nF ih_2 =>
      intro σL VL k9 hm hML hkL hi2_2 hA hZ H locs ls hG hS hl
      have hT0 : okT (VL 0) := by rw [hA 0 (by decide)]; exact hT
      refine lv_iload_n hx hb dX4_findsKept_2 rfl (lv_at hl 0 rfl) ?_
      refine g_sipush hx hb dX4_findsKept_3 (by decide) ?_
      refine g_icmp_ge (tgt := 33) hx hb dX4_findsKept_6 (by decide) (by omega) (by omega) (fun cq1 => ?_) (fun cq1 => ?_)
      · exact g_vret hx hb hr hlocks hQ hG hS (Nat.zero_le _) (Nat.zero_le _) ⟨rfl, VL, Iv, hML, hkL, (⟨hA, fun q h1 h2 => hZ q h1 (by omega), rfl⟩)⟩ dX4_findsKept_33
      · refine lv_aload_n hx hb dX4_findsKept_9 rfl (lv_at hl 1 rfl) ?_
        refine g_get (C := RX4) (T := TX4) (N := 30) (v := .ref (a 3)) hx hb hts hown hK hG hML.o rfl in_X4 3 (by decide) q1961 rfl rfl dX4_findsKept_10 ?_
        refine lv_iload_n hx hb dX4_findsKept_13 rfl (lv_at hl 0 rfl) ?_
        refine lv_aload_n hx hb dX4_findsKept_14 rfl (lv_at hl 1 rfl) ?_
        refine lv_iload_n hx hb dX4_findsKept_15 rfl (lv_at hl 0 rfl) ?_
        refine g_bipush hx hb dX4_findsKept_16 (by decide) ?_
        refine g_idiv hx hb dX4_findsKept_18 (by omega) (by omega) ?_
        refine lv_iload_n hx hb dX4_findsKept_19 rfl (lv_at hl 0 rfl) ?_
        refine g_bipush hx hb dX4_findsKept_20 (by decide) ?_
        refine g_irem hx hb dX4_findsKept_22 (by omega) (by omega) ?_
        refine g_callV (As := [.int (iI (k9 / 32)), .int (iI (k9 % 32))]) (rest := [.int (iI k9), .ref (a 3)]) 2 hx hb hml hown hts hK hG hS hl.1 (mX4_keptAt l X σL o a VL Iv hML hT0 (k9 / 32) (k9 % 32) (by omega) (by omega)) hML.o rfl q2090 q2092 qs47 q86 q2093 (by decide +kernel) rfl ⟨Nat.le_of_ble_eq_true rfl, Nat.le_of_ble_eq_true rfl⟩ ⟨Nat.le_of_ble_eq_true rfl, Nat.le_of_ble_eq_true rfl⟩ (Nat.le_of_ble_eq_true rfl) dX4_findsKept_23 (kI (fun r2 σr2 H locs hp hG hS => ?_))
        obtain ⟨⟨hr2, kr2⟩, rfl⟩ := hp
        rw [hA 0 (by decide)] at hr2
        refine g_iast hx hb hK hG hS hML.a3 dX4_findsKept_26 (by omega) (fun H locs hG hS => ?_)
        obtain ⟨V3, eV3⟩ : ∃ J : Nat → Int → Int, J = va_up VL 3 (iup (VL 3) k9 r2) := ⟨_, rfl⟩
        have v3_3 : V3 3 = (iup (VL 3) k9 r2) := by rw [eV3, va_up_self]
        have fV3 : ∀ j, j ≠ 3 → V3 j = VL j := fun j hj => by rw [eV3, va_up_ne _ _ hj]
        have hM3 : MW X (gup σL (a 3) (10, gI (X.2.1 0) 1024 (iup (VL 3) k9 r2))) o a V3 Iv := by rw [eV3]; exact hML.set 3 rfl _
        have hkp3 : gKeep (fun t => t = 10) σ (gup σL (a 3) (10, gI (X.2.1 0) 1024 (iup (VL 3) k9 r2))) := hkL.tr (gKeep.up hML.a3 rfl)
        generalize (gup σL (a 3) (10, gI (X.2.1 0) 1024 (iup (VL 3) k9 r2))) = σ3 at hG hM3 hkp3
        refine g_iinc (lv' := [(1, .int (iI (k9 + 1))), (0, .ref o)]) hx hb dX4_findsKept_27 hl (k := 0) rfl (by decide) rfl (fun ls hl => ?_)
        refine lv_goto (tgt := 2) hx hb dX4_findsKept_30 (by decide) ?_
        exact ih_2 σ3 V3 (k9 + 1) (by omega) (hM3) (hkp3) (by omega) (fun q h1 => (fV3 q h1).trans (hA q h1)) (fun q h1 h2 => by rw [v3_3]; by_cases hq : q = k9; (rw [hq, iup_s, hr2]); (rw [iup_n hq]; exact hZ q h1 (by omega)))  _ _ _ hG hS (lv_sub hl [0, 1] rfl)
  exact loop_2 _ σ V 0 (Nat.lt_succ_self _) (hM) (hkp) (by omega) (fun q h => rfl) (fun q h1 h2 => by omega)  _ _ _ hG hS (lv_sub hl [0, 1] rfl)

set_option maxHeartbeats 4000000 in
theorem mX4_nth (l : Launch) (X : gX) (σ : gS) (o : Nat) (a : Nat → Nat) (V : Nat → Int → Int) (Iv : Nat → Int) (hM : MW X σ o a V Iv) (hT : okT (V 0)) (k : Int) (i : Int)  (h0 : -2147483648 ≤ k ∧ k ≤ 2147483647) (h1 : -2147483648 ≤ i ∧ i ≤ 2147483647) : gMet l X yX4_nth cX4_nth 5 (some .int) 4 0 0 91 σ [.ref o, .int (iI k), .int (iI i)] (oI (fun r σ' => ∃ (V' : Nat → Int → Int) (I' : Nat → Int), MW X σ' o a V' I' ∧ gKeep (fun t => t = 10) σ σ' ∧ (r = nthL (fibL (V 0) k 1024) i ∧ (∀ q, q ≠ 3 → V' q = V q) ∧ I' = Iv))) := by
  refine gMet.of (by decide) (Nat.le_of_ble_eq_true rfl) ?_
  intro pp ee ss mm args below meth cd Q H locs ls hargs hx hb hr hlocks hml hown hnm hts hK hG hS hQ hl
  have hown : ss.vm.findClass RX4 = some mm.cls := hown
  have hl : lv_has ls 5 [(0, .ref o), (1, .int (iI k)), (2, .int (iI i))] := hl
  have hkp : gKeep (fun t => t = 10) σ σ := gKeep.rf
  refine lv_aload_n hx hb dX4_nth_0 rfl (lv_at hl 0 rfl) ?_
  refine g_callV (As := []) (rest := []) 0 hx hb hml hown hts hK hG hS hl.1 (mX4_findsKept l X σ o a V Iv hM hT  ) hM.o rfl q2154 q2156 qs54 q86 q2157 (by decide +kernel) rfl ⟨Nat.le_of_ble_eq_true rfl, Nat.le_of_ble_eq_true rfl⟩ ⟨Nat.le_of_ble_eq_true rfl, Nat.le_of_ble_eq_true rfl⟩ (Nat.le_of_ble_eq_true rfl) dX4_nth_1 (kV (fun σr1 H locs hp hG hS => ?_))
  obtain ⟨V1, I1, hM1, kp1, hrel1⟩ := hp
  have hkp1 := hkp.tr kp1
  have hV0 : V1 0 = V 0 := hrel1.1 0 (by decide)
  have hKp := hrel1.2.1
  have hT1 : okT (V1 0) := by rw [hV0]; exact hT
  have hI1 := hrel1.2.2
  refine g_iconst hx hb dX4_nth_4 ?_
  refine lv_istore_n (lv' := [(3, .int (iI 0)), (0, .ref o), (1, .int (iI k)), (2, .int (iI i))]) hx hb dX4_nth_5 rfl hl (by decide) rfl (fun ls hl => ?_)
  refine g_iconst hx hb dX4_nth_6 ?_
  refine lv_istore (lv' := [(4, .int (iI 0)), (3, .int (iI 0)), (0, .ref o), (1, .int (iI k)), (2, .int (iI i))]) hx hb dX4_nth_7 hl (by decide) rfl (fun ls hl => ?_)
  have loop_9 : ∀ (nF : Nat) (m9 : Int) (sp : Int), ((1024 - sp).toNat : Nat) < nF → (0 ≤ sp ∧ sp ≤ 1024) → (m9 = ((fibL (V 0) k sp.toNat).length : Int)) → (0 ≤ i → m9 ≤ i) → ∀ (H : Heap) (locs : List Loc) (ls : Array Slot), gSat X σr1 H → va_S (gA X) ss.heap H locs → lv_has ls 5 [(4, .int (iI sp)), (3, .int (iI m9)), (0, .ref o), (1, .int (iI k)), (2, .int (iI i))] → W pp l ee (gR 4 0 0 91) ss mm args below meth cd H locs 0 0 Q (F0 mm 9 ls []) := by
    intro nF
    induction nF with
    | zero => intro m9 sp hm; exact absurd hm (Nat.not_lt_zero _)
    | succ nF ih_9 =>
      intro m9 sp hm hi9_0 hm hno H locs ls hG hS hl
      have hlen := fibL_len (V 0) k sp.toNat
      refine lv_iload hx hb dX4_nth_9 (lv_at hl 0 rfl) ?_
      refine g_sipush hx hb dX4_nth_11 (by decide) ?_
      refine g_icmp_ge (tgt := 45) hx hb dX4_nth_14 (by decide) (by omega) (by omega) (fun cq2 => ?_) (fun cq2 => ?_)
      · refine lv_iload_n hx hb dX4_nth_45 rfl (lv_at hl 4 rfl) ?_
        refine g_iconst hx hb dX4_nth_46 ?_
        refine g_icmp_ne (tgt := 54) hx hb dX4_nth_47 (by decide) (by omega) (by omega) (fun cq3 => ?_) (fun cq3 => ?_)
        · refine g_bipush hx hb dX4_nth_54 (by decide) ?_
          exact g_iret hx hb hr hlocks hQ hG hS (Nat.zero_le _) (Nat.zero_le _) ⟨_, rfl, V1, I1, hM1, hkp1, (⟨by unfold nthL; rw [if_neg (by omega), if_neg (by intro hq; rw [show (1024 : Nat) = sp.toNat by omega] at hq; omega)], fun q h => hrel1.1 q h, hI1⟩)⟩ dX4_nth_56
        · refine lv_iload_n hx hb dX4_nth_50 rfl (lv_at hl 1 rfl) ?_
          refine lv_goto (tgt := 56) hx hb dX4_nth_51 (by decide) ?_
          exact g_iret hx hb hr hlocks hQ hG hS (Nat.zero_le _) (Nat.zero_le _) ⟨_, rfl, V1, I1, hM1, hkp1, (⟨by rw [show i = -1 by omega]; unfold nthL; rw [if_pos rfl, hm, show sp.toNat = 1024 by omega], fun q h => hrel1.1 q h, hI1⟩)⟩ dX4_nth_56
      · refine lv_aload_n hx hb dX4_nth_17 rfl (lv_at hl 2 rfl) ?_
        refine g_get (C := RX4) (T := TX4) (N := 30) (v := .ref (a 3)) hx hb hts hown hK hG hM1.o rfl in_X4 3 (by decide) q1961 rfl rfl dX4_nth_18 ?_
        refine lv_iload hx hb dX4_nth_21 (lv_at hl 0 rfl) ?_
        refine g_iald hx hb hK hG hM1.a3 dX4_nth_23 (by omega) ?_
        refine g_name (fun w9 ew9 => ?_)
        have hw9 : w9 = kepZ (V 0) (sp / 32) (sp % 32) := by rw [ew9]; exact hKp sp (by omega) (by omega)
        have hwr := kepZ_r (V 0) (sp / 32) (sp % 32)
        rw [← hw9] at hwr
        refine lv_iload_n hx hb dX4_nth_24 rfl (lv_at hl 3 rfl) ?_
        refine g_icmp_ne (tgt := 39) hx hb dX4_nth_25 (by decide) (by omega) (by omega) (fun cq4 => ?_) (fun cq4 => ?_)
        · refine g_iinc (lv' := [(4, .int (iI (sp + 1))), (3, .int (iI m9)), (0, .ref o), (1, .int (iI k)), (2, .int (iI i))]) hx hb dX4_nth_39 hl (k := 0) rfl (by decide) rfl (fun ls hl => ?_)
          refine lv_goto (tgt := 9) hx hb dX4_nth_42 (by decide) ?_
          exact ih_9 m9 (sp + 1) (by omega) (by omega) (by rw [show (sp + 1).toNat = sp.toNat + 1 by omega, fibL_n (x := sp / 32) (y := sp % 32) (by omega) (by omega) (by rw [← hw9]; assumption)]; exact hm) (hno)  _ _ _ hG hS (lv_sub hl [0, 1, 2, 3, 4] rfl)
        · refine lv_iload_n hx hb dX4_nth_28 rfl (lv_at hl 1 rfl) ?_
          refine lv_iload_n hx hb dX4_nth_29 rfl (lv_at hl 4 rfl) ?_
          refine g_icmp_ne (tgt := 36) hx hb dX4_nth_30 (by decide) (by omega) (by omega) (fun cq5 => ?_) (fun cq5 => ?_)
          · refine g_iinc (lv' := [(3, .int (iI (m9 + 1))), (4, .int (iI sp)), (0, .ref o), (1, .int (iI k)), (2, .int (iI i))]) hx hb dX4_nth_36 hl (k := 1) rfl (by decide) rfl (fun ls hl => ?_)
            refine g_iinc (lv' := [(4, .int (iI (sp + 1))), (3, .int (iI (m9 + 1))), (0, .ref o), (1, .int (iI k)), (2, .int (iI i))]) hx hb dX4_nth_39 hl (k := 1) rfl (by decide) rfl (fun ls hl => ?_)
            refine lv_goto (tgt := 9) hx hb dX4_nth_42 (by decide) ?_
            exact ih_9 (m9 + 1) (sp + 1) (by omega) (by omega) (by rw [show (sp + 1).toNat = sp.toNat + 1 by omega, fibL_y (x := sp / 32) (y := sp % 32) (by omega) (by omega) (by rw [← hw9]; assumption), List.length_append, hm]; simp) (fun h => by omega)  _ _ _ hG hS (lv_sub hl [0, 1, 2, 3, 4] rfl)
          · refine lv_iload hx hb dX4_nth_33 (lv_at hl 0 rfl) ?_
            exact g_iret hx hb hr hlocks hQ hG hS (Nat.zero_le _) (Nat.zero_le _) ⟨_, rfl, V1, I1, hM1, hkp1, (⟨by
                      have e1 := fibL_y (T := V 0) (k := k) (n := sp.toNat) (x := sp / 32) (y := sp % 32) (by omega) (by omega) (by rw [← hw9]; assumption)
                      have e2 := fibL_pre (V 0) k (n := sp.toNat + 1) (m := 1024) (by omega)
                      rw [e1] at e2
                      rw [nthL_pre e2 (by rw [← hm]; omega)]
                      omega, fun q h => hrel1.1 q h, hI1⟩)⟩ dX4_nth_35
  exact loop_9 _ 0 0 (Nat.lt_succ_self _) (by omega) (rfl) (fun h => h)  _ _ _ hG hS (lv_sub hl [0, 1, 2, 3, 4] rfl)

set_option maxHeartbeats 4000000 in
theorem mX4_fibre (l : Launch) (X : gX) (σ : gS) (o : Nat) (a : Nat → Nat) (V : Nat → Int → Int) (Iv : Nat → Int) (hM : MW X σ o a V Iv) (hT : okT (V 0)) (k : Int) (i : Int)  (h0 : -2147483648 ≤ k ∧ k ≤ 2147483647) (h1 : -2147483648 ≤ i ∧ i ≤ 2147483647) : gMet l X yX4_fibre cX4_fibre 3 (some .int) 5 0 0 115 σ [.ref o, .int (iI k), .int (iI i)] (oI (fun r σ' => ∃ (V' : Nat → Int → Int) (I' : Nat → Int), MW X σ' o a V' I' ∧ gKeep (fun t => t = 10) σ σ' ∧ (r = (if 0 ≤ k ∧ k ≤ 31 then nthL (fibL (V 0) k 1024) i else -1) ∧ (∀ q, q ≠ 3 → V' q = V q) ∧ I' = Iv))) := by
  refine gMet.of (by decide) (Nat.le_of_ble_eq_true rfl) ?_
  intro pp ee ss mm args below meth cd Q H locs ls hargs hx hb hr hlocks hml hown hnm hts hK hG hS hQ hl
  have hown : ss.vm.findClass RX4 = some mm.cls := hown
  have hl : lv_has ls 3 [(0, .ref o), (1, .int (iI k)), (2, .int (iI i))] := hl
  have hkp : gKeep (fun t => t = 10) σ σ := gKeep.rf
  refine lv_iload_n hx hb dX4_fibre_0 rfl (lv_at hl 1 rfl) ?_
  refine g_callS (As := [.int (iI k)]) (rest := []) 1 hx hb hml hown hts hK hG hS hl.1 (mX4_isCoordinate l X σ  k (by omega)) q2075 q2076 q86 q2077 (by decide +kernel) rfl ⟨Nat.le_of_ble_eq_true rfl, Nat.le_of_ble_eq_true rfl⟩ ⟨Nat.le_of_ble_eq_true rfl, Nat.le_of_ble_eq_true rfl⟩ (Nat.le_of_ble_eq_true rfl) dX4_fibre_1 (kI (fun r1 σr1 H locs hp hG hS => ?_))
  obtain ⟨hr1, rfl⟩ := hp
  refine g_if_eq (tgt := 16) hx hb dX4_fibre_4 (by decide) (by omega) (fun cq2 => ?_) (fun cq2 => ?_)
  · refine g_iconst hx hb dX4_fibre_16 ?_
    exact g_iret hx hb hr hlocks hQ hG hS (Nat.zero_le _) (Nat.zero_le _) ⟨_, rfl, V, Iv, hM, hkp, (⟨by rw [if_neg (by omega)], fun q h => rfl, rfl⟩)⟩ dX4_fibre_17
  · refine lv_aload_n hx hb dX4_fibre_7 rfl (lv_at hl 0 rfl) ?_
    refine lv_iload_n hx hb dX4_fibre_8 rfl (lv_at hl 1 rfl) ?_
    refine lv_iload_n hx hb dX4_fibre_9 rfl (lv_at hl 2 rfl) ?_
    refine g_callV (As := [.int (iI k), .int (iI i)]) (rest := []) 2 hx hb hml hown hts hK hG hS hl.1 (mX4_nth l X σ o a V Iv hM hT k i (by omega) (by omega)) hM.o rfl q2150 q2152 qs53 q86 q2153 (by decide +kernel) rfl ⟨Nat.le_of_ble_eq_true rfl, Nat.le_of_ble_eq_true rfl⟩ ⟨Nat.le_of_ble_eq_true rfl, Nat.le_of_ble_eq_true rfl⟩ (Nat.le_of_ble_eq_true rfl) dX4_fibre_10 (kI (fun r3 σr3 H locs hp hG hS => ?_))
    obtain ⟨V3, I3, hM3, kp3, hrel3⟩ := hp
    have hkp3 := hkp.tr kp3
    refine lv_goto (tgt := 17) hx hb dX4_fibre_13 (by decide) ?_
    exact g_iret hx hb hr hlocks hQ hG hS (Nat.zero_le _) (Nat.zero_le _) ⟨_, rfl, V3, I3, hM3, hkp3, (⟨by rw [if_pos (by omega)]; exact hrel3.1, hrel3.2⟩)⟩ dX4_fibre_17

set_option maxHeartbeats 4000000 in
theorem mX4_base (l : Launch) (X : gX) (σ : gS) (o : Nat) (a : Nat → Nat) (V : Nat → Int → Int) (Iv : Nat → Int) (hM : MW X σ o a V Iv) (hT : okT (V 0)) (i : Int)  (h0 : -2147483648 ≤ i ∧ i ≤ 2147483647) : gMet l X yX4_base cX4_base 2 (some .int) 5 0 0 115 σ [.ref o, .int (iI i)] (oI (fun r σ' => ∃ (V' : Nat → Int → Int) (I' : Nat → Int), MW X σ' o a V' I' ∧ gKeep (fun t => t = 10) σ σ' ∧ (r = nthL (fibL (V 0) (-6) 1024) i ∧ (∀ q, q ≠ 3 → V' q = V q) ∧ I' = Iv))) := by
  refine gMet.of (by decide) (Nat.le_of_ble_eq_true rfl) ?_
  intro pp ee ss mm args below meth cd Q H locs ls hargs hx hb hr hlocks hml hown hnm hts hK hG hS hQ hl
  have hown : ss.vm.findClass RX4 = some mm.cls := hown
  have hl : lv_has ls 2 [(0, .ref o), (1, .int (iI i))] := hl
  have hkp : gKeep (fun t => t = 10) σ σ := gKeep.rf
  refine lv_aload_n hx hb dX4_base_0 rfl (lv_at hl 0 rfl) ?_
  refine g_bipush hx hb dX4_base_1 (by decide) ?_
  refine lv_iload_n hx hb dX4_base_3 rfl (lv_at hl 1 rfl) ?_
  refine g_callV (As := [.int (iI (-6)), .int (iI i)]) (rest := []) 2 hx hb hml hown hts hK hG hS hl.1 (mX4_nth l X σ o a V Iv hM hT (-6) i (by omega) (by omega)) hM.o rfl q2150 q2152 qs53 q86 q2153 (by decide +kernel) rfl ⟨Nat.le_of_ble_eq_true rfl, Nat.le_of_ble_eq_true rfl⟩ ⟨Nat.le_of_ble_eq_true rfl, Nat.le_of_ble_eq_true rfl⟩ (Nat.le_of_ble_eq_true rfl) dX4_base_4 (kI (fun r1 σr1 H locs hp hG hS => ?_))
  obtain ⟨V1, I1, hM1, kp1, hrel1⟩ := hp
  have hkp1 := hkp.tr kp1
  exact g_iret hx hb hr hlocks hQ hG hS (Nat.zero_le _) (Nat.zero_le _) ⟨_, rfl, V1, I1, hM1, hkp1, (hrel1)⟩ dX4_base_7
