set_option maxHeartbeats 4000000 in
theorem mX0_of (l : Launch) (X : gX) (σ : gS) (b : Nat → Nat) (U : Nat → Int → Int) (J : Nat → Int) (R : Int → Option Nat) (hX : XW X σ b U J R) (hT : okT (U 20)) (t : Int) (i : Int) (j : Int) (h0 : -2147483648 ≤ t ∧ t ≤ 2147483647) (h1 : -2147483648 ≤ i ∧ i ≤ 2147483647) (h2 : -2147483648 ≤ j ∧ j ≤ 2147483647) : gMet l X yX0_of cX0_of 4 (some .int) 3 0 0 67 σ [.ref (b 0), .int (iI t), .int (iI i), .int (iI j)] (oI (fun r σ' => r = (if (0 ≤ t ∧ t ≤ 1) ∧ (0 ≤ i ∧ i ≤ 2) ∧ (0 ≤ j ∧ j ≤ 2) then U 20 (9 * t + 3 * i + j) else -1) ∧ σ = σ')) := by
  refine gMet.of (by decide) (Nat.le_of_ble_eq_true rfl) ?_
  intro pp ee ss mm args below meth cd Q H locs ls hargs hx hb hr hlocks hml hown hnm hts hK hG hS hQ hl
  have hown : ss.vm.findClass RX0 = some mm.cls := hown
  have hl : lv_has ls 4 [(0, .ref (b 0)), (1, .int (iI t)), (2, .int (iI i)), (3, .int (iI j))] := hl
  refine lv_iload_n hx hb dX0_of_0 rfl (lv_at hl 1 rfl) ?_
  refine lv_iload_n hx hb dX0_of_1 rfl (lv_at hl 2 rfl) ?_
  refine lv_iload_n hx hb dX0_of_2 rfl (lv_at hl 3 rfl) ?_
  refine g_callS (As := [.int (iI t), .int (iI i), .int (iI j)]) (rest := []) 3 hx hb hml hown hts hK hG hS hl.1 (mX0_isCell l X σ  t i j (by omega) (by omega) (by omega)) q488 q489 q69 q490 (by decide +kernel) rfl ⟨Nat.le_of_ble_eq_true rfl, Nat.le_of_ble_eq_true rfl⟩ ⟨Nat.le_of_ble_eq_true rfl, Nat.le_of_ble_eq_true rfl⟩ (Nat.le_of_ble_eq_true rfl) dX0_of_3 (kI (fun r1 σr1 H locs hp hG hS => ?_))
  obtain ⟨hr1, rfl⟩ := hp
  refine g_if_eq (tgt := 26) hx hb dX0_of_6 (by decide) (by omega) (fun cq2 => ?_) (fun cq2 => ?_)
  · refine g_iconst hx hb dX0_of_26 ?_
    exact g_iret hx hb hr hlocks hQ hG hS (Nat.zero_le _) (Nat.zero_le _) ⟨_, rfl, (by rw [if_neg (by omega)]), rfl⟩ dX0_of_27
  · refine lv_aload_n hx hb dX0_of_9 rfl (lv_at hl 0 rfl) ?_
    refine g_get (C := RX0) (T := TX0) (N := 20) (v := .ref (b 1)) hx hb hts hown hK hG hX.c0 rfl in_X0 0 (by decide) q420 rfl rfl dX0_of_10 ?_
    refine g_getN (C := RX1) (T := TX1) (N := 4) (v := .ref (b 20)) hx hb hts hown hK hG hX.c1 rfl in_X1 0 (by decide) q187 rfl rfl dX0_of_13 ?_
    refine lv_iload_n hx hb dX0_of_16 rfl (lv_at hl 1 rfl) ?_
    refine lv_iload_n hx hb dX0_of_17 rfl (lv_at hl 2 rfl) ?_
    refine lv_iload_n hx hb dX0_of_18 rfl (lv_at hl 3 rfl) ?_
    refine g_callS (As := [.int (iI t), .int (iI i), .int (iI j)]) (rest := [.ref (b 20)]) 3 hx hb hml hown hts hK hG hS hl.1 (mX0_cell l X σ  t i j (by omega) (by omega) (by omega)) q370 q371 q69 q372 (by decide +kernel) rfl ⟨Nat.le_of_ble_eq_true rfl, Nat.le_of_ble_eq_true rfl⟩ ⟨Nat.le_of_ble_eq_true rfl, Nat.le_of_ble_eq_true rfl⟩ (Nat.le_of_ble_eq_true rfl) dX0_of_19 (kI (fun r3 σr3 H locs hp hG hS => ?_))
    obtain ⟨hr3, rfl⟩ := hp
    refine g_iald hx hb hK hG hX.c20 dX0_of_22 (by omega) ?_
    refine lv_goto (tgt := 27) hx hb dX0_of_23 (by decide) ?_
    exact g_iret hx hb hr hlocks hQ hG hS (Nat.zero_le _) (Nat.zero_le _) ⟨_, rfl, (by rw [if_pos (by omega)]; simp only [*]), rfl⟩ dX0_of_27

set_option maxHeartbeats 4000000 in
theorem mX0_set (l : Launch) (X : gX) (σ : gS) (b : Nat → Nat) (U : Nat → Int → Int) (J : Nat → Int) (R : Int → Option Nat) (hX : XW X σ b U J R) (hT : okT (U 20)) (t : Int) (i : Int) (j : Int) (v : Int) (h0 : -2147483648 ≤ t ∧ t ≤ 2147483647) (h1 : -2147483648 ≤ i ∧ i ≤ 2147483647) (h2 : -2147483648 ≤ j ∧ j ≤ 2147483647) (h3 : -2147483648 ≤ v ∧ v ≤ 2147483647) : gMet l X yX0_set cX0_set 6 (some .int) 3 0 0 67 σ [.ref (b 0), .int (iI t), .int (iI i), .int (iI j), .int (iI v)] (oI (fun r σ' => ∃ (U' : Nat → Int → Int) (J' : Nat → Int), XW X σ' b U' J' R ∧ gKeep (fun t => t = 1) σ σ' ∧ okT (U' 20) ∧ (r = (if (0 ≤ t ∧ t ≤ 1) ∧ (0 ≤ i ∧ i ≤ 2) ∧ (0 ≤ j ∧ j ≤ 2) then (if 0 ≤ v ∧ v ≤ 30 then U 20 (9 * t + 3 * i + j) else -2) else -1) ∧ ((((0 ≤ t ∧ t ≤ 1) ∧ (0 ≤ i ∧ i ≤ 2) ∧ (0 ≤ j ∧ j ≤ 2)) ∧ (0 ≤ v ∧ v ≤ 30)) ∧ U' = va_up U 20 (iup (U 20) (9 * t + 3 * i + j) v) ∧ J' = J ∨ ¬ (((0 ≤ t ∧ t ≤ 1) ∧ (0 ≤ i ∧ i ≤ 2) ∧ (0 ≤ j ∧ j ≤ 2)) ∧ (0 ≤ v ∧ v ≤ 30)) ∧ U' = U ∧ J' = J)))) := by
  refine gMet.of (by decide) (Nat.le_of_ble_eq_true rfl) ?_
  intro pp ee ss mm args below meth cd Q H locs ls hargs hx hb hr hlocks hml hown hnm hts hK hG hS hQ hl
  have hown : ss.vm.findClass RX0 = some mm.cls := hown
  have hl : lv_has ls 6 [(0, .ref (b 0)), (1, .int (iI t)), (2, .int (iI i)), (3, .int (iI j)), (4, .int (iI v))] := hl
  have hkp : gKeep (fun t => t = 1) σ σ := gKeep.rf
  refine lv_iload_n hx hb dX0_set_0 rfl (lv_at hl 1 rfl) ?_
  refine lv_iload_n hx hb dX0_set_1 rfl (lv_at hl 2 rfl) ?_
  refine lv_iload_n hx hb dX0_set_2 rfl (lv_at hl 3 rfl) ?_
  refine g_callS (As := [.int (iI t), .int (iI i), .int (iI j)]) (rest := []) 3 hx hb hml hown hts hK hG hS hl.1 (mX0_isCell l X σ  t i j (by omega) (by omega) (by omega)) q488 q489 q69 q490 (by decide +kernel) rfl ⟨Nat.le_of_ble_eq_true rfl, Nat.le_of_ble_eq_true rfl⟩ ⟨Nat.le_of_ble_eq_true rfl, Nat.le_of_ble_eq_true rfl⟩ (Nat.le_of_ble_eq_true rfl) dX0_set_3 (kI (fun r1 σr1 H locs hp hG hS => ?_))
  obtain ⟨hr1, rfl⟩ := hp
  refine g_if_ne (tgt := 11) hx hb dX0_set_6 (by decide) (by omega) (fun cq2 => ?_) (fun cq2 => ?_)
  · refine lv_iload hx hb dX0_set_11 (lv_at hl 4 rfl) ?_
    refine g_callS (As := [.int (iI v)]) (rest := []) 1 hx hb hml hown hts hK hG hS hl.1 (mX0_isNumber l X σ  v (by omega)) q501 q502 q69 q503 (by decide +kernel) rfl ⟨Nat.le_of_ble_eq_true rfl, Nat.le_of_ble_eq_true rfl⟩ ⟨Nat.le_of_ble_eq_true rfl, Nat.le_of_ble_eq_true rfl⟩ (Nat.le_of_ble_eq_true rfl) dX0_set_13 (kI (fun r3 σr3 H locs hp hG hS => ?_))
    obtain ⟨hr3, rfl⟩ := hp
    refine g_if_ne (tgt := 22) hx hb dX0_set_16 (by decide) (by omega) (fun cq4 => ?_) (fun cq4 => ?_)
    · refine lv_aload_n hx hb dX0_set_22 rfl (lv_at hl 0 rfl) ?_
      refine g_get (C := RX0) (T := TX0) (N := 20) (v := .ref (b 1)) hx hb hts hown hK hG hX.c0 rfl in_X0 0 (by decide) q420 rfl rfl dX0_set_23 ?_
      refine g_getN (C := RX1) (T := TX1) (N := 4) (v := .ref (b 20)) hx hb hts hown hK hG hX.c1 rfl in_X1 0 (by decide) q187 rfl rfl dX0_set_26 ?_
      refine lv_iload_n hx hb dX0_set_29 rfl (lv_at hl 1 rfl) ?_
      refine lv_iload_n hx hb dX0_set_30 rfl (lv_at hl 2 rfl) ?_
      refine lv_iload_n hx hb dX0_set_31 rfl (lv_at hl 3 rfl) ?_
      refine g_callS (As := [.int (iI t), .int (iI i), .int (iI j)]) (rest := [.ref (b 20)]) 3 hx hb hml hown hts hK hG hS hl.1 (mX0_cell l X σ  t i j (by omega) (by omega) (by omega)) q370 q371 q69 q372 (by decide +kernel) rfl ⟨Nat.le_of_ble_eq_true rfl, Nat.le_of_ble_eq_true rfl⟩ ⟨Nat.le_of_ble_eq_true rfl, Nat.le_of_ble_eq_true rfl⟩ (Nat.le_of_ble_eq_true rfl) dX0_set_32 (kI (fun r5 σr5 H locs hp hG hS => ?_))
      obtain ⟨hr5, rfl⟩ := hp
      refine g_iald hx hb hK hG hX.c20 dX0_set_35 (by omega) ?_
      refine lv_istore (lv' := [(5, .int (iI ((U 20) r5))), (0, .ref (b 0)), (1, .int (iI t)), (2, .int (iI i)), (3, .int (iI j)), (4, .int (iI v))]) hx hb dX0_set_36 hl (by decide) rfl (fun ls hl => ?_)
      refine lv_aload_n hx hb dX0_set_38 rfl (lv_at hl 1 rfl) ?_
      refine g_get (C := RX0) (T := TX0) (N := 20) (v := .ref (b 1)) hx hb hts hown hK hG hX.c0 rfl in_X0 0 (by decide) q420 rfl rfl dX0_set_39 ?_
      refine g_getN (C := RX1) (T := TX1) (N := 4) (v := .ref (b 20)) hx hb hts hown hK hG hX.c1 rfl in_X1 0 (by decide) q187 rfl rfl dX0_set_42 ?_
      refine lv_iload_n hx hb dX0_set_45 rfl (lv_at hl 2 rfl) ?_
      refine lv_iload_n hx hb dX0_set_46 rfl (lv_at hl 3 rfl) ?_
      refine lv_iload_n hx hb dX0_set_47 rfl (lv_at hl 4 rfl) ?_
      refine g_callS (As := [.int (iI t), .int (iI i), .int (iI j)]) (rest := [.ref (b 20)]) 3 hx hb hml hown hts hK hG hS hl.1 (mX0_cell l X σ  t i j (by omega) (by omega) (by omega)) q370 q371 q69 q372 (by decide +kernel) rfl ⟨Nat.le_of_ble_eq_true rfl, Nat.le_of_ble_eq_true rfl⟩ ⟨Nat.le_of_ble_eq_true rfl, Nat.le_of_ble_eq_true rfl⟩ (Nat.le_of_ble_eq_true rfl) dX0_set_48 (kI (fun r6 σr6 H locs hp hG hS => ?_))
      obtain ⟨hr6, rfl⟩ := hp
      refine lv_iload hx hb dX0_set_51 (lv_at hl 5 rfl) ?_
      refine g_iast hx hb hK hG hS hX.c20 dX0_set_53 (by omega) (fun H locs hG hS => ?_)
      obtain ⟨U7, eU7⟩ : ∃ z : Nat → Int → Int, z = va_up U 20 (iup (U 20) r6 v) := ⟨_, rfl⟩
      have u20_7 : U7 20 = (iup (U 20) r6 v) := by rw [eU7, va_up_self]
      have fU7 : ∀ j, j ≠ 20 → U7 j = U j := fun j hj => by rw [eU7, va_up_ne _ _ hj]
      have hX7 : XW X (gup σ (b 20) (1, gI (X.2.1 0) 18 (iup (U 20) r6 v))) b U7 J R := by rw [eU7]; exact hX.set 20 rfl (iup (U 20) r6 v)
      have hkp7 : gKeep (fun t => t = 1) σ (gup σ (b 20) (1, gI (X.2.1 0) 18 (iup (U 20) r6 v))) := hkp.tr (gKeep.up hX.c20 rfl)
      have hT7 : okT (U7 20) := by rw [u20_7]; exact okT_up hT _ _ (by omega)
      generalize (gup σ (b 20) (1, gI (X.2.1 0) 18 (iup (U 20) r6 v))) = σ7 at hG hX7 hkp7
      refine lv_iload hx hb dX0_set_54 (lv_at hl 0 rfl) ?_
      exact g_iret hx hb hr hlocks hQ hG hS (Nat.zero_le _) (Nat.zero_le _) ⟨_, rfl, U7, J, hX7, hkp7, hT7, (⟨by rw [if_pos (by omega), if_pos (by omega)]; simp only [*], Or.inl ⟨by omega, by rw [eU7]; simp only [*], rfl⟩⟩)⟩ dX0_set_56
    · refine g_bipush hx hb dX0_set_19 (by decide) ?_
      exact g_iret hx hb hr hlocks hQ hG hS (Nat.zero_le _) (Nat.zero_le _) ⟨_, rfl, U, J, hX, hkp, hT, (⟨by repeat (first | rw [if_pos (by omega)] | rw [if_neg (by omega)]), Or.inr ⟨by omega, rfl, rfl⟩⟩)⟩ dX0_set_21
  · refine g_iconst hx hb dX0_set_9 ?_
    exact g_iret hx hb hr hlocks hQ hG hS (Nat.zero_le _) (Nat.zero_le _) ⟨_, rfl, U, J, hX, hkp, hT, (⟨by repeat (first | rw [if_pos (by omega)] | rw [if_neg (by omega)]), Or.inr ⟨by omega, rfl, rfl⟩⟩)⟩ dX0_set_10

theorem mX0_isSo (l : Launch) (X : gX) (σ : gS)  (w9 : Int) (v : Int) (h0 : -2147483648 ≤ w9 ∧ w9 ≤ 2147483647) (h1 : -2147483648 ≤ v ∧ v ≤ 2147483647) (h2 : 0 ≤ w9 ∧ w9 ≤ 3) : gMet l X yX0_isSo cX0_isSo 2 (some .boolean) 2 0 0 45 σ [.int (iI w9), .int (iI v)] (oI (fun r σ' => ((r = 1 ∧ ((w9 < 2 → 1 ≤ v ∧ v ≤ 9) ∧ (w9 = 2 → 0 ≤ v ∧ v ≤ 1))) ∨ (r = 0 ∧ ¬ ((w9 < 2 → 1 ≤ v ∧ v ≤ 9) ∧ (w9 = 2 → 0 ≤ v ∧ v ≤ 1)))) ∧ σ = σ')) := by
  refine gMet.of (by decide) (Nat.le_of_ble_eq_true rfl) ?_
  intro pp ee ss mm args below meth cd Q H locs ls hargs hx hb hr hlocks hml hown hnm hts hK hG hS hQ hl
  have hown : ss.vm.findClass RX0 = some mm.cls := hown
  have hl : lv_has ls 2 [(0, .int (iI w9)), (1, .int (iI v))] := hl
  refine lv_iload_n hx hb dX0_isSo_0 rfl (lv_at hl 0 rfl) ?_
  refine g_iconst hx hb dX0_isSo_1 ?_
  refine g_icmp_eq (tgt := 32) hx hb dX0_isSo_2 (by decide) (by omega) (by omega) (fun cq1 => ?_) (fun cq1 => ?_)
  · refine g_iconst hx hb dX0_isSo_32 ?_
    refine lv_goto (tgt := 37) hx hb dX0_isSo_33 (by decide) ?_
    exact g_zret hx hb hr hlocks hQ hG hS (Nat.zero_le _) (Nat.zero_le _) (gnz (by omega)) ⟨_, rfl, (by omega), rfl⟩ dX0_isSo_37
  · refine lv_iload_n hx hb dX0_isSo_5 rfl (lv_at hl 0 rfl) ?_
    refine g_iconst hx hb dX0_isSo_6 ?_
    refine g_icmp_ne (tgt := 20) hx hb dX0_isSo_7 (by decide) (by omega) (by omega) (fun cq2 => ?_) (fun cq2 => ?_)
    · refine lv_iload_n hx hb dX0_isSo_20 rfl (lv_at hl 1 rfl) ?_
      refine g_i2l hx hb dX0_isSo_21 (by omega) ?_
      refine lv_lconst (v := lI 1) hx hb dX0_isSo_22 (by decide) ?_
      refine g_ldc2 hx hb (9) hown (hts _ q1628) (by decide) dX0_isSo_23 ?_
      refine g_callS (As := [.long (lI v), .long (lI 1), .long (lI (9))]) (rest := []) 3 hx hb hml hown hts hK hG hS hl.1 (mX0_isIn l X σ  v 1 (9) (by omega) (by omega) (by omega)) q494 q495 q69 q496 (by decide +kernel) rfl ⟨Nat.le_of_ble_eq_true rfl, Nat.le_of_ble_eq_true rfl⟩ ⟨Nat.le_of_ble_eq_true rfl, Nat.le_of_ble_eq_true rfl⟩ (Nat.le_of_ble_eq_true rfl) dX0_isSo_26 (kI (fun r3 σr3 H locs hp hG hS => ?_))
      obtain ⟨hr3, rfl⟩ := hp
      refine g_if_eq (tgt := 36) hx hb dX0_isSo_29 (by decide) (by omega) (fun cq4 => ?_) (fun cq4 => ?_)
      · refine g_iconst hx hb dX0_isSo_36 ?_
        exact g_zret hx hb hr hlocks hQ hG hS (Nat.zero_le _) (Nat.zero_le _) (gnz (by omega)) ⟨_, rfl, (by omega), rfl⟩ dX0_isSo_37
      · refine g_iconst hx hb dX0_isSo_32 ?_
        refine lv_goto (tgt := 37) hx hb dX0_isSo_33 (by decide) ?_
        exact g_zret hx hb hr hlocks hQ hG hS (Nat.zero_le _) (Nat.zero_le _) (gnz (by omega)) ⟨_, rfl, (by omega), rfl⟩ dX0_isSo_37
    · refine lv_iload_n hx hb dX0_isSo_10 rfl (lv_at hl 1 rfl) ?_
      refine g_callS (As := [.int (iI v)]) (rest := []) 1 hx hb hml hown hts hK hG hS hl.1 (mX0_isWhich l X σ  v (by omega)) q614 q615 q69 q616 (by decide +kernel) rfl ⟨Nat.le_of_ble_eq_true rfl, Nat.le_of_ble_eq_true rfl⟩ ⟨Nat.le_of_ble_eq_true rfl, Nat.le_of_ble_eq_true rfl⟩ (Nat.le_of_ble_eq_true rfl) dX0_isSo_11 (kI (fun r5 σr5 H locs hp hG hS => ?_))
      obtain ⟨hr5, rfl⟩ := hp
      refine g_if_eq (tgt := 36) hx hb dX0_isSo_14 (by decide) (by omega) (fun cq6 => ?_) (fun cq6 => ?_)
      · refine g_iconst hx hb dX0_isSo_36 ?_
        exact g_zret hx hb hr hlocks hQ hG hS (Nat.zero_le _) (Nat.zero_le _) (gnz (by omega)) ⟨_, rfl, (by omega), rfl⟩ dX0_isSo_37
      · refine lv_goto (tgt := 32) hx hb dX0_isSo_17 (by decide) ?_
        refine g_iconst hx hb dX0_isSo_32 ?_
        refine lv_goto (tgt := 37) hx hb dX0_isSo_33 (by decide) ?_
        exact g_zret hx hb hr hlocks hQ hG hS (Nat.zero_le _) (Nat.zero_le _) (gnz (by omega)) ⟨_, rfl, (by omega), rfl⟩ dX0_isSo_37
