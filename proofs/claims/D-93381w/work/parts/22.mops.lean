set_option maxHeartbeats 4000000 in
theorem mX4_told (l : Launch) (X : gX) (σ : gS) (o : Nat) (a : Nat → Nat) (V : Nat → Int → Int) (Iv : Nat → Int) (hM : MW X σ o a V Iv) (hT : okT (V 0)) (i : Int) (h0 : (0 ≤ V 0 18 ∧ V 0 18 ≤ 12)) (h1 : -2147483648 ≤ i ∧ i ≤ 2147483647) : gMet l X yX4_told cX4_told 2 (some .int) 1 0 0 25 σ [.ref o, .int (iI i)] (oI (fun r σ' => r = (if 0 ≤ i ∧ i < V 0 18 then V 0 (19 + i) else -5) ∧ σ = σ')) := by
  refine gMet.of (by decide) (Nat.le_of_ble_eq_true rfl) ?_
  intro pp ee ss mm args below meth cd Q H locs ls hargs hx hb hr hlocks hml hown hnm hts hK hG hS hQ hl
  have hown : ss.vm.findClass RX4 = some mm.cls := hown
  have hl : lv_has ls 2 [(0, .ref o), (1, .int (iI i))] := hl
  refine lv_iload_n hx hb dX4_told_0 rfl (lv_at hl 1 rfl) ?_
  refine g_i2l hx hb dX4_told_1 (by omega) ?_
  refine lv_lconst (v := lI 0) hx hb dX4_told_2 (by decide) ?_
  refine lv_aload_n hx hb dX4_told_3 rfl (lv_at hl 0 rfl) ?_
  refine g_get (C := RX4) (T := TX4) (N := 30) (v := .ref (a 0)) hx hb hts hown hK hG hM.o rfl in_X4 0 (by decide) q1958 rfl rfl dX4_told_4 ?_
  refine g_bipush hx hb dX4_told_7 (by decide) ?_
  refine g_iald hx hb hK hG hM.a0 dX4_told_9 (by omega) ?_
  refine g_iconst hx hb dX4_told_10 ?_
  refine g_isub hx hb dX4_told_11 ?_
  refine g_i2l hx hb dX4_told_12 (by omega) ?_
  refine g_callS (As := [.long (lI i), .long (lI 0), .long (lI (((V 0) 18) - 1))]) (rest := []) 3 hx hb hml hown hts hK hG hS hl.1 (mX4_in l X σ  i 0 (((V 0) 18) - 1) (by omega) (by omega) (by omega)) q2056 q2057 q86 q2058 (by decide +kernel) rfl ⟨Nat.le_of_ble_eq_true rfl, Nat.le_of_ble_eq_true rfl⟩ ⟨Nat.le_of_ble_eq_true rfl, Nat.le_of_ble_eq_true rfl⟩ (Nat.le_of_ble_eq_true rfl) dX4_told_13 (kI (fun r1 σr1 H locs hp hG hS => ?_))
  obtain ⟨hr1, rfl⟩ := hp
  refine g_if_eq (tgt := 31) hx hb dX4_told_16 (by decide) (by omega) (fun cq2 => ?_) (fun cq2 => ?_)
  · refine g_bipush hx hb dX4_told_31 (by decide) ?_
    exact g_iret hx hb hr hlocks hQ hG hS (Nat.zero_le _) (Nat.zero_le _) ⟨_, rfl, (by repeat (first | rw [if_pos (by omega)] | rw [if_neg (by omega)])), rfl⟩ dX4_told_33
  · refine lv_aload_n hx hb dX4_told_19 rfl (lv_at hl 0 rfl) ?_
    refine g_get (C := RX4) (T := TX4) (N := 30) (v := .ref (a 0)) hx hb hts hown hK hG hM.o rfl in_X4 0 (by decide) q1958 rfl rfl dX4_told_20 ?_
    refine g_bipush hx hb dX4_told_23 (by decide) ?_
    refine lv_iload_n hx hb dX4_told_25 rfl (lv_at hl 1 rfl) ?_
    refine g_iadd hx hb dX4_told_26 ?_
    refine g_iald hx hb hK hG hM.a0 dX4_told_27 (by omega) ?_
    refine lv_goto (tgt := 33) hx hb dX4_told_28 (by decide) ?_
    exact g_iret hx hb hr hlocks hQ hG hS (Nat.zero_le _) (Nat.zero_le _) ⟨_, rfl, (by repeat (first | rw [if_pos (by omega)] | rw [if_neg (by omega)])), rfl⟩ dX4_told_33

set_option maxHeartbeats 4000000 in
theorem mX4_set (l : Launch) (X : gX) (σ : gS) (o : Nat) (a : Nat → Nat) (V : Nat → Int → Int) (Iv : Nat → Int) (hM : MW X σ o a V Iv) (hT : okT (V 0)) (t : Int) (i : Int) (j : Int) (v : Int)  (h0 : -2147483648 ≤ t ∧ t ≤ 2147483647) (h1 : -2147483648 ≤ i ∧ i ≤ 2147483647) (h2 : -2147483648 ≤ j ∧ j ≤ 2147483647) (h3 : -2147483648 ≤ v ∧ v ≤ 2147483647) : gMet l X yX4_set cX4_set 7 (some .int) 2 0 0 47 σ [.ref o, .int (iI t), .int (iI i), .int (iI j), .int (iI v)] (oI (fun r σ' => ∃ (V' : Nat → Int → Int) (I' : Nat → Int), MW X σ' o a V' I' ∧ gKeep (fun t => t = 10) σ σ' ∧ (r = (if (0 ≤ t ∧ t ≤ 1) ∧ (0 ≤ i ∧ i ≤ 2) ∧ (0 ≤ j ∧ j ≤ 2) then (if 0 ≤ v ∧ v ≤ 30 then V 0 (9 * t + 3 * i + j) else -2) else -1) ∧ ((((0 ≤ t ∧ t ≤ 1) ∧ (0 ≤ i ∧ i ≤ 2) ∧ (0 ≤ j ∧ j ≤ 2)) ∧ (0 ≤ v ∧ v ≤ 30)) ∧ V' = va_up V 0 (iup (V 0) (9 * t + 3 * i + j) v) ∧ I' = Iv ∨ ¬ (((0 ≤ t ∧ t ≤ 1) ∧ (0 ≤ i ∧ i ≤ 2) ∧ (0 ≤ j ∧ j ≤ 2)) ∧ (0 ≤ v ∧ v ≤ 30)) ∧ V' = V ∧ I' = Iv)))) := by
  refine gMet.of (by decide) (Nat.le_of_ble_eq_true rfl) ?_
  intro pp ee ss mm args below meth cd Q H locs ls hargs hx hb hr hlocks hml hown hnm hts hK hG hS hQ hl
  have hown : ss.vm.findClass RX4 = some mm.cls := hown
  have hl : lv_has ls 7 [(0, .ref o), (1, .int (iI t)), (2, .int (iI i)), (3, .int (iI j)), (4, .int (iI v))] := hl
  have hkp : gKeep (fun t => t = 10) σ σ := gKeep.rf
  refine lv_iload_n hx hb dX4_set_0 rfl (lv_at hl 1 rfl) ?_
  refine lv_iload_n hx hb dX4_set_1 rfl (lv_at hl 2 rfl) ?_
  refine lv_iload_n hx hb dX4_set_2 rfl (lv_at hl 3 rfl) ?_
  refine g_callS (As := [.int (iI t), .int (iI i), .int (iI j)]) (rest := []) 3 hx hb hml hown hts hK hG hS hl.1 (mX4_isPlace l X σ  t i j (by omega) (by omega) (by omega)) q2053 q2054 q86 q2055 (by decide +kernel) rfl ⟨Nat.le_of_ble_eq_true rfl, Nat.le_of_ble_eq_true rfl⟩ ⟨Nat.le_of_ble_eq_true rfl, Nat.le_of_ble_eq_true rfl⟩ (Nat.le_of_ble_eq_true rfl) dX4_set_3 (kI (fun r1 σr1 H locs hp hG hS => ?_))
  obtain ⟨hr1, rfl⟩ := hp
  refine g_if_ne (tgt := 11) hx hb dX4_set_6 (by decide) (by omega) (fun cq2 => ?_) (fun cq2 => ?_)
  · refine lv_iload hx hb dX4_set_11 (lv_at hl 4 rfl) ?_
    refine g_i2l hx hb dX4_set_13 (by omega) ?_
    refine lv_lconst (v := lI 0) hx hb dX4_set_14 (by decide) ?_
    refine g_ldc2 hx hb (30) hown (hts _ q2060) (by decide) dX4_set_15 ?_
    refine g_callS (As := [.long (lI v), .long (lI 0), .long (lI (30))]) (rest := []) 3 hx hb hml hown hts hK hG hS hl.1 (mX4_in l X σ  v 0 (30) (by omega) (by omega) (by omega)) q2056 q2057 q86 q2058 (by decide +kernel) rfl ⟨Nat.le_of_ble_eq_true rfl, Nat.le_of_ble_eq_true rfl⟩ ⟨Nat.le_of_ble_eq_true rfl, Nat.le_of_ble_eq_true rfl⟩ (Nat.le_of_ble_eq_true rfl) dX4_set_18 (kI (fun r3 σr3 H locs hp hG hS => ?_))
    obtain ⟨hr3, rfl⟩ := hp
    refine g_if_ne (tgt := 27) hx hb dX4_set_21 (by decide) (by omega) (fun cq4 => ?_) (fun cq4 => ?_)
    · refine lv_iload_n hx hb dX4_set_27 rfl (lv_at hl 1 rfl) ?_
      refine lv_iload_n hx hb dX4_set_28 rfl (lv_at hl 2 rfl) ?_
      refine lv_iload_n hx hb dX4_set_29 rfl (lv_at hl 3 rfl) ?_
      refine g_callS (As := [.int (iI t), .int (iI i), .int (iI j)]) (rest := []) 3 hx hb hml hown hts hK hG hS hl.1 (mX4_placeOf l X σ  t i j (by omega) (by omega) (by omega)) q2061 q2062 q86 q2063 (by decide +kernel) rfl ⟨Nat.le_of_ble_eq_true rfl, Nat.le_of_ble_eq_true rfl⟩ ⟨Nat.le_of_ble_eq_true rfl, Nat.le_of_ble_eq_true rfl⟩ (Nat.le_of_ble_eq_true rfl) dX4_set_30 (kI (fun r5 σr5 H locs hp hG hS => ?_))
      obtain ⟨hr5, rfl⟩ := hp
      refine lv_istore (lv' := [(5, .int (iI r5)), (0, .ref o), (1, .int (iI t)), (2, .int (iI i)), (3, .int (iI j)), (4, .int (iI v))]) hx hb dX4_set_33 hl (by decide) rfl (fun ls hl => ?_)
      refine lv_aload_n hx hb dX4_set_35 rfl (lv_at hl 1 rfl) ?_
      refine g_get (C := RX4) (T := TX4) (N := 30) (v := .ref (a 0)) hx hb hts hown hK hG hM.o rfl in_X4 0 (by decide) q1958 rfl rfl dX4_set_36 ?_
      refine lv_iload hx hb dX4_set_39 (lv_at hl 0 rfl) ?_
      refine g_iald hx hb hK hG hM.a0 dX4_set_41 (by omega) ?_
      refine lv_istore (lv' := [(6, .int (iI ((V 0) r5))), (5, .int (iI r5)), (0, .ref o), (1, .int (iI t)), (2, .int (iI i)), (3, .int (iI j)), (4, .int (iI v))]) hx hb dX4_set_42 hl (by decide) rfl (fun ls hl => ?_)
      refine lv_aload_n hx hb dX4_set_44 rfl (lv_at hl 2 rfl) ?_
      refine g_get (C := RX4) (T := TX4) (N := 30) (v := .ref (a 0)) hx hb hts hown hK hG hM.o rfl in_X4 0 (by decide) q1958 rfl rfl dX4_set_45 ?_
      refine lv_iload hx hb dX4_set_48 (lv_at hl 1 rfl) ?_
      refine lv_iload hx hb dX4_set_50 (lv_at hl 6 rfl) ?_
      refine g_iast hx hb hK hG hS hM.a0 dX4_set_52 (by omega) (fun H locs hG hS => ?_)
      obtain ⟨V6, eV6⟩ : ∃ J : Nat → Int → Int, J = va_up V 0 (iup (V 0) r5 v) := ⟨_, rfl⟩
      have v0_6 : V6 0 = (iup (V 0) r5 v) := by rw [eV6, va_up_self]
      have fV6 : ∀ j, j ≠ 0 → V6 j = V j := fun j hj => by rw [eV6, va_up_ne _ _ hj]
      have hM6 : MW X (gup σ (a 0) (10, gI (X.2.1 0) 48 (iup (V 0) r5 v))) o a V6 Iv := by rw [eV6]; exact hM.set 0 rfl _
      have hkp6 : gKeep (fun t => t = 10) σ (gup σ (a 0) (10, gI (X.2.1 0) 48 (iup (V 0) r5 v))) := hkp.tr (gKeep.up hM.a0 rfl)
      generalize (gup σ (a 0) (10, gI (X.2.1 0) 48 (iup (V 0) r5 v))) = σ6 at hG hM6 hkp6
      refine lv_iload hx hb dX4_set_53 (lv_at hl 0 rfl) ?_
      exact g_iret hx hb hr hlocks hQ hG hS (Nat.zero_le _) (Nat.zero_le _) ⟨_, rfl, V6, Iv, hM6, hkp6, (⟨by rw [if_pos (by omega), if_pos (by omega)]; simp only [*], Or.inl ⟨by omega, by rw [eV6]; simp only [*], rfl⟩⟩)⟩ dX4_set_55
    · refine g_bipush hx hb dX4_set_24 (by decide) ?_
      exact g_iret hx hb hr hlocks hQ hG hS (Nat.zero_le _) (Nat.zero_le _) ⟨_, rfl, V, Iv, hM, hkp, (⟨by repeat (first | rw [if_pos (by omega)] | rw [if_neg (by omega)]), Or.inr ⟨by omega, rfl, rfl⟩⟩)⟩ dX4_set_26
  · refine g_iconst hx hb dX4_set_9 ?_
    exact g_iret hx hb hr hlocks hQ hG hS (Nat.zero_le _) (Nat.zero_le _) ⟨_, rfl, V, Iv, hM, hkp, (⟨by repeat (first | rw [if_pos (by omega)] | rw [if_neg (by omega)]), Or.inr ⟨by omega, rfl, rfl⟩⟩)⟩ dX4_set_10

set_option maxHeartbeats 4000000 in
theorem mX4_were (l : Launch) (X : gX) (σ : gS) (o : Nat) (a : Nat → Nat) (V : Nat → Int → Int) (Iv : Nat → Int) (hM : MW X σ o a V Iv) (hT : okT (V 0)) (t : Int) (i : Int) (j : Int) (x : Int) (y : Int) (k9 : Int)  (h0 : -2147483648 ≤ t ∧ t ≤ 2147483647) (h1 : -2147483648 ≤ i ∧ i ≤ 2147483647) (h2 : -2147483648 ≤ j ∧ j ≤ 2147483647) (h3 : -2147483648 ≤ x ∧ x ≤ 2147483647) (h4 : -2147483648 ≤ y ∧ y ≤ 2147483647) (h5 : -2147483648 ≤ k9 ∧ k9 ≤ 2147483647) : gMet l X yX4_were cX4_were 12 (some .long) 3 0 0 70 σ [.ref o, .int (iI t), .int (iI i), .int (iI j), .int (iI x), .int (iI y), .int (iI k9)] (oL (fun r σ' => ∃ (V' : Nat → Int → Int) (I' : Nat → Int), MW X σ' o a V' I' ∧ gKeep (fun t => t = 10) σ σ' ∧ (r = (if ((0 ≤ t ∧ t ≤ 1) ∧ (0 ≤ i ∧ i ≤ 2) ∧ (0 ≤ j ∧ j ≤ 2)) ∧ okSp x y ∧ (0 ≤ k9 ∧ k9 ≤ 31) then werA (V 0) (9 * t + 3 * i + j) x y k9 31 else noL) ∧ V' = V ∧ I' = Iv))) := by
  refine gMet.of (by decide) (Nat.le_of_ble_eq_true rfl) ?_
  intro pp ee ss mm args below meth cd Q H locs ls hargs hx hb hr hlocks hml hown hnm hts hK hG hS hQ hl
  have hown : ss.vm.findClass RX4 = some mm.cls := hown
  have hl : lv_has ls 12 [(0, .ref o), (1, .int (iI t)), (2, .int (iI i)), (3, .int (iI j)), (4, .int (iI x)), (5, .int (iI y)), (6, .int (iI k9))] := hl
  have hkp : gKeep (fun t => t = 10) σ σ := gKeep.rf
  refine lv_iload_n hx hb dX4_were_0 rfl (lv_at hl 1 rfl) ?_
  refine lv_iload_n hx hb dX4_were_1 rfl (lv_at hl 2 rfl) ?_
  refine lv_iload_n hx hb dX4_were_2 rfl (lv_at hl 3 rfl) ?_
  refine g_callS (As := [.int (iI t), .int (iI i), .int (iI j)]) (rest := []) 3 hx hb hml hown hts hK hG hS hl.1 (mX4_isPlace l X σ  t i j (by omega) (by omega) (by omega)) q2053 q2054 q86 q2055 (by decide +kernel) rfl ⟨Nat.le_of_ble_eq_true rfl, Nat.le_of_ble_eq_true rfl⟩ ⟨Nat.le_of_ble_eq_true rfl, Nat.le_of_ble_eq_true rfl⟩ (Nat.le_of_ble_eq_true rfl) dX4_were_3 (kI (fun r1 σr1 H locs hp hG hS => ?_))
  obtain ⟨hr1, rfl⟩ := hp
  refine g_if_eq (tgt := 27) hx hb dX4_were_6 (by decide) (by omega) (fun cq2 => ?_) (fun cq2 => ?_)
  · refine g_ldc2 hx hb (-9223372036854775808) hown (hts _ q2127) (by decide) dX4_were_27 ?_
    exact g_lret hx hb hr hlocks hQ hG hS (Nat.zero_le _) (Nat.zero_le _) ⟨_, rfl, V, Iv, hM, hkp, (⟨by rw [if_neg (by omega)]; rfl, rfl, rfl⟩)⟩ dX4_were_30
  · refine lv_iload hx hb dX4_were_9 (lv_at hl 4 rfl) ?_
    refine lv_iload hx hb dX4_were_11 (lv_at hl 5 rfl) ?_
    refine g_callS (As := [.int (iI x), .int (iI y)]) (rest := []) 2 hx hb hml hown hts hK hG hS hl.1 (mX4_isSpot l X σ  x y (by omega) (by omega)) q2072 q2073 q86 q2074 (by decide +kernel) rfl ⟨Nat.le_of_ble_eq_true rfl, Nat.le_of_ble_eq_true rfl⟩ ⟨Nat.le_of_ble_eq_true rfl, Nat.le_of_ble_eq_true rfl⟩ (Nat.le_of_ble_eq_true rfl) dX4_were_13 (kI (fun r3 σr3 H locs hp hG hS => ?_))
    obtain ⟨hr3, rfl⟩ := hp
    refine g_if_eq (tgt := 27) hx hb dX4_were_16 (by decide) (by omega) (fun cq4 => ?_) (fun cq4 => ?_)
    · refine g_ldc2 hx hb (-9223372036854775808) hown (hts _ q2127) (by decide) dX4_were_27 ?_
      exact g_lret hx hb hr hlocks hQ hG hS (Nat.zero_le _) (Nat.zero_le _) ⟨_, rfl, V, Iv, hM, hkp, (⟨by rw [if_neg (by omega)]; rfl, rfl, rfl⟩)⟩ dX4_were_30
    · refine lv_iload hx hb dX4_were_19 (lv_at hl 6 rfl) ?_
      refine g_callS (As := [.int (iI k9)]) (rest := []) 1 hx hb hml hown hts hK hG hS hl.1 (mX4_isCoordinate l X σ  k9 (by omega)) q2075 q2076 q86 q2077 (by decide +kernel) rfl ⟨Nat.le_of_ble_eq_true rfl, Nat.le_of_ble_eq_true rfl⟩ ⟨Nat.le_of_ble_eq_true rfl, Nat.le_of_ble_eq_true rfl⟩ (Nat.le_of_ble_eq_true rfl) dX4_were_21 (kI (fun r5 σr5 H locs hp hG hS => ?_))
      obtain ⟨hr5, rfl⟩ := hp
      refine g_if_ne (tgt := 31) hx hb dX4_were_24 (by decide) (by omega) (fun cq6 => ?_) (fun cq6 => ?_)
      · refine lv_iload_n hx hb dX4_were_31 rfl (lv_at hl 1 rfl) ?_
        refine lv_iload_n hx hb dX4_were_32 rfl (lv_at hl 2 rfl) ?_
        refine lv_iload_n hx hb dX4_were_33 rfl (lv_at hl 3 rfl) ?_
        refine g_callS (As := [.int (iI t), .int (iI i), .int (iI j)]) (rest := []) 3 hx hb hml hown hts hK hG hS hl.1 (mX4_placeOf l X σ  t i j (by omega) (by omega) (by omega)) q2061 q2062 q86 q2063 (by decide +kernel) rfl ⟨Nat.le_of_ble_eq_true rfl, Nat.le_of_ble_eq_true rfl⟩ ⟨Nat.le_of_ble_eq_true rfl, Nat.le_of_ble_eq_true rfl⟩ (Nat.le_of_ble_eq_true rfl) dX4_were_34 (kI (fun r7 σr7 H locs hp hG hS => ?_))
        obtain ⟨hr7, rfl⟩ := hp
        have hrP := hr7
        refine g_name (fun p9 ep9 => ?_)
        refine lv_istore (lv' := [(7, .int (iI p9)), (0, .ref o), (1, .int (iI t)), (2, .int (iI i)), (3, .int (iI j)), (4, .int (iI x)), (5, .int (iI y)), (6, .int (iI k9))]) hx hb dX4_were_37 hl (by decide) rfl (fun ls hl => ?_)
        refine lv_aload_n hx hb dX4_were_39 rfl (lv_at hl 1 rfl) ?_
        refine g_get (C := RX4) (T := TX4) (N := 30) (v := .ref (a 0)) hx hb hts hown hK hG hM.o rfl in_X4 0 (by decide) q1958 rfl rfl dX4_were_40 ?_
        refine lv_iload hx hb dX4_were_43 (lv_at hl 0 rfl) ?_
        refine g_iald hx hb hK hG hM.a0 dX4_were_45 (by omega) ?_
        refine lv_istore (lv' := [(8, .int (iI ((V 0) p9))), (7, .int (iI p9)), (0, .ref o), (1, .int (iI t)), (2, .int (iI i)), (3, .int (iI j)), (4, .int (iI x)), (5, .int (iI y)), (6, .int (iI k9))]) hx hb dX4_were_46 hl (by decide) rfl (fun ls hl => ?_)
        refine lv_lconst (v := lI 0) hx hb dX4_were_48 (by decide) ?_
        refine lv_lstore (lv' := [(9, .long (lI 0)), (8, .int (iI ((V 0) p9))), (7, .int (iI p9)), (0, .ref o), (1, .int (iI t)), (2, .int (iI i)), (3, .int (iI j)), (4, .int (iI x)), (5, .int (iI y)), (6, .int (iI k9))]) hx hb dX4_were_49 hl (by decide) rfl (fun ls hl => ?_)
        refine g_iconst hx hb dX4_were_51 ?_
        refine lv_istore (lv' := [(11, .int (iI 0)), (9, .long (lI 0)), (8, .int (iI ((V 0) p9))), (7, .int (iI p9)), (0, .ref o), (1, .int (iI t)), (2, .int (iI i)), (3, .int (iI j)), (4, .int (iI x)), (5, .int (iI y)), (6, .int (iI k9))]) hx hb dX4_were_52 hl (by decide) rfl (fun ls hl => ?_)
        have loop_54 : ∀ (nF : Nat) (σL : gS) (VL : Nat → Int → Int) (v9 : Int) (set9 : Int64) (k : Nat) (z9 : Int), (31 - k : Nat) < nF → (MW X σL o a VL Iv) → (gKeep (fun t => t = 10) σ σL) → (v9 = (k : Int)) → (k ≤ 31) → (set9 = werA (V 0) p9 x y k9 k) → (VL = va_up V 0 (iup (V 0) p9 z9)) → ∀ (H : Heap) (locs : List Loc) (ls : Array Slot), gSat X σL H → va_S (gA X) ss.heap H locs → lv_has ls 12 [(11, .int (iI v9)), (9, .long set9), (8, .int (iI ((V 0) p9))), (7, .int (iI p9)), (0, .ref o), (1, .int (iI t)), (2, .int (iI i)), (3, .int (iI j)), (4, .int (iI x)), (5, .int (iI y)), (6, .int (iI k9))] → W pp l ee (gR 3 0 0 70) ss mm args below meth cd H locs 0 0 Q (F0 mm 54 ls []) := by
          intro nF
          induction nF with
          | zero => intro σL VL v9 set9 k z9 hm; exact absurd hm (Nat.not_lt_zero _)
          | succ nF ih_54 =>
            intro σL VL v9 set9 k z9 hm hML hkL hi54_2 hi54_3 hi54_4 hV2 H locs ls hG hS hl
            refine lv_iload hx hb dX4_were_54 (lv_at hl 0 rfl) ?_
            refine g_bipush hx hb dX4_were_56 (by decide) ?_
            refine g_icmp_ge (tgt := 102) hx hb dX4_were_58 (by decide) (by omega) (by omega) (fun cq8 => ?_) (fun cq8 => ?_)
            · refine lv_aload_n hx hb dX4_were_102 rfl (lv_at hl 4 rfl) ?_
              refine g_get (C := RX4) (T := TX4) (N := 30) (v := .ref (a 0)) hx hb hts hown hK hG hML.o rfl in_X4 0 (by decide) q1958 rfl rfl dX4_were_103 ?_
              refine lv_iload hx hb dX4_were_106 (lv_at hl 3 rfl) ?_
              refine lv_iload hx hb dX4_were_108 (lv_at hl 2 rfl) ?_
              refine g_iast hx hb hK hG hS hML.a0 dX4_were_110 (by omega) (fun H locs hG hS => ?_)
              obtain ⟨V9, eV9⟩ : ∃ J : Nat → Int → Int, J = va_up VL 0 (iup (VL 0) p9 ((V 0) p9)) := ⟨_, rfl⟩
              have v0_9 : V9 0 = (iup (VL 0) p9 ((V 0) p9)) := by rw [eV9, va_up_self]
              have fV9 : ∀ j, j ≠ 0 → V9 j = VL j := fun j hj => by rw [eV9, va_up_ne _ _ hj]
              have hM9 : MW X (gup σL (a 0) (10, gI (X.2.1 0) 48 (iup (VL 0) p9 ((V 0) p9)))) o a V9 Iv := by rw [eV9]; exact hML.set 0 rfl _
              have hkp9 : gKeep (fun t => t = 10) σ (gup σL (a 0) (10, gI (X.2.1 0) 48 (iup (VL 0) p9 ((V 0) p9)))) := hkL.tr (gKeep.up hML.a0 rfl)
              generalize (gup σL (a 0) (10, gI (X.2.1 0) 48 (iup (VL 0) p9 ((V 0) p9)))) = σ9 at hG hM9 hkp9
              refine lv_lload hx hb dX4_were_111 (lv_at hl 1 rfl) ?_
              exact g_lret hx hb hr hlocks hQ hG hS (Nat.zero_le _) (Nat.zero_le _) ⟨_, rfl, V9, Iv, hM9, hkp9, (⟨by rw [if_pos (by omega), hi54_4, show k = 31 by omega, ep9, hrP], by rw [eV9, hV2, va_up_2, va_up_self]; exact va_up_id (iup_id rfl), rfl⟩)⟩ dX4_were_113
            · refine lv_aload_n hx hb dX4_were_61 rfl (lv_at hl 4 rfl) ?_
              refine g_get (C := RX4) (T := TX4) (N := 30) (v := .ref (a 0)) hx hb hts hown hK hG hML.o rfl in_X4 0 (by decide) q1958 rfl rfl dX4_were_62 ?_
              refine lv_iload hx hb dX4_were_65 (lv_at hl 3 rfl) ?_
              refine lv_iload hx hb dX4_were_67 (lv_at hl 0 rfl) ?_
              refine g_iast hx hb hK hG hS hML.a0 dX4_were_69 (by omega) (fun H locs hG hS => ?_)
              obtain ⟨V10, eV10⟩ : ∃ J : Nat → Int → Int, J = va_up VL 0 (iup (VL 0) p9 v9) := ⟨_, rfl⟩
              have v0_10 : V10 0 = (iup (VL 0) p9 v9) := by rw [eV10, va_up_self]
              have fV10 : ∀ j, j ≠ 0 → V10 j = VL j := fun j hj => by rw [eV10, va_up_ne _ _ hj]
              have hM10 : MW X (gup σL (a 0) (10, gI (X.2.1 0) 48 (iup (VL 0) p9 v9))) o a V10 Iv := by rw [eV10]; exact hML.set 0 rfl _
              have hkp10 : gKeep (fun t => t = 10) σ (gup σL (a 0) (10, gI (X.2.1 0) 48 (iup (VL 0) p9 v9))) := hkL.tr (gKeep.up hML.a0 rfl)
              generalize (gup σL (a 0) (10, gI (X.2.1 0) 48 (iup (VL 0) p9 v9))) = σ10 at hG hM10 hkp10
              have w0_10 : V10 0 = iup (V 0) p9 v9 := by rw [v0_10, hV2, va_up_self, iup_2]
              have hT10 : okT (V10 0) := by rw [w0_10]; exact okT_up hT _ _ (by omega)
              refine lv_lload hx hb dX4_were_70 (lv_at hl 1 rfl) ?_
              refine lv_aload_n hx hb dX4_were_72 rfl (lv_at hl 4 rfl) ?_
              refine lv_iload hx hb dX4_were_73 (lv_at hl 8 rfl) ?_
              refine lv_iload hx hb dX4_were_75 (lv_at hl 9 rfl) ?_
              refine g_callV (As := [.int (iI x), .int (iI y)]) (rest := [.long set9]) 2 hx hb hml hown hts hK hG hS hl.1 (mX4_keptAt l X σ10 o a V10 Iv hM10 hT10 x y (by omega) (by omega)) hM10.o rfl q2090 q2092 qs47 q86 q2093 (by decide +kernel) rfl ⟨Nat.le_of_ble_eq_true rfl, Nat.le_of_ble_eq_true rfl⟩ ⟨Nat.le_of_ble_eq_true rfl, Nat.le_of_ble_eq_true rfl⟩ (Nat.le_of_ble_eq_true rfl) dX4_were_77 (kI (fun r11 σr11 H locs hp hG hS => ?_))
              obtain ⟨⟨hr11, kr11⟩, rfl⟩ := hp
              rw [w0_10] at hr11
              refine lv_iload hx hb dX4_were_80 (lv_at hl 10 rfl) ?_
              refine g_icmp_ne (tgt := 92) hx hb dX4_were_82 (by decide) (by omega) (by omega) (fun cq12 => ?_) (fun cq12 => ?_)
              · refine lv_lconst (v := lI 0) hx hb dX4_were_92 (by decide) ?_
                refine lv_lor hx hb dX4_were_93 ?_
                refine lv_lstore (lv' := [(9, .long (set9 ||| (lI 0))), (11, .int (iI v9)), (8, .int (iI ((V 0) p9))), (7, .int (iI p9)), (0, .ref o), (1, .int (iI t)), (2, .int (iI i)), (3, .int (iI j)), (4, .int (iI x)), (5, .int (iI y)), (6, .int (iI k9))]) hx hb dX4_were_94 hl (by decide) rfl (fun ls hl => ?_)
                refine g_iinc (lv' := [(11, .int (iI (v9 + 1))), (9, .long (set9 ||| (lI 0))), (8, .int (iI ((V 0) p9))), (7, .int (iI p9)), (0, .ref o), (1, .int (iI t)), (2, .int (iI i)), (3, .int (iI j)), (4, .int (iI x)), (5, .int (iI y)), (6, .int (iI k9))]) hx hb dX4_were_96 hl (k := 1) rfl (by decide) rfl (fun ls hl => ?_)
                refine lv_goto (tgt := 54) hx hb dX4_were_99 (by decide) ?_
                exact ih_54 σ10 V10 (v9 + 1) (set9 ||| (lI 0)) (k + 1) v9 (by omega) (hM10) (hkp10) (by omega) (by omega) (by rw [hi54_4, werA, ← hi54_2, ← hr11]; first | rw [if_pos (by assumption)] | rw [if_neg (by assumption)]) (by rw [eV10, hV2, va_up_2, va_up_self, iup_2])  _ _ _ hG hS (lv_sub hl [0, 1, 2, 3, 4, 5, 6, 7, 8, 9, 10] rfl)
              · refine lv_lconst (v := lI 1) hx hb dX4_were_85 (by decide) ?_
                refine lv_iload hx hb dX4_were_86 (lv_at hl 0 rfl) ?_
                refine lv_lshl (v := bitL v9) hx hb dX4_were_88 rfl ?_
                refine lv_goto (tgt := 93) hx hb dX4_were_89 (by decide) ?_
                refine lv_lor hx hb dX4_were_93 ?_
                refine lv_lstore (lv' := [(9, .long (set9 ||| (bitL v9))), (11, .int (iI v9)), (8, .int (iI ((V 0) p9))), (7, .int (iI p9)), (0, .ref o), (1, .int (iI t)), (2, .int (iI i)), (3, .int (iI j)), (4, .int (iI x)), (5, .int (iI y)), (6, .int (iI k9))]) hx hb dX4_were_94 hl (by decide) rfl (fun ls hl => ?_)
                refine g_iinc (lv' := [(11, .int (iI (v9 + 1))), (9, .long (set9 ||| (bitL v9))), (8, .int (iI ((V 0) p9))), (7, .int (iI p9)), (0, .ref o), (1, .int (iI t)), (2, .int (iI i)), (3, .int (iI j)), (4, .int (iI x)), (5, .int (iI y)), (6, .int (iI k9))]) hx hb dX4_were_96 hl (k := 1) rfl (by decide) rfl (fun ls hl => ?_)
                refine lv_goto (tgt := 54) hx hb dX4_were_99 (by decide) ?_
                exact ih_54 σ10 V10 (v9 + 1) (set9 ||| (bitL v9)) (k + 1) v9 (by omega) (hM10) (hkp10) (by omega) (by omega) (by rw [hi54_4, werA, ← hi54_2, ← hr11]; first | rw [if_pos (by assumption)] | rw [if_neg (by assumption)]) (by rw [eV10, hV2, va_up_2, va_up_self, iup_2])  _ _ _ hG hS (lv_sub hl [0, 1, 2, 3, 4, 5, 6, 7, 8, 9, 10] rfl)
        exact loop_54 _ σ V 0 (lI 0) 0 (V 0 p9) (Nat.lt_succ_self _) (hM) (hkp) (rfl) (by decide) (rfl) ((va_up_id (by funext q; unfold iup; split <;> simp [*])).symm)  _ _ _ hG hS (lv_sub hl [0, 1, 2, 3, 4, 5, 6, 7, 8, 9, 10] rfl)
      · refine g_ldc2 hx hb (-9223372036854775808) hown (hts _ q2127) (by decide) dX4_were_27 ?_
        exact g_lret hx hb hr hlocks hQ hG hS (Nat.zero_le _) (Nat.zero_le _) ⟨_, rfl, V, Iv, hM, hkp, (⟨by rw [if_neg (by omega)]; rfl, rfl, rfl⟩)⟩ dX4_were_30

set_option maxHeartbeats 4000000 in
theorem mX4_feed (l : Launch) (X : gX) (σ : gS) (o : Nat) (a : Nat → Nat) (V : Nat → Int → Int) (Iv : Nat → Int) (hM : MW X σ o a V Iv) (hT : okT (V 0)) (b9 : Int)  (h0 : 0 ≤ Iv 23 ∧ Iv 23 ≤ 60) (h1 : -2147483648 ≤ b9 ∧ b9 ≤ 2147483647) : gMet l X yX4_feed cX4_feed 2 (some .int) 1 0 0 25 σ [.ref o, .int (iI b9)] (oI (fun r σ' => ∃ (V' : Nat → Int → Int) (I' : Nat → Int), MW X σ' o a V' I' ∧ gKeep (fun t => t = 10) σ σ' ∧ (r = (if 1 ≤ b9 ∧ b9 ≤ 127 then (if Iv 23 = 60 then -4 else Iv 23 + 1) else -2) ∧ (((1 ≤ b9 ∧ b9 ≤ 127) ∧ ¬ Iv 23 = 60) ∧ V' = va_up V 22 (iup (V 22) (Iv 23) b9) ∧ I' = va_up Iv 23 (Iv 23 + 1) ∨ ¬ ((1 ≤ b9 ∧ b9 ≤ 127) ∧ ¬ Iv 23 = 60) ∧ V' = V ∧ I' = Iv)))) := by
  refine gMet.of (by decide) (Nat.le_of_ble_eq_true rfl) ?_
  intro pp ee ss mm args below meth cd Q H locs ls hargs hx hb hr hlocks hml hown hnm hts hK hG hS hQ hl
  have hown : ss.vm.findClass RX4 = some mm.cls := hown
  have hl : lv_has ls 2 [(0, .ref o), (1, .int (iI b9))] := hl
  have hkp : gKeep (fun t => t = 10) σ σ := gKeep.rf
  refine lv_iload_n hx hb dX4_feed_0 rfl (lv_at hl 1 rfl) ?_
  refine g_i2l hx hb dX4_feed_1 (by omega) ?_
  refine lv_lconst (v := lI 1) hx hb dX4_feed_2 (by decide) ?_
  refine g_ldc2 hx hb (127) hown (hts _ q2281) (by decide) dX4_feed_3 ?_
  refine g_callS (As := [.long (lI b9), .long (lI 1), .long (lI (127))]) (rest := []) 3 hx hb hml hown hts hK hG hS hl.1 (mX4_in l X σ  b9 1 (127) (by omega) (by omega) (by omega)) q2056 q2057 q86 q2058 (by decide +kernel) rfl ⟨Nat.le_of_ble_eq_true rfl, Nat.le_of_ble_eq_true rfl⟩ ⟨Nat.le_of_ble_eq_true rfl, Nat.le_of_ble_eq_true rfl⟩ (Nat.le_of_ble_eq_true rfl) dX4_feed_6 (kI (fun r1 σr1 H locs hp hG hS => ?_))
  obtain ⟨hr1, rfl⟩ := hp
  refine g_if_ne (tgt := 15) hx hb dX4_feed_9 (by decide) (by omega) (fun cq2 => ?_) (fun cq2 => ?_)
  · refine lv_aload_n hx hb dX4_feed_15 rfl (lv_at hl 0 rfl) ?_
    refine g_get (C := RX4) (T := TX4) (N := 30) (v := .int (iI (Iv 23))) hx hb hts hown hK hG hM.o rfl in_X4 23 (by decide) q1981 rfl rfl dX4_feed_16 ?_
    refine g_bipush hx hb dX4_feed_19 (by decide) ?_
    refine g_icmp_ne (tgt := 27) hx hb dX4_feed_21 (by decide) (by omega) (by omega) (fun cq3 => ?_) (fun cq3 => ?_)
    · refine lv_aload_n hx hb dX4_feed_27 rfl (lv_at hl 0 rfl) ?_
      refine g_get (C := RX4) (T := TX4) (N := 30) (v := .ref (a 22)) hx hb hts hown hK hG hM.o rfl in_X4 22 (by decide) q1980 rfl rfl dX4_feed_28 ?_
      refine lv_aload_n hx hb dX4_feed_31 rfl (lv_at hl 0 rfl) ?_
      refine g_get (C := RX4) (T := TX4) (N := 30) (v := .int (iI (Iv 23))) hx hb hts hown hK hG hM.o rfl in_X4 23 (by decide) q1981 rfl rfl dX4_feed_32 ?_
      refine lv_iload_n hx hb dX4_feed_35 rfl (lv_at hl 1 rfl) ?_
      refine g_iast hx hb hK hG hS hM.a22 dX4_feed_36 (by omega) (fun H locs hG hS => ?_)
      obtain ⟨V4, eV4⟩ : ∃ J : Nat → Int → Int, J = va_up V 22 (iup (V 22) (Iv 23) b9) := ⟨_, rfl⟩
      have v22_4 : V4 22 = (iup (V 22) (Iv 23) b9) := by rw [eV4, va_up_self]
      have fV4 : ∀ j, j ≠ 22 → V4 j = V j := fun j hj => by rw [eV4, va_up_ne _ _ hj]
      have hM4 : MW X (gup σ (a 22) (10, gI (X.2.1 0) 60 (iup (V 22) (Iv 23) b9))) o a V4 Iv := by rw [eV4]; exact hM.set 22 rfl _
      have hkp4 : gKeep (fun t => t = 10) σ (gup σ (a 22) (10, gI (X.2.1 0) 60 (iup (V 22) (Iv 23) b9))) := hkp.tr (gKeep.up hM.a22 rfl)
      generalize (gup σ (a 22) (10, gI (X.2.1 0) 60 (iup (V 22) (Iv 23) b9))) = σ4 at hG hM4 hkp4
      refine lv_aload_n hx hb dX4_feed_37 rfl (lv_at hl 0 rfl) ?_
      refine lv_dup hx hb dX4_feed_38 rfl ?_
      refine g_get (C := RX4) (T := TX4) (N := 30) (v := .int (iI (Iv 23))) hx hb hts hown hK hG hM4.o rfl in_X4 23 (by decide) q1981 rfl rfl dX4_feed_39 ?_
      refine g_iconst hx hb dX4_feed_42 ?_
      refine g_iadd hx hb dX4_feed_43 ?_
      refine g_put (C := RX4) (T := TX4) (N := 30) (ty0 := tyX4) (v := .int (iI ((Iv 23) + 1))) hx hb hts hown hK hG hS hM4.o rfl in_X4 tyX4_ok nmX4 23 (by decide) q1981 rfl (by decide) rfl rfl (Nat.le_of_ble_eq_true rfl) dX4_feed_44 (fun H locs hG hS => ?_)
      obtain ⟨I5, eI5⟩ : ∃ J : Nat → Int, J = va_up Iv 23 ((Iv 23) + 1) := ⟨_, rfl⟩
      have i23_5 : I5 23 = (Iv 23) + 1 := by rw [eI5, va_up_self]
      have fI5 : ∀ j, j ≠ 23 → I5 j = Iv j := fun j hj => by rw [eI5, va_up_ne _ _ hj]
      have hM5 : MW X (gup σ4 o (10, gO 4 ((mfs a Iv).set 23 (.int (iI ((Iv 23) + 1)))))) o a V4 I5 := by rw [eI5]; exact hM4.num (mfs_23 a Iv _)
      have hkp5 : gKeep (fun t => t = 10) σ (gup σ4 o (10, gO 4 ((mfs a Iv).set 23 (.int (iI ((Iv 23) + 1)))))) := hkp4.tr (gKeep.up hM4.o rfl)
      generalize (gup σ4 o (10, gO 4 ((mfs a Iv).set 23 (.int (iI ((Iv 23) + 1)))))) = σ5 at hG hM5 hkp5
      refine lv_aload_n hx hb dX4_feed_47 rfl (lv_at hl 0 rfl) ?_
      refine g_get (C := RX4) (T := TX4) (N := 30) (v := .int (iI (I5 23))) hx hb hts hown hK hG hM5.o rfl in_X4 23 (by decide) q1981 rfl rfl dX4_feed_48 ?_
      exact g_iret hx hb hr hlocks hQ hG hS (Nat.zero_le _) (Nat.zero_le _) ⟨_, rfl, V4, I5, hM5, hkp5, (⟨by rw [if_pos (by omega), if_neg (by omega)]; simp only [*, va_up_self], Or.inl ⟨by omega, eV4, eI5⟩⟩)⟩ dX4_feed_51
    · refine g_bipush hx hb dX4_feed_24 (by decide) ?_
      exact g_iret hx hb hr hlocks hQ hG hS (Nat.zero_le _) (Nat.zero_le _) ⟨_, rfl, V, Iv, hM, hkp, (⟨by repeat (first | rw [if_pos (by omega)] | rw [if_neg (by omega)]), Or.inr ⟨by omega, rfl, rfl⟩⟩)⟩ dX4_feed_26
  · refine g_bipush hx hb dX4_feed_12 (by decide) ?_
    exact g_iret hx hb hr hlocks hQ hG hS (Nat.zero_le _) (Nat.zero_le _) ⟨_, rfl, V, Iv, hM, hkp, (⟨by repeat (first | rw [if_pos (by omega)] | rw [if_neg (by omega)]), Or.inr ⟨by omega, rfl, rfl⟩⟩)⟩ dX4_feed_14

set_option maxHeartbeats 4000000 in
theorem mX4_paper (l : Launch) (X : gX) (σ : gS) (o : Nat) (a : Nat → Nat) (V : Nat → Int → Int) (Iv : Nat → Int) (hM : MW X σ o a V Iv) (hT : okT (V 0)) (i : Int) (h0 : 0 ≤ Iv 27 ∧ Iv 27 ≤ 120) (h1 : -2147483648 ≤ i ∧ i ≤ 2147483647) : gMet l X yX4_paper cX4_paper 2 (some .int) 1 0 0 25 σ [.ref o, .int (iI i)] (oI (fun r σ' => r = (if 0 ≤ i ∧ i < Iv 27 then V 26 i else -1) ∧ σ = σ')) := by
  refine gMet.of (by decide) (Nat.le_of_ble_eq_true rfl) ?_
  intro pp ee ss mm args below meth cd Q H locs ls hargs hx hb hr hlocks hml hown hnm hts hK hG hS hQ hl
  have hown : ss.vm.findClass RX4 = some mm.cls := hown
  have hl : lv_has ls 2 [(0, .ref o), (1, .int (iI i))] := hl
  refine lv_iload_n hx hb dX4_paper_0 rfl (lv_at hl 1 rfl) ?_
  refine g_i2l hx hb dX4_paper_1 (by omega) ?_
  refine lv_lconst (v := lI 0) hx hb dX4_paper_2 (by decide) ?_
  refine lv_aload_n hx hb dX4_paper_3 rfl (lv_at hl 0 rfl) ?_
  refine g_get (C := RX4) (T := TX4) (N := 30) (v := .int (iI (Iv 27))) hx hb hts hown hK hG hM.o rfl in_X4 27 (by decide) q1985 rfl rfl dX4_paper_4 ?_
  refine g_iconst hx hb dX4_paper_7 ?_
  refine g_isub hx hb dX4_paper_8 ?_
  refine g_i2l hx hb dX4_paper_9 (by omega) ?_
  refine g_callS (As := [.long (lI i), .long (lI 0), .long (lI ((Iv 27) - 1))]) (rest := []) 3 hx hb hml hown hts hK hG hS hl.1 (mX4_in l X σ  i 0 ((Iv 27) - 1) (by omega) (by omega) (by omega)) q2056 q2057 q86 q2058 (by decide +kernel) rfl ⟨Nat.le_of_ble_eq_true rfl, Nat.le_of_ble_eq_true rfl⟩ ⟨Nat.le_of_ble_eq_true rfl, Nat.le_of_ble_eq_true rfl⟩ (Nat.le_of_ble_eq_true rfl) dX4_paper_10 (kI (fun r1 σr1 H locs hp hG hS => ?_))
  obtain ⟨hr1, rfl⟩ := hp
  refine g_if_eq (tgt := 25) hx hb dX4_paper_13 (by decide) (by omega) (fun cq2 => ?_) (fun cq2 => ?_)
  · refine g_iconst hx hb dX4_paper_25 ?_
    exact g_iret hx hb hr hlocks hQ hG hS (Nat.zero_le _) (Nat.zero_le _) ⟨_, rfl, (by repeat (first | rw [if_pos (by omega)] | rw [if_neg (by omega)])), rfl⟩ dX4_paper_26
  · refine lv_aload_n hx hb dX4_paper_16 rfl (lv_at hl 0 rfl) ?_
    refine g_get (C := RX4) (T := TX4) (N := 30) (v := .ref (a 26)) hx hb hts hown hK hG hM.o rfl in_X4 26 (by decide) q1984 rfl rfl dX4_paper_17 ?_
    refine lv_iload_n hx hb dX4_paper_20 rfl (lv_at hl 1 rfl) ?_
    refine g_iald hx hb hK hG hM.a26 dX4_paper_21 (by omega) ?_
    refine lv_goto (tgt := 26) hx hb dX4_paper_22 (by decide) ?_
    exact g_iret hx hb hr hlocks hQ hG hS (Nat.zero_le _) (Nat.zero_le _) ⟨_, rfl, (by repeat (first | rw [if_pos (by omega)] | rw [if_neg (by omega)])), rfl⟩ dX4_paper_26

theorem mX4_isList (l : Launch) (X : gX) (σ : gS)  (i : Int) (h0 : -2147483648 ≤ i ∧ i ≤ 2147483647) : gMet l X yX4_isList cX4_isList 1 (some .boolean) 1 0 0 25 σ [.int (iI i)] (oI (fun r σ' => ((r = 1 ∧ (0 ≤ i ∧ i ≤ 3)) ∨ (r = 0 ∧ ¬ (0 ≤ i ∧ i ≤ 3))) ∧ σ = σ')) := by
  refine gMet.of (by decide) (Nat.le_of_ble_eq_true rfl) ?_
  intro pp ee ss mm args below meth cd Q H locs ls hargs hx hb hr hlocks hml hown hnm hts hK hG hS hQ hl
  have hown : ss.vm.findClass RX4 = some mm.cls := hown
  have hl : lv_has ls 1 [(0, .int (iI i))] := hl
  refine lv_iload_n hx hb dX4_isList_0 rfl (lv_at hl 0 rfl) ?_
  refine g_i2l hx hb dX4_isList_1 (by omega) ?_
  refine lv_lconst (v := lI 0) hx hb dX4_isList_2 (by decide) ?_
  refine g_ldc2 hx hb (3) hown (hts _ q2184) (by decide) dX4_isList_3 ?_
  refine g_callS (As := [.long (lI i), .long (lI 0), .long (lI (3))]) (rest := []) 3 hx hb hml hown hts hK hG hS hl.1 (mX4_in l X σ  i 0 (3) (by omega) (by omega) (by omega)) q2056 q2057 q86 q2058 (by decide +kernel) rfl ⟨Nat.le_of_ble_eq_true rfl, Nat.le_of_ble_eq_true rfl⟩ ⟨Nat.le_of_ble_eq_true rfl, Nat.le_of_ble_eq_true rfl⟩ (Nat.le_of_ble_eq_true rfl) dX4_isList_6 (kI (fun r1 σr1 H locs hp hG hS => ?_))
  obtain ⟨hr1, rfl⟩ := hp
  exact g_zret hx hb hr hlocks hQ hG hS (Nat.zero_le _) (Nat.zero_le _) (gnz (by omega)) ⟨_, rfl, (by omega), rfl⟩ dX4_isList_9

set_option maxHeartbeats 4000000 in
theorem mX4_list (l : Launch) (X : gX) (σ : gS) (o : Nat) (a : Nat → Nat) (V : Nat → Int → Int) (Iv : Nat → Int) (hM : MW X σ o a V Iv) (hT : okT (V 0)) (i : Int) (n9 : Int)  (h0 : -2147483648 ≤ i ∧ i ≤ 2147483647) (h1 : -2147483648 ≤ n9 ∧ n9 ≤ 2147483647) : gMet l X yX4_list cX4_list 4 (some .int) 2 0 0 45 σ [.ref o, .int (iI i), .int (iI n9)] (oI (fun r σ' => ∃ (V' : Nat → Int → Int) (I' : Nat → Int), MW X σ' o a V' I' ∧ gKeep (fun t => t = 10) σ σ' ∧ (r = (if 0 ≤ i ∧ i ≤ 3 then (if n9 > 12 then -2 else if n9 < 0 then -14 else 1) else -1) ∧ (((0 ≤ i ∧ i ≤ 3) ∧ 0 ≤ n9 ∧ n9 ≤ 12) ∧ ((∀ q, q ≠ 28 → q ≠ 40 + i.toNat → V' q = V q) ∧ V' 28 = iup (V 28) i n9 ∧ ∀ q : Int, 0 ≤ q → q < 12 → V' (40 + i.toNat) q = 0) ∧ I' = Iv ∨ ¬ ((0 ≤ i ∧ i ≤ 3) ∧ 0 ≤ n9 ∧ n9 ≤ 12) ∧ V' = V ∧ I' = Iv)))) := by
  refine gMet.of (by decide) (Nat.le_of_ble_eq_true rfl) ?_
  intro pp ee ss mm args below meth cd Q H locs ls hargs hx hb hr hlocks hml hown hnm hts hK hG hS hQ hl
  have hown : ss.vm.findClass RX4 = some mm.cls := hown
  have hl : lv_has ls 4 [(0, .ref o), (1, .int (iI i)), (2, .int (iI n9))] := hl
  have hkp : gKeep (fun t => t = 10) σ σ := gKeep.rf
  refine lv_iload_n hx hb dX4_list_0 rfl (lv_at hl 1 rfl) ?_
  refine g_callS (As := [.int (iI i)]) (rest := []) 1 hx hb hml hown hts hK hG hS hl.1 (mX4_isList l X σ  i (by omega)) q2317 q2318 q86 q2319 (by decide +kernel) rfl ⟨Nat.le_of_ble_eq_true rfl, Nat.le_of_ble_eq_true rfl⟩ ⟨Nat.le_of_ble_eq_true rfl, Nat.le_of_ble_eq_true rfl⟩ (Nat.le_of_ble_eq_true rfl) dX4_list_1 (kI (fun r1 σr1 H locs hp hG hS => ?_))
  obtain ⟨hr1, rfl⟩ := hp
  refine g_if_ne (tgt := 9) hx hb dX4_list_4 (by decide) (by omega) (fun cq2 => ?_) (fun cq2 => ?_)
  · refine lv_iload_n hx hb dX4_list_9 rfl (lv_at hl 2 rfl) ?_
    refine g_bipush hx hb dX4_list_10 (by decide) ?_
    refine g_icmp_le (tgt := 18) hx hb dX4_list_12 (by decide) (by omega) (by omega) (fun cq3 => ?_) (fun cq3 => ?_)
    · refine lv_iload_n hx hb dX4_list_18 rfl (lv_at hl 2 rfl) ?_
      refine g_if_ge (tgt := 25) hx hb dX4_list_19 (by decide) (by omega) (fun cq4 => ?_) (fun cq4 => ?_)
      · refine lv_aload_n hx hb dX4_list_25 rfl (lv_at hl 0 rfl) ?_
        refine g_get (C := RX4) (T := TX4) (N := 30) (v := .ref (a 28)) hx hb hts hown hK hG hM.o rfl in_X4 28 (by decide) q1986 rfl rfl dX4_list_26 ?_
        refine lv_iload_n hx hb dX4_list_29 rfl (lv_at hl 1 rfl) ?_
        refine lv_iload_n hx hb dX4_list_30 rfl (lv_at hl 2 rfl) ?_
        refine g_iast hx hb hK hG hS hM.a28 dX4_list_31 (by omega) (fun H locs hG hS => ?_)
        obtain ⟨V5, eV5⟩ : ∃ J : Nat → Int → Int, J = va_up V 28 (iup (V 28) i n9) := ⟨_, rfl⟩
        have v28_5 : V5 28 = (iup (V 28) i n9) := by rw [eV5, va_up_self]
        have fV5 : ∀ j, j ≠ 28 → V5 j = V j := fun j hj => by rw [eV5, va_up_ne _ _ hj]
        have hM5 : MW X (gup σ (a 28) (10, gI (X.2.1 0) 4 (iup (V 28) i n9))) o a V5 Iv := by rw [eV5]; exact hM.set 28 rfl _
        have hkp5 : gKeep (fun t => t = 10) σ (gup σ (a 28) (10, gI (X.2.1 0) 4 (iup (V 28) i n9))) := hkp.tr (gKeep.up hM.a28 rfl)
        generalize (gup σ (a 28) (10, gI (X.2.1 0) 4 (iup (V 28) i n9))) = σ5 at hG hM5 hkp5
        refine g_iconst hx hb dX4_list_32 ?_
        refine lv_istore_n (lv' := [(3, .int (iI 0)), (0, .ref o), (1, .int (iI i)), (2, .int (iI n9))]) hx hb dX4_list_33 rfl hl (by decide) rfl (fun ls hl => ?_)
        have loop_34 : ∀ (nF : Nat) (σL : gS) (VL : Nat → Int → Int) (k9 : Int), ((12 - k9).toNat : Nat) < nF → (MW X σL o a VL Iv) → (gKeep (fun t => t = 10) σ σL) → (0 ≤ k9 ∧ k9 ≤ 12) → (∀ q, q ≠ 28 → q ≠ 40 + i.toNat → VL q = V q) → (VL 28 = iup (V 28) i n9) → (∀ q : Int, 0 ≤ q → q < k9 → VL (40 + i.toNat) q = 0) → ∀ (H : Heap) (locs : List Loc) (ls : Array Slot), gSat X σL H → va_S (gA X) ss.heap H locs → lv_has ls 4 [(3, .int (iI k9)), (0, .ref o), (1, .int (iI i)), (2, .int (iI n9))] → W pp l ee (gR 2 0 0 45) ss mm args below meth cd H locs 0 0 Q (F0 mm 34 ls []) := by
          intro nF
          induction nF with
          | zero => intro σL VL k9 hm; exact absurd hm (Nat.not_lt_zero _)
          | succ nF ih_34 =>
            intro σL VL k9 hm hML hkL hi34_2 hA hB hZ H locs ls hG hS hl
            refine lv_iload_n hx hb dX4_list_34 rfl (lv_at hl 0 rfl) ?_
            refine g_bipush hx hb dX4_list_35 (by decide) ?_
            refine g_icmp_ge (tgt := 55) hx hb dX4_list_37 (by decide) (by omega) (by omega) (fun cq6 => ?_) (fun cq6 => ?_)
            · refine g_iconst hx hb dX4_list_55 ?_
              exact g_iret hx hb hr hlocks hQ hG hS (Nat.zero_le _) (Nat.zero_le _) ⟨_, rfl, VL, Iv, hML, hkL, (⟨by repeat (first | rw [if_pos (by omega)] | rw [if_neg (by omega)]), Or.inl ⟨by omega, ⟨hA, hB, fun q h1 h2 => hZ q h1 (by omega)⟩, rfl⟩⟩)⟩ dX4_list_56
            · refine lv_aload_n hx hb dX4_list_40 rfl (lv_at hl 1 rfl) ?_
              refine g_get (C := RX4) (T := TX4) (N := 30) (v := .ref (a 29)) hx hb hts hown hK hG hML.o rfl in_X4 29 (by decide) q1987 rfl rfl dX4_list_41 ?_
              refine lv_iload_n hx hb dX4_list_44 rfl (lv_at hl 2 rfl) ?_
              refine g_aaldA (v := .ref (a (40 + i.toNat))) hx hb 7 hK hG hML.a29 rfl dX4_list_45 (by omega) (rfl) ?_
              refine lv_iload_n hx hb dX4_list_46 rfl (lv_at hl 0 rfl) ?_
              refine g_iconst hx hb dX4_list_47 ?_
              refine g_iast hx hb hK hG hS (hML.it (l := i) (by omega)) dX4_list_48 (by omega) (fun H locs hG hS => ?_)
              obtain ⟨V7, eV7⟩ : ∃ J : Nat → Int → Int, J = va_up VL (40 + i.toNat) (iup (VL (40 + i.toNat)) k9 0) := ⟨_, rfl⟩
              have vi_7 : V7 (40 + i.toNat) = (iup (VL (40 + i.toNat)) k9 0) := by rw [eV7, va_up_self]
              have fV7 : ∀ j, j ≠ (40 + i.toNat) → V7 j = VL j := fun j hj => by rw [eV7, va_up_ne _ _ hj]
              have hM7 : MW X (gup σL (a (40 + i.toNat)) (10, gI (X.2.1 0) 12 (iup (VL (40 + i.toNat)) k9 0))) o a V7 Iv := by rw [eV7]; exact hML.its (l := i) (by omega) _
              have hkp7 : gKeep (fun t => t = 10) σ (gup σL (a (40 + i.toNat)) (10, gI (X.2.1 0) 12 (iup (VL (40 + i.toNat)) k9 0))) := hkL.tr (gKeep.up (hML.it (l := i) (by omega)) rfl)
              generalize (gup σL (a (40 + i.toNat)) (10, gI (X.2.1 0) 12 (iup (VL (40 + i.toNat)) k9 0))) = σ7 at hG hM7 hkp7
              refine g_iinc (lv' := [(3, .int (iI (k9 + 1))), (0, .ref o), (1, .int (iI i)), (2, .int (iI n9))]) hx hb dX4_list_49 hl (k := 0) rfl (by decide) rfl (fun ls hl => ?_)
              refine lv_goto (tgt := 34) hx hb dX4_list_52 (by decide) ?_
              exact ih_34 σ7 V7 (k9 + 1) (by omega) (hM7) (hkp7) (by omega) (fun q h1 h2 => (fV7 q h2).trans (hA q h1 h2)) ((fV7 28 (by omega)).trans hB) (fun q h1 h2 => by rw [vi_7]; unfold iup; split; rfl; exact hZ q h1 (by omega))  _ _ _ hG hS (lv_sub hl [0, 1, 2, 3] rfl)
        exact loop_34 _ σ5 V5 0 (Nat.lt_succ_self _) (hM5) (hkp5) (by omega) (fun q h1 h2 => fV5 q h1) (v28_5) (fun q h1 h2 => by omega)  _ _ _ hG hS (lv_sub hl [0, 1, 2, 3] rfl)
      · refine g_bipush hx hb dX4_list_22 (by decide) ?_
        exact g_iret hx hb hr hlocks hQ hG hS (Nat.zero_le _) (Nat.zero_le _) ⟨_, rfl, V, Iv, hM, hkp, (⟨by repeat (first | rw [if_pos (by omega)] | rw [if_neg (by omega)]), Or.inr ⟨by omega, rfl, rfl⟩⟩)⟩ dX4_list_24
    · refine g_bipush hx hb dX4_list_15 (by decide) ?_
      exact g_iret hx hb hr hlocks hQ hG hS (Nat.zero_le _) (Nat.zero_le _) ⟨_, rfl, V, Iv, hM, hkp, (⟨by repeat (first | rw [if_pos (by omega)] | rw [if_neg (by omega)]), Or.inr ⟨by omega, rfl, rfl⟩⟩)⟩ dX4_list_17
  · refine g_iconst hx hb dX4_list_7 ?_
    exact g_iret hx hb hr hlocks hQ hG hS (Nat.zero_le _) (Nat.zero_le _) ⟨_, rfl, V, Iv, hM, hkp, (⟨by repeat (first | rw [if_pos (by omega)] | rw [if_neg (by omega)]), Or.inr ⟨by omega, rfl, rfl⟩⟩)⟩ dX4_list_8

set_option maxHeartbeats 4000000 in
theorem mX4_put (l : Launch) (X : gX) (σ : gS) (o : Nat) (a : Nat → Nat) (V : Nat → Int → Int) (Iv : Nat → Int) (hM : MW X σ o a V Iv) (hT : okT (V 0)) (hLn : (∀ q : Int, 0 ≤ q → q ≤ 3 → -1 ≤ V 28 q ∧ V 28 q ≤ 12)) (i : Int) (j : Int) (v : Int)  (h0 : -2147483648 ≤ i ∧ i ≤ 2147483647) (h1 : -2147483648 ≤ j ∧ j ≤ 2147483647) (h2 : -2147483648 ≤ v ∧ v ≤ 2147483647) : gMet l X yX4_put cX4_put 4 (some .int) 2 0 0 45 σ [.ref o, .int (iI i), .int (iI j), .int (iI v)] (oI (fun r σ' => ∃ (V' : Nat → Int → Int) (I' : Nat → Int), MW X σ' o a V' I' ∧ gKeep (fun t => t = 10) σ σ' ∧ (r = (if 0 ≤ i ∧ i ≤ 3 then (if V 28 i < 0 then -11 else if 0 ≤ j ∧ j < V 28 i then 1 else -13) else -1) ∧ (((0 ≤ i ∧ i ≤ 3) ∧ 0 ≤ j ∧ j < V 28 i) ∧ V' = va_up V (40 + i.toNat) (iup (V (40 + i.toNat)) j v) ∧ I' = Iv ∨ ¬ ((0 ≤ i ∧ i ≤ 3) ∧ 0 ≤ j ∧ j < V 28 i) ∧ V' = V ∧ I' = Iv)))) := by
  refine gMet.of (by decide) (Nat.le_of_ble_eq_true rfl) ?_
  intro pp ee ss mm args below meth cd Q H locs ls hargs hx hb hr hlocks hml hown hnm hts hK hG hS hQ hl
  have hown : ss.vm.findClass RX4 = some mm.cls := hown
  have hl : lv_has ls 4 [(0, .ref o), (1, .int (iI i)), (2, .int (iI j)), (3, .int (iI v))] := hl
  have hkp : gKeep (fun t => t = 10) σ σ := gKeep.rf
  refine lv_iload_n hx hb dX4_put_0 rfl (lv_at hl 1 rfl) ?_
  refine g_callS (As := [.int (iI i)]) (rest := []) 1 hx hb hml hown hts hK hG hS hl.1 (mX4_isList l X σ  i (by omega)) q2317 q2318 q86 q2319 (by decide +kernel) rfl ⟨Nat.le_of_ble_eq_true rfl, Nat.le_of_ble_eq_true rfl⟩ ⟨Nat.le_of_ble_eq_true rfl, Nat.le_of_ble_eq_true rfl⟩ (Nat.le_of_ble_eq_true rfl) dX4_put_1 (kI (fun r1 σr1 H locs hp hG hS => ?_))
  obtain ⟨hr1, rfl⟩ := hp
  refine g_if_ne (tgt := 9) hx hb dX4_put_4 (by decide) (by omega) (fun cq2 => ?_) (fun cq2 => ?_)
  · refine lv_aload_n hx hb dX4_put_9 rfl (lv_at hl 0 rfl) ?_
    refine g_get (C := RX4) (T := TX4) (N := 30) (v := .ref (a 28)) hx hb hts hown hK hG hM.o rfl in_X4 28 (by decide) q1986 rfl rfl dX4_put_10 ?_
    refine lv_iload_n hx hb dX4_put_13 rfl (lv_at hl 1 rfl) ?_
    refine g_iald hx hb hK hG hM.a28 dX4_put_14 (by omega) ?_
    refine g_name (fun w3 ew3 => ?_)
    have hw3 : -1 ≤ w3 ∧ w3 ≤ 12 := by rw [ew3]; exact hLn _ (by omega) (by omega)
    refine g_if_ge (tgt := 21) hx hb dX4_put_15 (by decide) (by omega) (fun cq4 => ?_) (fun cq4 => ?_)
    · refine lv_iload_n hx hb dX4_put_21 rfl (lv_at hl 2 rfl) ?_
      refine g_i2l hx hb dX4_put_22 (by omega) ?_
      refine lv_lconst (v := lI 0) hx hb dX4_put_23 (by decide) ?_
      refine lv_aload_n hx hb dX4_put_24 rfl (lv_at hl 0 rfl) ?_
      refine g_get (C := RX4) (T := TX4) (N := 30) (v := .ref (a 28)) hx hb hts hown hK hG hM.o rfl in_X4 28 (by decide) q1986 rfl rfl dX4_put_25 ?_
      refine lv_iload_n hx hb dX4_put_28 rfl (lv_at hl 1 rfl) ?_
      refine g_iald hx hb hK hG hM.a28 dX4_put_29 (by omega) ?_
      refine g_name (fun w5 ew5 => ?_)
      have hw5 : -1 ≤ w5 ∧ w5 ≤ 12 := by rw [ew5]; exact hLn _ (by omega) (by omega)
      refine g_iconst hx hb dX4_put_30 ?_
      refine g_isub hx hb dX4_put_31 ?_
      refine g_i2l hx hb dX4_put_32 (by omega) ?_
      refine g_callS (As := [.long (lI j), .long (lI 0), .long (lI (w5 - 1))]) (rest := []) 3 hx hb hml hown hts hK hG hS hl.1 (mX4_in l X σ  j 0 (w5 - 1) (by omega) (by omega) (by omega)) q2056 q2057 q86 q2058 (by decide +kernel) rfl ⟨Nat.le_of_ble_eq_true rfl, Nat.le_of_ble_eq_true rfl⟩ ⟨Nat.le_of_ble_eq_true rfl, Nat.le_of_ble_eq_true rfl⟩ (Nat.le_of_ble_eq_true rfl) dX4_put_33 (kI (fun r6 σr6 H locs hp hG hS => ?_))
      obtain ⟨hr6, rfl⟩ := hp
      refine g_if_ne (tgt := 42) hx hb dX4_put_36 (by decide) (by omega) (fun cq7 => ?_) (fun cq7 => ?_)
      · refine lv_aload_n hx hb dX4_put_42 rfl (lv_at hl 0 rfl) ?_
        refine g_get (C := RX4) (T := TX4) (N := 30) (v := .ref (a 29)) hx hb hts hown hK hG hM.o rfl in_X4 29 (by decide) q1987 rfl rfl dX4_put_43 ?_
        refine lv_iload_n hx hb dX4_put_46 rfl (lv_at hl 1 rfl) ?_
        refine g_aaldA (v := .ref (a (40 + i.toNat))) hx hb 7 hK hG hM.a29 rfl dX4_put_47 (by omega) (rfl) ?_
        refine lv_iload_n hx hb dX4_put_48 rfl (lv_at hl 2 rfl) ?_
        refine lv_iload_n hx hb dX4_put_49 rfl (lv_at hl 3 rfl) ?_
        refine g_iast hx hb hK hG hS (hM.it (l := i) (by omega)) dX4_put_50 (by omega) (fun H locs hG hS => ?_)
        obtain ⟨V8, eV8⟩ : ∃ J : Nat → Int → Int, J = va_up V (40 + i.toNat) (iup (V (40 + i.toNat)) j v) := ⟨_, rfl⟩
        have vi_8 : V8 (40 + i.toNat) = (iup (V (40 + i.toNat)) j v) := by rw [eV8, va_up_self]
        have fV8 : ∀ j, j ≠ (40 + i.toNat) → V8 j = V j := fun j hj => by rw [eV8, va_up_ne _ _ hj]
        have hM8 : MW X (gup σ (a (40 + i.toNat)) (10, gI (X.2.1 0) 12 (iup (V (40 + i.toNat)) j v))) o a V8 Iv := by rw [eV8]; exact hM.its (l := i) (by omega) _
        have hkp8 : gKeep (fun t => t = 10) σ (gup σ (a (40 + i.toNat)) (10, gI (X.2.1 0) 12 (iup (V (40 + i.toNat)) j v))) := hkp.tr (gKeep.up (hM.it (l := i) (by omega)) rfl)
        generalize (gup σ (a (40 + i.toNat)) (10, gI (X.2.1 0) 12 (iup (V (40 + i.toNat)) j v))) = σ8 at hG hM8 hkp8
        refine g_iconst hx hb dX4_put_51 ?_
        exact g_iret hx hb hr hlocks hQ hG hS (Nat.zero_le _) (Nat.zero_le _) ⟨_, rfl, V8, Iv, hM8, hkp8, (⟨by repeat (first | rw [if_pos (by omega)] | rw [if_neg (by omega)]), Or.inl ⟨by omega, eV8, rfl⟩⟩)⟩ dX4_put_52
      · refine g_bipush hx hb dX4_put_39 (by decide) ?_
        exact g_iret hx hb hr hlocks hQ hG hS (Nat.zero_le _) (Nat.zero_le _) ⟨_, rfl, V, Iv, hM, hkp, (⟨by repeat (first | rw [if_pos (by omega)] | rw [if_neg (by omega)]), Or.inr ⟨by omega, rfl, rfl⟩⟩)⟩ dX4_put_41
    · refine g_bipush hx hb dX4_put_18 (by decide) ?_
      exact g_iret hx hb hr hlocks hQ hG hS (Nat.zero_le _) (Nat.zero_le _) ⟨_, rfl, V, Iv, hM, hkp, (⟨by repeat (first | rw [if_pos (by omega)] | rw [if_neg (by omega)]), Or.inr ⟨by omega, rfl, rfl⟩⟩)⟩ dX4_put_20
  · refine g_iconst hx hb dX4_put_7 ?_
    exact g_iret hx hb hr hlocks hQ hG hS (Nat.zero_le _) (Nat.zero_le _) ⟨_, rfl, V, Iv, hM, hkp, (⟨by repeat (first | rw [if_pos (by omega)] | rw [if_neg (by omega)]), Or.inr ⟨by omega, rfl, rfl⟩⟩)⟩ dX4_put_8

set_option maxHeartbeats 4000000 in
theorem mX4_get (l : Launch) (X : gX) (σ : gS) (o : Nat) (a : Nat → Nat) (V : Nat → Int → Int) (Iv : Nat → Int) (hM : MW X σ o a V Iv) (hT : okT (V 0)) (i : Int) (j : Int) (h0 : (∀ q : Int, 0 ≤ q → q ≤ 3 → -1 ≤ V 28 q ∧ V 28 q ≤ 12)) (h1 : (∀ q z : Int, 0 ≤ q → q ≤ 3 → -2147483648 ≤ V (40 + q.toNat) z ∧ V (40 + q.toNat) z ≤ 2147483647)) (h2 : -2147483648 ≤ i ∧ i ≤ 2147483647) (h3 : -2147483648 ≤ j ∧ j ≤ 2147483647) : gMet l X yX4_get cX4_get 3 (some .long) 2 0 0 45 σ [.ref o, .int (iI i), .int (iI j)] (oL (fun r σ' => r = (if (0 ≤ i ∧ i ≤ 3) ∧ 0 ≤ j ∧ j < V 28 i then lI (V (40 + i.toNat) j) else noL) ∧ σ = σ')) := by
  refine gMet.of (by decide) (Nat.le_of_ble_eq_true rfl) ?_
  intro pp ee ss mm args below meth cd Q H locs ls hargs hx hb hr hlocks hml hown hnm hts hK hG hS hQ hl
  have hown : ss.vm.findClass RX4 = some mm.cls := hown
  have hl : lv_has ls 3 [(0, .ref o), (1, .int (iI i)), (2, .int (iI j))] := hl
  have hLn := h0
  refine lv_iload_n hx hb dX4_get_0 rfl (lv_at hl 1 rfl) ?_
  refine g_callS (As := [.int (iI i)]) (rest := []) 1 hx hb hml hown hts hK hG hS hl.1 (mX4_isList l X σ  i (by omega)) q2317 q2318 q86 q2319 (by decide +kernel) rfl ⟨Nat.le_of_ble_eq_true rfl, Nat.le_of_ble_eq_true rfl⟩ ⟨Nat.le_of_ble_eq_true rfl, Nat.le_of_ble_eq_true rfl⟩ (Nat.le_of_ble_eq_true rfl) dX4_get_1 (kI (fun r1 σr1 H locs hp hG hS => ?_))
  obtain ⟨hr1, rfl⟩ := hp
  refine g_if_eq (tgt := 37) hx hb dX4_get_4 (by decide) (by omega) (fun cq2 => ?_) (fun cq2 => ?_)
  · refine g_ldc2 hx hb (-9223372036854775808) hown (hts _ q2127) (by decide) dX4_get_37 ?_
    exact g_lret hx hb hr hlocks hQ hG hS (Nat.zero_le _) (Nat.zero_le _) ⟨_, rfl, (by rw [if_neg (by omega)]; rfl), rfl⟩ dX4_get_40
  · refine lv_iload_n hx hb dX4_get_7 rfl (lv_at hl 2 rfl) ?_
    refine g_i2l hx hb dX4_get_8 (by omega) ?_
    refine lv_lconst (v := lI 0) hx hb dX4_get_9 (by decide) ?_
    refine lv_aload_n hx hb dX4_get_10 rfl (lv_at hl 0 rfl) ?_
    refine g_get (C := RX4) (T := TX4) (N := 30) (v := .ref (a 28)) hx hb hts hown hK hG hM.o rfl in_X4 28 (by decide) q1986 rfl rfl dX4_get_11 ?_
    refine lv_iload_n hx hb dX4_get_14 rfl (lv_at hl 1 rfl) ?_
    refine g_iald hx hb hK hG hM.a28 dX4_get_15 (by omega) ?_
    refine g_name (fun w3 ew3 => ?_)
    have hw3 : -1 ≤ w3 ∧ w3 ≤ 12 := by rw [ew3]; exact hLn _ (by omega) (by omega)
    refine g_iconst hx hb dX4_get_16 ?_
    refine g_isub hx hb dX4_get_17 ?_
    refine g_i2l hx hb dX4_get_18 (by omega) ?_
    refine g_callS (As := [.long (lI j), .long (lI 0), .long (lI (w3 - 1))]) (rest := []) 3 hx hb hml hown hts hK hG hS hl.1 (mX4_in l X σ  j 0 (w3 - 1) (by omega) (by omega) (by omega)) q2056 q2057 q86 q2058 (by decide +kernel) rfl ⟨Nat.le_of_ble_eq_true rfl, Nat.le_of_ble_eq_true rfl⟩ ⟨Nat.le_of_ble_eq_true rfl, Nat.le_of_ble_eq_true rfl⟩ (Nat.le_of_ble_eq_true rfl) dX4_get_19 (kI (fun r4 σr4 H locs hp hG hS => ?_))
    obtain ⟨hr4, rfl⟩ := hp
    refine g_if_eq (tgt := 37) hx hb dX4_get_22 (by decide) (by omega) (fun cq5 => ?_) (fun cq5 => ?_)
    · refine g_ldc2 hx hb (-9223372036854775808) hown (hts _ q2127) (by decide) dX4_get_37 ?_
      exact g_lret hx hb hr hlocks hQ hG hS (Nat.zero_le _) (Nat.zero_le _) ⟨_, rfl, (by rw [if_neg (by omega)]; rfl), rfl⟩ dX4_get_40
    · refine lv_aload_n hx hb dX4_get_25 rfl (lv_at hl 0 rfl) ?_
      refine g_get (C := RX4) (T := TX4) (N := 30) (v := .ref (a 29)) hx hb hts hown hK hG hM.o rfl in_X4 29 (by decide) q1987 rfl rfl dX4_get_26 ?_
      refine lv_iload_n hx hb dX4_get_29 rfl (lv_at hl 1 rfl) ?_
      refine g_aaldA (v := .ref (a (40 + i.toNat))) hx hb 7 hK hG hM.a29 rfl dX4_get_30 (by omega) (rfl) ?_
      refine lv_iload_n hx hb dX4_get_31 rfl (lv_at hl 2 rfl) ?_
      refine g_iald hx hb hK hG (hM.it (l := i) (by omega)) dX4_get_32 (by omega) ?_
      have hrg := h1 i j (by omega) (by omega)
      refine g_i2l hx hb dX4_get_33 (by omega) ?_
      refine lv_goto (tgt := 40) hx hb dX4_get_34 (by decide) ?_
      exact g_lret hx hb hr hlocks hQ hG hS (Nat.zero_le _) (Nat.zero_le _) ⟨_, rfl, (by rw [if_pos (by omega)]), rfl⟩ dX4_get_40

set_option maxHeartbeats 4000000 in
theorem mX4_plan (l : Launch) (X : gX) (σ : gS) (o : Nat) (a : Nat → Nat) (V : Nat → Int → Int) (Iv : Nat → Int) (hM : MW X σ o a V Iv) (hT : okT (V 0)) (w9 : Int) (v : Int)  (h0 : (0 ≤ V 0 31 ∧ V 0 31 ≤ 8)) (h1 : -2147483648 ≤ w9 ∧ w9 ≤ 2147483647) (h2 : -2147483648 ≤ v ∧ v ≤ 2147483647) : gMet l X yX4_plan cX4_plan 4 (some .int) 1 0 0 25 σ [.ref o, .int (iI w9), .int (iI v)] (oI (fun r σ' => ∃ (V' : Nat → Int → Int) (I' : Nat → Int), MW X σ' o a V' I' ∧ gKeep (fun t => t = 10) σ σ' ∧ (r = (if w9 = -1 then 0 else if 0 ≤ w9 ∧ w9 ≤ 3 then (if (w9 < 2 → 1 ≤ v ∧ v ≤ 9) ∧ (w9 = 2 → 0 ≤ v ∧ v ≤ 1) then (if V 0 31 = 8 then -4 else V 0 31 + 1) else -2) else -1) ∧ (w9 = -1 ∧ ((∀ q, q ≠ 0 → V' q = V q) ∧ (∀ q : Int, q < 31 → V' 0 q = V 0 q) ∧ V' 0 31 = 0) ∧ I' = Iv ∨ ((0 ≤ w9 ∧ w9 ≤ 3) ∧ (w9 < 2 → 1 ≤ v ∧ v ≤ 9) ∧ (w9 = 2 → 0 ≤ v ∧ v ≤ 1) ∧ ¬ V 0 31 = 8) ∧ V' = va_up V 0 (iup (iup (iup (V 0) (32 + V 0 31) w9) (40 + V 0 31) v) 31 (V 0 31 + 1)) ∧ I' = Iv ∨ ¬ w9 = -1 ∧ ¬ ((0 ≤ w9 ∧ w9 ≤ 3) ∧ (w9 < 2 → 1 ≤ v ∧ v ≤ 9) ∧ (w9 = 2 → 0 ≤ v ∧ v ≤ 1) ∧ ¬ V 0 31 = 8) ∧ V' = V ∧ I' = Iv)))) := by
  refine gMet.of (by decide) (Nat.le_of_ble_eq_true rfl) ?_
  intro pp ee ss mm args below meth cd Q H locs ls hargs hx hb hr hlocks hml hown hnm hts hK hG hS hQ hl
  have hown : ss.vm.findClass RX4 = some mm.cls := hown
  have hl : lv_has ls 4 [(0, .ref o), (1, .int (iI w9)), (2, .int (iI v))] := hl
  have hkp : gKeep (fun t => t = 10) σ σ := gKeep.rf
  refine lv_iload_n hx hb dX4_plan_0 rfl (lv_at hl 1 rfl) ?_
  refine g_iconst hx hb dX4_plan_1 ?_
  refine g_icmp_ne (tgt := 29) hx hb dX4_plan_2 (by decide) (by omega) (by omega) (fun cq1 => ?_) (fun cq1 => ?_)
  · refine lv_iload_n hx hb dX4_plan_29 rfl (lv_at hl 1 rfl) ?_
    refine g_i2l hx hb dX4_plan_30 (by omega) ?_
    refine lv_lconst (v := lI 0) hx hb dX4_plan_31 (by decide) ?_
    refine g_ldc2 hx hb (3) hown (hts _ q2184) (by decide) dX4_plan_32 ?_
    refine g_callS (As := [.long (lI w9), .long (lI 0), .long (lI (3))]) (rest := []) 3 hx hb hml hown hts hK hG hS hl.1 (mX4_in l X σ  w9 0 (3) (by omega) (by omega) (by omega)) q2056 q2057 q86 q2058 (by decide +kernel) rfl ⟨Nat.le_of_ble_eq_true rfl, Nat.le_of_ble_eq_true rfl⟩ ⟨Nat.le_of_ble_eq_true rfl, Nat.le_of_ble_eq_true rfl⟩ (Nat.le_of_ble_eq_true rfl) dX4_plan_35 (kI (fun r2 σr2 H locs hp hG hS => ?_))
    obtain ⟨hr2, rfl⟩ := hp
    refine g_if_ne (tgt := 43) hx hb dX4_plan_38 (by decide) (by omega) (fun cq3 => ?_) (fun cq3 => ?_)
    · refine lv_iload_n hx hb dX4_plan_43 rfl (lv_at hl 1 rfl) ?_
      refine g_iconst hx hb dX4_plan_44 ?_
      refine g_icmp_ge (tgt := 60) hx hb dX4_plan_45 (by decide) (by omega) (by omega) (fun cq4 => ?_) (fun cq4 => ?_)
      · refine lv_iload_n hx hb dX4_plan_60 rfl (lv_at hl 1 rfl) ?_
        refine g_iconst hx hb dX4_plan_61 ?_
        refine g_icmp_ne (tgt := 78) hx hb dX4_plan_62 (by decide) (by omega) (by omega) (fun cq5 => ?_) (fun cq5 => ?_)
        · refine lv_aload_n hx hb dX4_plan_78 rfl (lv_at hl 0 rfl) ?_
          refine g_get (C := RX4) (T := TX4) (N := 30) (v := .ref (a 0)) hx hb hts hown hK hG hM.o rfl in_X4 0 (by decide) q1958 rfl rfl dX4_plan_79 ?_
          refine g_bipush hx hb dX4_plan_82 (by decide) ?_
          refine g_iald hx hb hK hG hM.a0 dX4_plan_84 (by omega) ?_
          refine g_bipush hx hb dX4_plan_85 (by decide) ?_
          refine g_icmp_ne (tgt := 93) hx hb dX4_plan_87 (by decide) (by omega) (by omega) (fun cq6 => ?_) (fun cq6 => ?_)
          · refine lv_aload_n hx hb dX4_plan_93 rfl (lv_at hl 0 rfl) ?_
            refine g_get (C := RX4) (T := TX4) (N := 30) (v := .ref (a 0)) hx hb hts hown hK hG hM.o rfl in_X4 0 (by decide) q1958 rfl rfl dX4_plan_94 ?_
            refine g_bipush hx hb dX4_plan_97 (by decide) ?_
            refine lv_aload_n hx hb dX4_plan_99 rfl (lv_at hl 0 rfl) ?_
            refine g_get (C := RX4) (T := TX4) (N := 30) (v := .ref (a 0)) hx hb hts hown hK hG hM.o rfl in_X4 0 (by decide) q1958 rfl rfl dX4_plan_100 ?_
            refine g_bipush hx hb dX4_plan_103 (by decide) ?_
            refine g_iald hx hb hK hG hM.a0 dX4_plan_105 (by omega) ?_
            refine g_iadd hx hb dX4_plan_106 ?_
            refine lv_iload_n hx hb dX4_plan_107 rfl (lv_at hl 1 rfl) ?_
            refine g_iast hx hb hK hG hS hM.a0 dX4_plan_108 (by omega) (fun H locs hG hS => ?_)
            obtain ⟨V7, eV7⟩ : ∃ J : Nat → Int → Int, J = va_up V 0 (iup (V 0) (32 + ((V 0) 31)) w9) := ⟨_, rfl⟩
            have v0_7 : V7 0 = (iup (V 0) (32 + ((V 0) 31)) w9) := by rw [eV7, va_up_self]
            have fV7 : ∀ j, j ≠ 0 → V7 j = V j := fun j hj => by rw [eV7, va_up_ne _ _ hj]
            have hM7 : MW X (gup σ (a 0) (10, gI (X.2.1 0) 48 (iup (V 0) (32 + ((V 0) 31)) w9))) o a V7 Iv := by rw [eV7]; exact hM.set 0 rfl _
            have hkp7 : gKeep (fun t => t = 10) σ (gup σ (a 0) (10, gI (X.2.1 0) 48 (iup (V 0) (32 + ((V 0) 31)) w9))) := hkp.tr (gKeep.up hM.a0 rfl)
            generalize (gup σ (a 0) (10, gI (X.2.1 0) 48 (iup (V 0) (32 + ((V 0) 31)) w9))) = σ7 at hG hM7 hkp7
            have u0_7 : V7 0 = iup (V 0) (32 + V 0 31) w9 := v0_7
            have z0_7 : V7 0 31 = V 0 31 := by rw [u0_7, iup_n (by omega)]
            refine lv_aload_n hx hb dX4_plan_109 rfl (lv_at hl 0 rfl) ?_
            refine g_get (C := RX4) (T := TX4) (N := 30) (v := .ref (a 0)) hx hb hts hown hK hG hM7.o rfl in_X4 0 (by decide) q1958 rfl rfl dX4_plan_110 ?_
            refine g_bipush hx hb dX4_plan_113 (by decide) ?_
            refine lv_aload_n hx hb dX4_plan_115 rfl (lv_at hl 0 rfl) ?_
            refine g_get (C := RX4) (T := TX4) (N := 30) (v := .ref (a 0)) hx hb hts hown hK hG hM7.o rfl in_X4 0 (by decide) q1958 rfl rfl dX4_plan_116 ?_
            refine g_bipush hx hb dX4_plan_119 (by decide) ?_
            refine g_iald hx hb hK hG hM7.a0 dX4_plan_121 (by omega) ?_
            refine g_rw (b := (V 0 31)) (z0_7) ?_
            refine g_iadd hx hb dX4_plan_122 ?_
            refine lv_iload_n hx hb dX4_plan_123 rfl (lv_at hl 2 rfl) ?_
            refine g_iast hx hb hK hG hS hM7.a0 dX4_plan_124 (by omega) (fun H locs hG hS => ?_)
            obtain ⟨V8, eV8⟩ : ∃ J : Nat → Int → Int, J = va_up V7 0 (iup (V7 0) (40 + (V 0 31)) v) := ⟨_, rfl⟩
            have v0_8 : V8 0 = (iup (V7 0) (40 + (V 0 31)) v) := by rw [eV8, va_up_self]
            have fV8 : ∀ j, j ≠ 0 → V8 j = V7 j := fun j hj => by rw [eV8, va_up_ne _ _ hj]
            have hM8 : MW X (gup σ7 (a 0) (10, gI (X.2.1 0) 48 (iup (V7 0) (40 + (V 0 31)) v))) o a V8 Iv := by rw [eV8]; exact hM7.set 0 rfl _
            have hkp8 : gKeep (fun t => t = 10) σ (gup σ7 (a 0) (10, gI (X.2.1 0) 48 (iup (V7 0) (40 + (V 0 31)) v))) := hkp7.tr (gKeep.up hM7.a0 rfl)
            generalize (gup σ7 (a 0) (10, gI (X.2.1 0) 48 (iup (V7 0) (40 + (V 0 31)) v))) = σ8 at hG hM8 hkp8
            have u0_8 : V8 0 = iup (iup (V 0) (32 + V 0 31) w9) (40 + V 0 31) v := by rw [v0_8, u0_7]
            have z0_8 : V8 0 31 = V 0 31 := by rw [u0_8, iup_n (by omega), iup_n (by omega)]
            refine lv_aload_n hx hb dX4_plan_125 rfl (lv_at hl 0 rfl) ?_
            refine g_get (C := RX4) (T := TX4) (N := 30) (v := .ref (a 0)) hx hb hts hown hK hG hM8.o rfl in_X4 0 (by decide) q1958 rfl rfl dX4_plan_126 ?_
            refine g_bipush hx hb dX4_plan_129 (by decide) ?_
            refine lv_dup2_11 hx hb dX4_plan_131 rfl rfl ?_
            refine g_iald hx hb hK hG hM8.a0 dX4_plan_132 (by omega) ?_
            refine g_rw (b := (V 0 31)) (z0_8) ?_
            refine g_iconst hx hb dX4_plan_133 ?_
            refine g_iadd hx hb dX4_plan_134 ?_
            refine g_iast hx hb hK hG hS hM8.a0 dX4_plan_135 (by omega) (fun H locs hG hS => ?_)
            obtain ⟨V9, eV9⟩ : ∃ J : Nat → Int → Int, J = va_up V8 0 (iup (V8 0) 31 ((V 0 31) + 1)) := ⟨_, rfl⟩
            have v0_9 : V9 0 = (iup (V8 0) 31 ((V 0 31) + 1)) := by rw [eV9, va_up_self]
            have fV9 : ∀ j, j ≠ 0 → V9 j = V8 j := fun j hj => by rw [eV9, va_up_ne _ _ hj]
            have hM9 : MW X (gup σ8 (a 0) (10, gI (X.2.1 0) 48 (iup (V8 0) 31 ((V 0 31) + 1)))) o a V9 Iv := by rw [eV9]; exact hM8.set 0 rfl _
            have hkp9 : gKeep (fun t => t = 10) σ (gup σ8 (a 0) (10, gI (X.2.1 0) 48 (iup (V8 0) 31 ((V 0 31) + 1)))) := hkp8.tr (gKeep.up hM8.a0 rfl)
            generalize (gup σ8 (a 0) (10, gI (X.2.1 0) 48 (iup (V8 0) 31 ((V 0 31) + 1)))) = σ9 at hG hM9 hkp9
            have u0_9 : V9 0 = iup (iup (iup (V 0) (32 + V 0 31) w9) (40 + V 0 31) v) 31 (V 0 31 + 1) := by rw [v0_9, u0_8]
            have z0_9 : V9 0 31 = V 0 31 + 1 := by rw [u0_9, iup_s]
            have y_9 : V9 = va_up V 0 (iup (iup (iup (V 0) (32 + V 0 31) w9) (40 + V 0 31) v) 31 (V 0 31 + 1)) := by rw [eV9, ← v0_9, u0_9, eV8, va_up_2, eV7, va_up_2]
            refine lv_aload_n hx hb dX4_plan_136 rfl (lv_at hl 0 rfl) ?_
            refine g_get (C := RX4) (T := TX4) (N := 30) (v := .ref (a 0)) hx hb hts hown hK hG hM9.o rfl in_X4 0 (by decide) q1958 rfl rfl dX4_plan_137 ?_
            refine g_bipush hx hb dX4_plan_140 (by decide) ?_
            refine g_iald hx hb hK hG hM9.a0 dX4_plan_142 (by omega) ?_
            refine g_rw (b := (V 0 31 + 1)) (z0_9) ?_
            exact g_iret hx hb hr hlocks hQ hG hS (Nat.zero_le _) (Nat.zero_le _) ⟨_, rfl, V9, Iv, hM9, hkp9, (⟨by rw [if_neg (by omega), if_pos (by omega), if_pos (by omega), if_neg (by omega)], Or.inr (Or.inl ⟨by omega, y_9, rfl⟩)⟩)⟩ dX4_plan_143
          · refine g_bipush hx hb dX4_plan_90 (by decide) ?_
            exact g_iret hx hb hr hlocks hQ hG hS (Nat.zero_le _) (Nat.zero_le _) ⟨_, rfl, V, Iv, hM, hkp, (⟨by first | (exfalso; omega) | (repeat (first | rw [if_pos (by omega)] | rw [if_neg (by omega)])), Or.inr (Or.inr ⟨by omega, by omega, rfl, rfl⟩)⟩)⟩ dX4_plan_92
        · refine lv_iload_n hx hb dX4_plan_65 rfl (lv_at hl 2 rfl) ?_
          refine g_i2l hx hb dX4_plan_66 (by omega) ?_
          refine lv_lconst (v := lI 0) hx hb dX4_plan_67 (by decide) ?_
          refine lv_lconst (v := lI 1) hx hb dX4_plan_68 (by decide) ?_
          refine g_callS (As := [.long (lI v), .long (lI 0), .long (lI 1)]) (rest := []) 3 hx hb hml hown hts hK hG hS hl.1 (mX4_in l X σ  v 0 1 (by omega) (by omega) (by omega)) q2056 q2057 q86 q2058 (by decide +kernel) rfl ⟨Nat.le_of_ble_eq_true rfl, Nat.le_of_ble_eq_true rfl⟩ ⟨Nat.le_of_ble_eq_true rfl, Nat.le_of_ble_eq_true rfl⟩ (Nat.le_of_ble_eq_true rfl) dX4_plan_69 (kI (fun r10 σr10 H locs hp hG hS => ?_))
          obtain ⟨hr10, rfl⟩ := hp
          refine g_if_ne (tgt := 78) hx hb dX4_plan_72 (by decide) (by omega) (fun cq11 => ?_) (fun cq11 => ?_)
          · refine lv_aload_n hx hb dX4_plan_78 rfl (lv_at hl 0 rfl) ?_
            refine g_get (C := RX4) (T := TX4) (N := 30) (v := .ref (a 0)) hx hb hts hown hK hG hM.o rfl in_X4 0 (by decide) q1958 rfl rfl dX4_plan_79 ?_
            refine g_bipush hx hb dX4_plan_82 (by decide) ?_
            refine g_iald hx hb hK hG hM.a0 dX4_plan_84 (by omega) ?_
            refine g_bipush hx hb dX4_plan_85 (by decide) ?_
            refine g_icmp_ne (tgt := 93) hx hb dX4_plan_87 (by decide) (by omega) (by omega) (fun cq12 => ?_) (fun cq12 => ?_)
            · refine lv_aload_n hx hb dX4_plan_93 rfl (lv_at hl 0 rfl) ?_
              refine g_get (C := RX4) (T := TX4) (N := 30) (v := .ref (a 0)) hx hb hts hown hK hG hM.o rfl in_X4 0 (by decide) q1958 rfl rfl dX4_plan_94 ?_
              refine g_bipush hx hb dX4_plan_97 (by decide) ?_
              refine lv_aload_n hx hb dX4_plan_99 rfl (lv_at hl 0 rfl) ?_
              refine g_get (C := RX4) (T := TX4) (N := 30) (v := .ref (a 0)) hx hb hts hown hK hG hM.o rfl in_X4 0 (by decide) q1958 rfl rfl dX4_plan_100 ?_
              refine g_bipush hx hb dX4_plan_103 (by decide) ?_
              refine g_iald hx hb hK hG hM.a0 dX4_plan_105 (by omega) ?_
              refine g_iadd hx hb dX4_plan_106 ?_
              refine lv_iload_n hx hb dX4_plan_107 rfl (lv_at hl 1 rfl) ?_
              refine g_iast hx hb hK hG hS hM.a0 dX4_plan_108 (by omega) (fun H locs hG hS => ?_)
              obtain ⟨V13, eV13⟩ : ∃ J : Nat → Int → Int, J = va_up V 0 (iup (V 0) (32 + ((V 0) 31)) w9) := ⟨_, rfl⟩
              have v0_13 : V13 0 = (iup (V 0) (32 + ((V 0) 31)) w9) := by rw [eV13, va_up_self]
              have fV13 : ∀ j, j ≠ 0 → V13 j = V j := fun j hj => by rw [eV13, va_up_ne _ _ hj]
              have hM13 : MW X (gup σ (a 0) (10, gI (X.2.1 0) 48 (iup (V 0) (32 + ((V 0) 31)) w9))) o a V13 Iv := by rw [eV13]; exact hM.set 0 rfl _
              have hkp13 : gKeep (fun t => t = 10) σ (gup σ (a 0) (10, gI (X.2.1 0) 48 (iup (V 0) (32 + ((V 0) 31)) w9))) := hkp.tr (gKeep.up hM.a0 rfl)
              generalize (gup σ (a 0) (10, gI (X.2.1 0) 48 (iup (V 0) (32 + ((V 0) 31)) w9))) = σ13 at hG hM13 hkp13
              have u0_13 : V13 0 = iup (V 0) (32 + V 0 31) w9 := v0_13
              have z0_13 : V13 0 31 = V 0 31 := by rw [u0_13, iup_n (by omega)]
              refine lv_aload_n hx hb dX4_plan_109 rfl (lv_at hl 0 rfl) ?_
              refine g_get (C := RX4) (T := TX4) (N := 30) (v := .ref (a 0)) hx hb hts hown hK hG hM13.o rfl in_X4 0 (by decide) q1958 rfl rfl dX4_plan_110 ?_
              refine g_bipush hx hb dX4_plan_113 (by decide) ?_
              refine lv_aload_n hx hb dX4_plan_115 rfl (lv_at hl 0 rfl) ?_
              refine g_get (C := RX4) (T := TX4) (N := 30) (v := .ref (a 0)) hx hb hts hown hK hG hM13.o rfl in_X4 0 (by decide) q1958 rfl rfl dX4_plan_116 ?_
              refine g_bipush hx hb dX4_plan_119 (by decide) ?_
              refine g_iald hx hb hK hG hM13.a0 dX4_plan_121 (by omega) ?_
              refine g_rw (b := (V 0 31)) (z0_13) ?_
              refine g_iadd hx hb dX4_plan_122 ?_
              refine lv_iload_n hx hb dX4_plan_123 rfl (lv_at hl 2 rfl) ?_
              refine g_iast hx hb hK hG hS hM13.a0 dX4_plan_124 (by omega) (fun H locs hG hS => ?_)
              obtain ⟨V14, eV14⟩ : ∃ J : Nat → Int → Int, J = va_up V13 0 (iup (V13 0) (40 + (V 0 31)) v) := ⟨_, rfl⟩
              have v0_14 : V14 0 = (iup (V13 0) (40 + (V 0 31)) v) := by rw [eV14, va_up_self]
              have fV14 : ∀ j, j ≠ 0 → V14 j = V13 j := fun j hj => by rw [eV14, va_up_ne _ _ hj]
              have hM14 : MW X (gup σ13 (a 0) (10, gI (X.2.1 0) 48 (iup (V13 0) (40 + (V 0 31)) v))) o a V14 Iv := by rw [eV14]; exact hM13.set 0 rfl _
              have hkp14 : gKeep (fun t => t = 10) σ (gup σ13 (a 0) (10, gI (X.2.1 0) 48 (iup (V13 0) (40 + (V 0 31)) v))) := hkp13.tr (gKeep.up hM13.a0 rfl)
              generalize (gup σ13 (a 0) (10, gI (X.2.1 0) 48 (iup (V13 0) (40 + (V 0 31)) v))) = σ14 at hG hM14 hkp14
              have u0_14 : V14 0 = iup (iup (V 0) (32 + V 0 31) w9) (40 + V 0 31) v := by rw [v0_14, u0_13]
              have z0_14 : V14 0 31 = V 0 31 := by rw [u0_14, iup_n (by omega), iup_n (by omega)]
              refine lv_aload_n hx hb dX4_plan_125 rfl (lv_at hl 0 rfl) ?_
              refine g_get (C := RX4) (T := TX4) (N := 30) (v := .ref (a 0)) hx hb hts hown hK hG hM14.o rfl in_X4 0 (by decide) q1958 rfl rfl dX4_plan_126 ?_
              refine g_bipush hx hb dX4_plan_129 (by decide) ?_
              refine lv_dup2_11 hx hb dX4_plan_131 rfl rfl ?_
              refine g_iald hx hb hK hG hM14.a0 dX4_plan_132 (by omega) ?_
              refine g_rw (b := (V 0 31)) (z0_14) ?_
              refine g_iconst hx hb dX4_plan_133 ?_
              refine g_iadd hx hb dX4_plan_134 ?_
              refine g_iast hx hb hK hG hS hM14.a0 dX4_plan_135 (by omega) (fun H locs hG hS => ?_)
              obtain ⟨V15, eV15⟩ : ∃ J : Nat → Int → Int, J = va_up V14 0 (iup (V14 0) 31 ((V 0 31) + 1)) := ⟨_, rfl⟩
              have v0_15 : V15 0 = (iup (V14 0) 31 ((V 0 31) + 1)) := by rw [eV15, va_up_self]
              have fV15 : ∀ j, j ≠ 0 → V15 j = V14 j := fun j hj => by rw [eV15, va_up_ne _ _ hj]
              have hM15 : MW X (gup σ14 (a 0) (10, gI (X.2.1 0) 48 (iup (V14 0) 31 ((V 0 31) + 1)))) o a V15 Iv := by rw [eV15]; exact hM14.set 0 rfl _
              have hkp15 : gKeep (fun t => t = 10) σ (gup σ14 (a 0) (10, gI (X.2.1 0) 48 (iup (V14 0) 31 ((V 0 31) + 1)))) := hkp14.tr (gKeep.up hM14.a0 rfl)
              generalize (gup σ14 (a 0) (10, gI (X.2.1 0) 48 (iup (V14 0) 31 ((V 0 31) + 1)))) = σ15 at hG hM15 hkp15
              have u0_15 : V15 0 = iup (iup (iup (V 0) (32 + V 0 31) w9) (40 + V 0 31) v) 31 (V 0 31 + 1) := by rw [v0_15, u0_14]
              have z0_15 : V15 0 31 = V 0 31 + 1 := by rw [u0_15, iup_s]
              have y_15 : V15 = va_up V 0 (iup (iup (iup (V 0) (32 + V 0 31) w9) (40 + V 0 31) v) 31 (V 0 31 + 1)) := by rw [eV15, ← v0_15, u0_15, eV14, va_up_2, eV13, va_up_2]
              refine lv_aload_n hx hb dX4_plan_136 rfl (lv_at hl 0 rfl) ?_
              refine g_get (C := RX4) (T := TX4) (N := 30) (v := .ref (a 0)) hx hb hts hown hK hG hM15.o rfl in_X4 0 (by decide) q1958 rfl rfl dX4_plan_137 ?_
              refine g_bipush hx hb dX4_plan_140 (by decide) ?_
              refine g_iald hx hb hK hG hM15.a0 dX4_plan_142 (by omega) ?_
              refine g_rw (b := (V 0 31 + 1)) (z0_15) ?_
              exact g_iret hx hb hr hlocks hQ hG hS (Nat.zero_le _) (Nat.zero_le _) ⟨_, rfl, V15, Iv, hM15, hkp15, (⟨by rw [if_neg (by omega), if_pos (by omega), if_pos (by omega), if_neg (by omega)], Or.inr (Or.inl ⟨by omega, y_15, rfl⟩)⟩)⟩ dX4_plan_143
            · refine g_bipush hx hb dX4_plan_90 (by decide) ?_
              exact g_iret hx hb hr hlocks hQ hG hS (Nat.zero_le _) (Nat.zero_le _) ⟨_, rfl, V, Iv, hM, hkp, (⟨by first | (exfalso; omega) | (repeat (first | rw [if_pos (by omega)] | rw [if_neg (by omega)])), Or.inr (Or.inr ⟨by omega, by omega, rfl, rfl⟩)⟩)⟩ dX4_plan_92
          · refine g_bipush hx hb dX4_plan_75 (by decide) ?_
            exact g_iret hx hb hr hlocks hQ hG hS (Nat.zero_le _) (Nat.zero_le _) ⟨_, rfl, V, Iv, hM, hkp, (⟨by first | (exfalso; omega) | (repeat (first | rw [if_pos (by omega)] | rw [if_neg (by omega)])), Or.inr (Or.inr ⟨by omega, by omega, rfl, rfl⟩)⟩)⟩ dX4_plan_77
      · refine lv_iload_n hx hb dX4_plan_48 rfl (lv_at hl 2 rfl) ?_
        refine g_i2l hx hb dX4_plan_49 (by omega) ?_
        refine lv_lconst (v := lI 1) hx hb dX4_plan_50 (by decide) ?_
        refine g_ldc2 hx hb (9) hown (hts _ q2272) (by decide) dX4_plan_51 ?_
        refine g_callS (As := [.long (lI v), .long (lI 1), .long (lI (9))]) (rest := []) 3 hx hb hml hown hts hK hG hS hl.1 (mX4_in l X σ  v 1 (9) (by omega) (by omega) (by omega)) q2056 q2057 q86 q2058 (by decide +kernel) rfl ⟨Nat.le_of_ble_eq_true rfl, Nat.le_of_ble_eq_true rfl⟩ ⟨Nat.le_of_ble_eq_true rfl, Nat.le_of_ble_eq_true rfl⟩ (Nat.le_of_ble_eq_true rfl) dX4_plan_54 (kI (fun r16 σr16 H locs hp hG hS => ?_))
        obtain ⟨hr16, rfl⟩ := hp
        refine g_if_eq (tgt := 75) hx hb dX4_plan_57 (by decide) (by omega) (fun cq17 => ?_) (fun cq17 => ?_)
        · refine g_bipush hx hb dX4_plan_75 (by decide) ?_
          exact g_iret hx hb hr hlocks hQ hG hS (Nat.zero_le _) (Nat.zero_le _) ⟨_, rfl, V, Iv, hM, hkp, (⟨by first | (exfalso; omega) | (repeat (first | rw [if_pos (by omega)] | rw [if_neg (by omega)])), Or.inr (Or.inr ⟨by omega, by omega, rfl, rfl⟩)⟩)⟩ dX4_plan_77
        · refine lv_iload_n hx hb dX4_plan_60 rfl (lv_at hl 1 rfl) ?_
          refine g_iconst hx hb dX4_plan_61 ?_
          refine g_icmp_ne (tgt := 78) hx hb dX4_plan_62 (by decide) (by omega) (by omega) (fun cq18 => ?_) (fun cq18 => ?_)
          · refine lv_aload_n hx hb dX4_plan_78 rfl (lv_at hl 0 rfl) ?_
            refine g_get (C := RX4) (T := TX4) (N := 30) (v := .ref (a 0)) hx hb hts hown hK hG hM.o rfl in_X4 0 (by decide) q1958 rfl rfl dX4_plan_79 ?_
            refine g_bipush hx hb dX4_plan_82 (by decide) ?_
            refine g_iald hx hb hK hG hM.a0 dX4_plan_84 (by omega) ?_
            refine g_bipush hx hb dX4_plan_85 (by decide) ?_
            refine g_icmp_ne (tgt := 93) hx hb dX4_plan_87 (by decide) (by omega) (by omega) (fun cq19 => ?_) (fun cq19 => ?_)
            · refine lv_aload_n hx hb dX4_plan_93 rfl (lv_at hl 0 rfl) ?_
              refine g_get (C := RX4) (T := TX4) (N := 30) (v := .ref (a 0)) hx hb hts hown hK hG hM.o rfl in_X4 0 (by decide) q1958 rfl rfl dX4_plan_94 ?_
              refine g_bipush hx hb dX4_plan_97 (by decide) ?_
              refine lv_aload_n hx hb dX4_plan_99 rfl (lv_at hl 0 rfl) ?_
              refine g_get (C := RX4) (T := TX4) (N := 30) (v := .ref (a 0)) hx hb hts hown hK hG hM.o rfl in_X4 0 (by decide) q1958 rfl rfl dX4_plan_100 ?_
              refine g_bipush hx hb dX4_plan_103 (by decide) ?_
              refine g_iald hx hb hK hG hM.a0 dX4_plan_105 (by omega) ?_
              refine g_iadd hx hb dX4_plan_106 ?_
              refine lv_iload_n hx hb dX4_plan_107 rfl (lv_at hl 1 rfl) ?_
              refine g_iast hx hb hK hG hS hM.a0 dX4_plan_108 (by omega) (fun H locs hG hS => ?_)
              obtain ⟨V20, eV20⟩ : ∃ J : Nat → Int → Int, J = va_up V 0 (iup (V 0) (32 + ((V 0) 31)) w9) := ⟨_, rfl⟩
              have v0_20 : V20 0 = (iup (V 0) (32 + ((V 0) 31)) w9) := by rw [eV20, va_up_self]
              have fV20 : ∀ j, j ≠ 0 → V20 j = V j := fun j hj => by rw [eV20, va_up_ne _ _ hj]
              have hM20 : MW X (gup σ (a 0) (10, gI (X.2.1 0) 48 (iup (V 0) (32 + ((V 0) 31)) w9))) o a V20 Iv := by rw [eV20]; exact hM.set 0 rfl _
              have hkp20 : gKeep (fun t => t = 10) σ (gup σ (a 0) (10, gI (X.2.1 0) 48 (iup (V 0) (32 + ((V 0) 31)) w9))) := hkp.tr (gKeep.up hM.a0 rfl)
              generalize (gup σ (a 0) (10, gI (X.2.1 0) 48 (iup (V 0) (32 + ((V 0) 31)) w9))) = σ20 at hG hM20 hkp20
              have u0_20 : V20 0 = iup (V 0) (32 + V 0 31) w9 := v0_20
              have z0_20 : V20 0 31 = V 0 31 := by rw [u0_20, iup_n (by omega)]
              refine lv_aload_n hx hb dX4_plan_109 rfl (lv_at hl 0 rfl) ?_
              refine g_get (C := RX4) (T := TX4) (N := 30) (v := .ref (a 0)) hx hb hts hown hK hG hM20.o rfl in_X4 0 (by decide) q1958 rfl rfl dX4_plan_110 ?_
              refine g_bipush hx hb dX4_plan_113 (by decide) ?_
              refine lv_aload_n hx hb dX4_plan_115 rfl (lv_at hl 0 rfl) ?_
              refine g_get (C := RX4) (T := TX4) (N := 30) (v := .ref (a 0)) hx hb hts hown hK hG hM20.o rfl in_X4 0 (by decide) q1958 rfl rfl dX4_plan_116 ?_
              refine g_bipush hx hb dX4_plan_119 (by decide) ?_
              refine g_iald hx hb hK hG hM20.a0 dX4_plan_121 (by omega) ?_
              refine g_rw (b := (V 0 31)) (z0_20) ?_
              refine g_iadd hx hb dX4_plan_122 ?_
              refine lv_iload_n hx hb dX4_plan_123 rfl (lv_at hl 2 rfl) ?_
              refine g_iast hx hb hK hG hS hM20.a0 dX4_plan_124 (by omega) (fun H locs hG hS => ?_)
              obtain ⟨V21, eV21⟩ : ∃ J : Nat → Int → Int, J = va_up V20 0 (iup (V20 0) (40 + (V 0 31)) v) := ⟨_, rfl⟩
              have v0_21 : V21 0 = (iup (V20 0) (40 + (V 0 31)) v) := by rw [eV21, va_up_self]
              have fV21 : ∀ j, j ≠ 0 → V21 j = V20 j := fun j hj => by rw [eV21, va_up_ne _ _ hj]
              have hM21 : MW X (gup σ20 (a 0) (10, gI (X.2.1 0) 48 (iup (V20 0) (40 + (V 0 31)) v))) o a V21 Iv := by rw [eV21]; exact hM20.set 0 rfl _
              have hkp21 : gKeep (fun t => t = 10) σ (gup σ20 (a 0) (10, gI (X.2.1 0) 48 (iup (V20 0) (40 + (V 0 31)) v))) := hkp20.tr (gKeep.up hM20.a0 rfl)
              generalize (gup σ20 (a 0) (10, gI (X.2.1 0) 48 (iup (V20 0) (40 + (V 0 31)) v))) = σ21 at hG hM21 hkp21
              have u0_21 : V21 0 = iup (iup (V 0) (32 + V 0 31) w9) (40 + V 0 31) v := by rw [v0_21, u0_20]
              have z0_21 : V21 0 31 = V 0 31 := by rw [u0_21, iup_n (by omega), iup_n (by omega)]
              refine lv_aload_n hx hb dX4_plan_125 rfl (lv_at hl 0 rfl) ?_
              refine g_get (C := RX4) (T := TX4) (N := 30) (v := .ref (a 0)) hx hb hts hown hK hG hM21.o rfl in_X4 0 (by decide) q1958 rfl rfl dX4_plan_126 ?_
              refine g_bipush hx hb dX4_plan_129 (by decide) ?_
              refine lv_dup2_11 hx hb dX4_plan_131 rfl rfl ?_
              refine g_iald hx hb hK hG hM21.a0 dX4_plan_132 (by omega) ?_
              refine g_rw (b := (V 0 31)) (z0_21) ?_
              refine g_iconst hx hb dX4_plan_133 ?_
              refine g_iadd hx hb dX4_plan_134 ?_
              refine g_iast hx hb hK hG hS hM21.a0 dX4_plan_135 (by omega) (fun H locs hG hS => ?_)
              obtain ⟨V22, eV22⟩ : ∃ J : Nat → Int → Int, J = va_up V21 0 (iup (V21 0) 31 ((V 0 31) + 1)) := ⟨_, rfl⟩
              have v0_22 : V22 0 = (iup (V21 0) 31 ((V 0 31) + 1)) := by rw [eV22, va_up_self]
              have fV22 : ∀ j, j ≠ 0 → V22 j = V21 j := fun j hj => by rw [eV22, va_up_ne _ _ hj]
              have hM22 : MW X (gup σ21 (a 0) (10, gI (X.2.1 0) 48 (iup (V21 0) 31 ((V 0 31) + 1)))) o a V22 Iv := by rw [eV22]; exact hM21.set 0 rfl _
              have hkp22 : gKeep (fun t => t = 10) σ (gup σ21 (a 0) (10, gI (X.2.1 0) 48 (iup (V21 0) 31 ((V 0 31) + 1)))) := hkp21.tr (gKeep.up hM21.a0 rfl)
              generalize (gup σ21 (a 0) (10, gI (X.2.1 0) 48 (iup (V21 0) 31 ((V 0 31) + 1)))) = σ22 at hG hM22 hkp22
              have u0_22 : V22 0 = iup (iup (iup (V 0) (32 + V 0 31) w9) (40 + V 0 31) v) 31 (V 0 31 + 1) := by rw [v0_22, u0_21]
              have z0_22 : V22 0 31 = V 0 31 + 1 := by rw [u0_22, iup_s]
              have y_22 : V22 = va_up V 0 (iup (iup (iup (V 0) (32 + V 0 31) w9) (40 + V 0 31) v) 31 (V 0 31 + 1)) := by rw [eV22, ← v0_22, u0_22, eV21, va_up_2, eV20, va_up_2]
              refine lv_aload_n hx hb dX4_plan_136 rfl (lv_at hl 0 rfl) ?_
              refine g_get (C := RX4) (T := TX4) (N := 30) (v := .ref (a 0)) hx hb hts hown hK hG hM22.o rfl in_X4 0 (by decide) q1958 rfl rfl dX4_plan_137 ?_
              refine g_bipush hx hb dX4_plan_140 (by decide) ?_
              refine g_iald hx hb hK hG hM22.a0 dX4_plan_142 (by omega) ?_
              refine g_rw (b := (V 0 31 + 1)) (z0_22) ?_
              exact g_iret hx hb hr hlocks hQ hG hS (Nat.zero_le _) (Nat.zero_le _) ⟨_, rfl, V22, Iv, hM22, hkp22, (⟨by rw [if_neg (by omega), if_pos (by omega), if_pos (by omega), if_neg (by omega)], Or.inr (Or.inl ⟨by omega, y_22, rfl⟩)⟩)⟩ dX4_plan_143
            · refine g_bipush hx hb dX4_plan_90 (by decide) ?_
              exact g_iret hx hb hr hlocks hQ hG hS (Nat.zero_le _) (Nat.zero_le _) ⟨_, rfl, V, Iv, hM, hkp, (⟨by first | (exfalso; omega) | (repeat (first | rw [if_pos (by omega)] | rw [if_neg (by omega)])), Or.inr (Or.inr ⟨by omega, by omega, rfl, rfl⟩)⟩)⟩ dX4_plan_92
          · refine lv_iload_n hx hb dX4_plan_65 rfl (lv_at hl 2 rfl) ?_
            refine g_i2l hx hb dX4_plan_66 (by omega) ?_
            refine lv_lconst (v := lI 0) hx hb dX4_plan_67 (by decide) ?_
            refine lv_lconst (v := lI 1) hx hb dX4_plan_68 (by decide) ?_
            refine g_callS (As := [.long (lI v), .long (lI 0), .long (lI 1)]) (rest := []) 3 hx hb hml hown hts hK hG hS hl.1 (mX4_in l X σ  v 0 1 (by omega) (by omega) (by omega)) q2056 q2057 q86 q2058 (by decide +kernel) rfl ⟨Nat.le_of_ble_eq_true rfl, Nat.le_of_ble_eq_true rfl⟩ ⟨Nat.le_of_ble_eq_true rfl, Nat.le_of_ble_eq_true rfl⟩ (Nat.le_of_ble_eq_true rfl) dX4_plan_69 (kI (fun r23 σr23 H locs hp hG hS => ?_))
            obtain ⟨hr23, rfl⟩ := hp
            refine g_if_ne (tgt := 78) hx hb dX4_plan_72 (by decide) (by omega) (fun cq24 => ?_) (fun cq24 => ?_)
            · refine lv_aload_n hx hb dX4_plan_78 rfl (lv_at hl 0 rfl) ?_
              refine g_get (C := RX4) (T := TX4) (N := 30) (v := .ref (a 0)) hx hb hts hown hK hG hM.o rfl in_X4 0 (by decide) q1958 rfl rfl dX4_plan_79 ?_
              refine g_bipush hx hb dX4_plan_82 (by decide) ?_
              refine g_iald hx hb hK hG hM.a0 dX4_plan_84 (by omega) ?_
              refine g_bipush hx hb dX4_plan_85 (by decide) ?_
              refine g_icmp_ne (tgt := 93) hx hb dX4_plan_87 (by decide) (by omega) (by omega) (fun cq25 => ?_) (fun cq25 => ?_)
              · refine lv_aload_n hx hb dX4_plan_93 rfl (lv_at hl 0 rfl) ?_
                refine g_get (C := RX4) (T := TX4) (N := 30) (v := .ref (a 0)) hx hb hts hown hK hG hM.o rfl in_X4 0 (by decide) q1958 rfl rfl dX4_plan_94 ?_
                refine g_bipush hx hb dX4_plan_97 (by decide) ?_
                refine lv_aload_n hx hb dX4_plan_99 rfl (lv_at hl 0 rfl) ?_
                refine g_get (C := RX4) (T := TX4) (N := 30) (v := .ref (a 0)) hx hb hts hown hK hG hM.o rfl in_X4 0 (by decide) q1958 rfl rfl dX4_plan_100 ?_
                refine g_bipush hx hb dX4_plan_103 (by decide) ?_
                refine g_iald hx hb hK hG hM.a0 dX4_plan_105 (by omega) ?_
                refine g_iadd hx hb dX4_plan_106 ?_
                refine lv_iload_n hx hb dX4_plan_107 rfl (lv_at hl 1 rfl) ?_
                refine g_iast hx hb hK hG hS hM.a0 dX4_plan_108 (by omega) (fun H locs hG hS => ?_)
                obtain ⟨V26, eV26⟩ : ∃ J : Nat → Int → Int, J = va_up V 0 (iup (V 0) (32 + ((V 0) 31)) w9) := ⟨_, rfl⟩
                have v0_26 : V26 0 = (iup (V 0) (32 + ((V 0) 31)) w9) := by rw [eV26, va_up_self]
                have fV26 : ∀ j, j ≠ 0 → V26 j = V j := fun j hj => by rw [eV26, va_up_ne _ _ hj]
                have hM26 : MW X (gup σ (a 0) (10, gI (X.2.1 0) 48 (iup (V 0) (32 + ((V 0) 31)) w9))) o a V26 Iv := by rw [eV26]; exact hM.set 0 rfl _
                have hkp26 : gKeep (fun t => t = 10) σ (gup σ (a 0) (10, gI (X.2.1 0) 48 (iup (V 0) (32 + ((V 0) 31)) w9))) := hkp.tr (gKeep.up hM.a0 rfl)
                generalize (gup σ (a 0) (10, gI (X.2.1 0) 48 (iup (V 0) (32 + ((V 0) 31)) w9))) = σ26 at hG hM26 hkp26
                have u0_26 : V26 0 = iup (V 0) (32 + V 0 31) w9 := v0_26
                have z0_26 : V26 0 31 = V 0 31 := by rw [u0_26, iup_n (by omega)]
                refine lv_aload_n hx hb dX4_plan_109 rfl (lv_at hl 0 rfl) ?_
                refine g_get (C := RX4) (T := TX4) (N := 30) (v := .ref (a 0)) hx hb hts hown hK hG hM26.o rfl in_X4 0 (by decide) q1958 rfl rfl dX4_plan_110 ?_
                refine g_bipush hx hb dX4_plan_113 (by decide) ?_
                refine lv_aload_n hx hb dX4_plan_115 rfl (lv_at hl 0 rfl) ?_
                refine g_get (C := RX4) (T := TX4) (N := 30) (v := .ref (a 0)) hx hb hts hown hK hG hM26.o rfl in_X4 0 (by decide) q1958 rfl rfl dX4_plan_116 ?_
                refine g_bipush hx hb dX4_plan_119 (by decide) ?_
                refine g_iald hx hb hK hG hM26.a0 dX4_plan_121 (by omega) ?_
                refine g_rw (b := (V 0 31)) (z0_26) ?_
                refine g_iadd hx hb dX4_plan_122 ?_
                refine lv_iload_n hx hb dX4_plan_123 rfl (lv_at hl 2 rfl) ?_
                refine g_iast hx hb hK hG hS hM26.a0 dX4_plan_124 (by omega) (fun H locs hG hS => ?_)
                obtain ⟨V27, eV27⟩ : ∃ J : Nat → Int → Int, J = va_up V26 0 (iup (V26 0) (40 + (V 0 31)) v) := ⟨_, rfl⟩
                have v0_27 : V27 0 = (iup (V26 0) (40 + (V 0 31)) v) := by rw [eV27, va_up_self]
                have fV27 : ∀ j, j ≠ 0 → V27 j = V26 j := fun j hj => by rw [eV27, va_up_ne _ _ hj]
                have hM27 : MW X (gup σ26 (a 0) (10, gI (X.2.1 0) 48 (iup (V26 0) (40 + (V 0 31)) v))) o a V27 Iv := by rw [eV27]; exact hM26.set 0 rfl _
                have hkp27 : gKeep (fun t => t = 10) σ (gup σ26 (a 0) (10, gI (X.2.1 0) 48 (iup (V26 0) (40 + (V 0 31)) v))) := hkp26.tr (gKeep.up hM26.a0 rfl)
                generalize (gup σ26 (a 0) (10, gI (X.2.1 0) 48 (iup (V26 0) (40 + (V 0 31)) v))) = σ27 at hG hM27 hkp27
                have u0_27 : V27 0 = iup (iup (V 0) (32 + V 0 31) w9) (40 + V 0 31) v := by rw [v0_27, u0_26]
                have z0_27 : V27 0 31 = V 0 31 := by rw [u0_27, iup_n (by omega), iup_n (by omega)]
                refine lv_aload_n hx hb dX4_plan_125 rfl (lv_at hl 0 rfl) ?_
                refine g_get (C := RX4) (T := TX4) (N := 30) (v := .ref (a 0)) hx hb hts hown hK hG hM27.o rfl in_X4 0 (by decide) q1958 rfl rfl dX4_plan_126 ?_
                refine g_bipush hx hb dX4_plan_129 (by decide) ?_
                refine lv_dup2_11 hx hb dX4_plan_131 rfl rfl ?_
                refine g_iald hx hb hK hG hM27.a0 dX4_plan_132 (by omega) ?_
                refine g_rw (b := (V 0 31)) (z0_27) ?_
                refine g_iconst hx hb dX4_plan_133 ?_
                refine g_iadd hx hb dX4_plan_134 ?_
                refine g_iast hx hb hK hG hS hM27.a0 dX4_plan_135 (by omega) (fun H locs hG hS => ?_)
                obtain ⟨V28, eV28⟩ : ∃ J : Nat → Int → Int, J = va_up V27 0 (iup (V27 0) 31 ((V 0 31) + 1)) := ⟨_, rfl⟩
                have v0_28 : V28 0 = (iup (V27 0) 31 ((V 0 31) + 1)) := by rw [eV28, va_up_self]
                have fV28 : ∀ j, j ≠ 0 → V28 j = V27 j := fun j hj => by rw [eV28, va_up_ne _ _ hj]
                have hM28 : MW X (gup σ27 (a 0) (10, gI (X.2.1 0) 48 (iup (V27 0) 31 ((V 0 31) + 1)))) o a V28 Iv := by rw [eV28]; exact hM27.set 0 rfl _
                have hkp28 : gKeep (fun t => t = 10) σ (gup σ27 (a 0) (10, gI (X.2.1 0) 48 (iup (V27 0) 31 ((V 0 31) + 1)))) := hkp27.tr (gKeep.up hM27.a0 rfl)
                generalize (gup σ27 (a 0) (10, gI (X.2.1 0) 48 (iup (V27 0) 31 ((V 0 31) + 1)))) = σ28 at hG hM28 hkp28
                have u0_28 : V28 0 = iup (iup (iup (V 0) (32 + V 0 31) w9) (40 + V 0 31) v) 31 (V 0 31 + 1) := by rw [v0_28, u0_27]
                have z0_28 : V28 0 31 = V 0 31 + 1 := by rw [u0_28, iup_s]
                have y_28 : V28 = va_up V 0 (iup (iup (iup (V 0) (32 + V 0 31) w9) (40 + V 0 31) v) 31 (V 0 31 + 1)) := by rw [eV28, ← v0_28, u0_28, eV27, va_up_2, eV26, va_up_2]
                refine lv_aload_n hx hb dX4_plan_136 rfl (lv_at hl 0 rfl) ?_
                refine g_get (C := RX4) (T := TX4) (N := 30) (v := .ref (a 0)) hx hb hts hown hK hG hM28.o rfl in_X4 0 (by decide) q1958 rfl rfl dX4_plan_137 ?_
                refine g_bipush hx hb dX4_plan_140 (by decide) ?_
                refine g_iald hx hb hK hG hM28.a0 dX4_plan_142 (by omega) ?_
                refine g_rw (b := (V 0 31 + 1)) (z0_28) ?_
                exact g_iret hx hb hr hlocks hQ hG hS (Nat.zero_le _) (Nat.zero_le _) ⟨_, rfl, V28, Iv, hM28, hkp28, (⟨by rw [if_neg (by omega), if_pos (by omega), if_pos (by omega), if_neg (by omega)], Or.inr (Or.inl ⟨by omega, y_28, rfl⟩)⟩)⟩ dX4_plan_143
              · refine g_bipush hx hb dX4_plan_90 (by decide) ?_
                exact g_iret hx hb hr hlocks hQ hG hS (Nat.zero_le _) (Nat.zero_le _) ⟨_, rfl, V, Iv, hM, hkp, (⟨by first | (exfalso; omega) | (repeat (first | rw [if_pos (by omega)] | rw [if_neg (by omega)])), Or.inr (Or.inr ⟨by omega, by omega, rfl, rfl⟩)⟩)⟩ dX4_plan_92
            · refine g_bipush hx hb dX4_plan_75 (by decide) ?_
              exact g_iret hx hb hr hlocks hQ hG hS (Nat.zero_le _) (Nat.zero_le _) ⟨_, rfl, V, Iv, hM, hkp, (⟨by first | (exfalso; omega) | (repeat (first | rw [if_pos (by omega)] | rw [if_neg (by omega)])), Or.inr (Or.inr ⟨by omega, by omega, rfl, rfl⟩)⟩)⟩ dX4_plan_77
    · refine g_iconst hx hb dX4_plan_41 ?_
      exact g_iret hx hb hr hlocks hQ hG hS (Nat.zero_le _) (Nat.zero_le _) ⟨_, rfl, V, Iv, hM, hkp, (⟨by first | (exfalso; omega) | (repeat (first | rw [if_pos (by omega)] | rw [if_neg (by omega)])), Or.inr (Or.inr ⟨by omega, by omega, rfl, rfl⟩)⟩)⟩ dX4_plan_42
  · refine g_bipush hx hb dX4_plan_5 (by decide) ?_
    refine lv_istore_n (lv' := [(3, .int (iI 31)), (0, .ref o), (1, .int (iI w9)), (2, .int (iI v))]) hx hb dX4_plan_7 rfl hl (by decide) rfl (fun ls hl => ?_)
    have loop_8 : ∀ (nF : Nat) (σL : gS) (VL : Nat → Int → Int) (k9 : Int), ((48 - k9).toNat : Nat) < nF → (MW X σL o a VL Iv) → (gKeep (fun t => t = 10) σ σL) → (31 ≤ k9 ∧ k9 ≤ 48) → (∀ q, q ≠ 0 → VL q = V q) → (∀ q : Int, q < 31 → VL 0 q = V 0 q) → (∀ q : Int, 31 ≤ q → q < k9 → VL 0 q = 0) → ∀ (H : Heap) (locs : List Loc) (ls : Array Slot), gSat X σL H → va_S (gA X) ss.heap H locs → lv_has ls 4 [(3, .int (iI k9)), (0, .ref o), (1, .int (iI w9)), (2, .int (iI v))] → W pp l ee (gR 1 0 0 25) ss mm args below meth cd H locs 0 0 Q (F0 mm 8 ls []) := by
      intro nF
      induction nF with
      | zero => intro σL VL k9 hm; exact absurd hm (Nat.not_lt_zero _)
      | succ nF ih_8 =>
        intro σL VL k9 hm hML hkL hi8_2 hA hB hZ H locs ls hG hS hl
        refine lv_iload_n hx hb dX4_plan_8 rfl (lv_at hl 0 rfl) ?_
        refine g_bipush hx hb dX4_plan_9 (by decide) ?_
        refine g_icmp_ge (tgt := 27) hx hb dX4_plan_11 (by decide) (by omega) (by omega) (fun cq29 => ?_) (fun cq29 => ?_)
        · refine g_iconst hx hb dX4_plan_27 ?_
          exact g_iret hx hb hr hlocks hQ hG hS (Nat.zero_le _) (Nat.zero_le _) ⟨_, rfl, VL, Iv, hML, hkL, (⟨by repeat (first | rw [if_pos (by omega)] | rw [if_neg (by omega)]), Or.inl ⟨by omega, ⟨hA, hB, hZ 31 (by omega) (by omega)⟩, rfl⟩⟩)⟩ dX4_plan_28
        · refine lv_aload_n hx hb dX4_plan_14 rfl (lv_at hl 1 rfl) ?_
          refine g_get (C := RX4) (T := TX4) (N := 30) (v := .ref (a 0)) hx hb hts hown hK hG hML.o rfl in_X4 0 (by decide) q1958 rfl rfl dX4_plan_15 ?_
          refine lv_iload_n hx hb dX4_plan_18 rfl (lv_at hl 0 rfl) ?_
          refine g_iconst hx hb dX4_plan_19 ?_
          refine g_iast hx hb hK hG hS hML.a0 dX4_plan_20 (by omega) (fun H locs hG hS => ?_)
          obtain ⟨V30, eV30⟩ : ∃ J : Nat → Int → Int, J = va_up VL 0 (iup (VL 0) k9 0) := ⟨_, rfl⟩
          have v0_30 : V30 0 = (iup (VL 0) k9 0) := by rw [eV30, va_up_self]
          have fV30 : ∀ j, j ≠ 0 → V30 j = VL j := fun j hj => by rw [eV30, va_up_ne _ _ hj]
          have hM30 : MW X (gup σL (a 0) (10, gI (X.2.1 0) 48 (iup (VL 0) k9 0))) o a V30 Iv := by rw [eV30]; exact hML.set 0 rfl _
          have hkp30 : gKeep (fun t => t = 10) σ (gup σL (a 0) (10, gI (X.2.1 0) 48 (iup (VL 0) k9 0))) := hkL.tr (gKeep.up hML.a0 rfl)
          generalize (gup σL (a 0) (10, gI (X.2.1 0) 48 (iup (VL 0) k9 0))) = σ30 at hG hM30 hkp30
          refine g_iinc (lv' := [(3, .int (iI (k9 + 1))), (0, .ref o), (1, .int (iI w9)), (2, .int (iI v))]) hx hb dX4_plan_21 hl (k := 0) rfl (by decide) rfl (fun ls hl => ?_)
          refine lv_goto (tgt := 8) hx hb dX4_plan_24 (by decide) ?_
          exact ih_8 σ30 V30 (k9 + 1) (by omega) (hM30) (hkp30) (by omega) (fun q h1 => (fV30 q h1).trans (hA q h1)) (fun q h => by rw [v0_30, iup_n (by omega)]; exact hB q h) (fun q h1 h2 => by rw [v0_30]; unfold iup; split; rfl; exact hZ q h1 (by omega))  _ _ _ hG hS (lv_sub hl [0, 1, 2, 3] rfl)
    exact loop_8 _ σ V 31 (Nat.lt_succ_self _) (hM) (hkp) (by omega) (fun q h => rfl) (fun q h => rfl) (fun q h1 h2 => by omega)  _ _ _ hG hS (lv_sub hl [0, 1, 2, 3] rfl)

set_option maxHeartbeats 4000000 in
theorem mX4_image (l : Launch) (X : gX) (σ : gS) (o : Nat) (a : Nat → Nat) (V : Nat → Int → Int) (Iv : Nat → Int) (hM : MW X σ o a V Iv) (hT : okT (V 0))    : gMet l X yX4_image cX4_image 2 (some .int) 0 0 0 0 σ [.ref o] (oI (fun r σ' => ∃ (V' : Nat → Int → Int) (I' : Nat → Int), MW X σ' o a V' I' ∧ gKeep (fun t => t = 10) σ σ' ∧ (r = V 0 18 ∧ (∀ q, q ≠ 1 → V' q = V q) ∧ (∀ q : Int, 0 ≤ q → q < 48 → V' 1 q = V 0 q) ∧ I' = va_up Iv 2 1))) := by
  refine gMet.of (by decide) (Nat.le_of_ble_eq_true rfl) ?_
  intro pp ee ss mm args below meth cd Q H locs ls hargs hx hb hr hlocks hml hown hnm hts hK hG hS hQ hl
  have hown : ss.vm.findClass RX4 = some mm.cls := hown
  have hl : lv_has ls 2 [(0, .ref o)] := hl
  have hkp : gKeep (fun t => t = 10) σ σ := gKeep.rf
  refine g_iconst hx hb dX4_image_0 ?_
  refine lv_istore_n (lv' := [(1, .int (iI 0)), (0, .ref o)]) hx hb dX4_image_1 rfl hl (by decide) rfl (fun ls hl => ?_)
  have loop_2 : ∀ (nF : Nat) (σL : gS) (VL : Nat → Int → Int) (k9 : Int), ((48 - k9).toNat : Nat) < nF → (MW X σL o a VL Iv) → (gKeep (fun t => t = 10) σ σL) → (0 ≤ k9 ∧ k9 ≤ 48) → (∀ q, q ≠ 1 → VL q = V q) → (∀ q : Int, 0 ≤ q → q < k9 → VL 1 q = V 0 q) → ∀ (H : Heap) (locs : List Loc) (ls : Array Slot), gSat X σL H → va_S (gA X) ss.heap H locs → lv_has ls 2 [(1, .int (iI k9)), (0, .ref o)] → W pp l ee (gR 0 0 0 0) ss mm args below meth cd H locs 0 0 Q (F0 mm 2 ls []) := by
    intro nF
    induction nF with
    | zero => intro σL VL k9 hm; exact absurd hm (Nat.not_lt_zero _)
    | succ nF ih_2 =>
      intro σL VL k9 hm hML hkL hi2_2 hA hZ H locs ls hG hS hl
      refine lv_iload_n hx hb dX4_image_2 rfl (lv_at hl 0 rfl) ?_
      refine g_bipush hx hb dX4_image_3 (by decide) ?_
      refine g_icmp_ge (tgt := 26) hx hb dX4_image_5 (by decide) (by omega) (by omega) (fun cq1 => ?_) (fun cq1 => ?_)
      · refine lv_aload_n hx hb dX4_image_26 rfl (lv_at hl 1 rfl) ?_
        refine g_iconst hx hb dX4_image_27 ?_
        refine g_put (C := RX4) (T := TX4) (N := 30) (ty0 := tyX4) (v := .int (iI 1)) hx hb hts hown hK hG hS hML.o rfl in_X4 tyX4_ok nmX4 2 (by decide) q1960 rfl (by decide) (by first | rfl | decide) (by first | rfl | decide) (Nat.le_of_ble_eq_true rfl) dX4_image_28 (fun H locs hG hS => ?_)
        obtain ⟨I2, eI2⟩ : ∃ J : Nat → Int, J = va_up Iv 2 1 := ⟨_, rfl⟩
        have i2_2 : I2 2 = 1 := by rw [eI2, va_up_self]
        have fI2 : ∀ j, j ≠ 2 → I2 j = Iv j := fun j hj => by rw [eI2, va_up_ne _ _ hj]
        have hM2 : MW X (gup σL o (10, gO 4 ((mfs a Iv).set 2 (.int (iI 1))))) o a VL I2 := by rw [eI2]; exact hML.num (mfs_2 a Iv _)
        have hkp2 : gKeep (fun t => t = 10) σ (gup σL o (10, gO 4 ((mfs a Iv).set 2 (.int (iI 1))))) := hkL.tr (gKeep.up hML.o rfl)
        generalize (gup σL o (10, gO 4 ((mfs a Iv).set 2 (.int (iI 1))))) = σ2 at hG hM2 hkp2
        refine lv_aload_n hx hb dX4_image_31 rfl (lv_at hl 1 rfl) ?_
        refine g_get (C := RX4) (T := TX4) (N := 30) (v := .ref (a 0)) hx hb hts hown hK hG hM2.o rfl in_X4 0 (by decide) q1958 rfl rfl dX4_image_32 ?_
        refine g_bipush hx hb dX4_image_35 (by decide) ?_
        refine g_iald hx hb hK hG hM2.a0 dX4_image_37 (by omega) ?_
        exact g_iret hx hb hr hlocks hQ hG hS (Nat.zero_le _) (Nat.zero_le _) ⟨_, rfl, VL, I2, hM2, hkp2, (⟨by rw [hA 0 (by decide)], hA, fun q h1 h2 => hZ q h1 (by omega), eI2⟩)⟩ dX4_image_38
      · refine lv_aload_n hx hb dX4_image_8 rfl (lv_at hl 1 rfl) ?_
        refine g_get (C := RX4) (T := TX4) (N := 30) (v := .ref (a 1)) hx hb hts hown hK hG hML.o rfl in_X4 1 (by decide) q1959 rfl rfl dX4_image_9 ?_
        refine lv_iload_n hx hb dX4_image_12 rfl (lv_at hl 0 rfl) ?_
        refine lv_aload_n hx hb dX4_image_13 rfl (lv_at hl 1 rfl) ?_
        refine g_get (C := RX4) (T := TX4) (N := 30) (v := .ref (a 0)) hx hb hts hown hK hG hML.o rfl in_X4 0 (by decide) q1958 rfl rfl dX4_image_14 ?_
        refine lv_iload_n hx hb dX4_image_17 rfl (lv_at hl 0 rfl) ?_
        refine g_iald hx hb hK hG hML.a0 dX4_image_18 (by omega) ?_
        refine g_iast hx hb hK hG hS hML.a1 dX4_image_19 (by omega) (fun H locs hG hS => ?_)
        obtain ⟨V3, eV3⟩ : ∃ J : Nat → Int → Int, J = va_up VL 1 (iup (VL 1) k9 ((VL 0) k9)) := ⟨_, rfl⟩
        have v1_3 : V3 1 = (iup (VL 1) k9 ((VL 0) k9)) := by rw [eV3, va_up_self]
        have fV3 : ∀ j, j ≠ 1 → V3 j = VL j := fun j hj => by rw [eV3, va_up_ne _ _ hj]
        have hM3 : MW X (gup σL (a 1) (10, gI (X.2.1 0) 48 (iup (VL 1) k9 ((VL 0) k9)))) o a V3 Iv := by rw [eV3]; exact hML.set 1 rfl _
        have hkp3 : gKeep (fun t => t = 10) σ (gup σL (a 1) (10, gI (X.2.1 0) 48 (iup (VL 1) k9 ((VL 0) k9)))) := hkL.tr (gKeep.up hML.a1 rfl)
        generalize (gup σL (a 1) (10, gI (X.2.1 0) 48 (iup (VL 1) k9 ((VL 0) k9)))) = σ3 at hG hM3 hkp3
        refine g_iinc (lv' := [(1, .int (iI (k9 + 1))), (0, .ref o)]) hx hb dX4_image_20 hl (k := 0) rfl (by decide) rfl (fun ls hl => ?_)
        refine lv_goto (tgt := 2) hx hb dX4_image_23 (by decide) ?_
        exact ih_2 σ3 V3 (k9 + 1) (by omega) (hM3) (hkp3) (by omega) (fun q h1 => (fV3 q h1).trans (hA q h1)) (fun q h1 h2 => by rw [v1_3]; unfold iup; split; (rename_i hq; rw [hq, hA 0 (by decide)]); exact hZ q h1 (by omega))  _ _ _ hG hS (lv_sub hl [0, 1] rfl)
  exact loop_2 _ σ V 0 (Nat.lt_succ_self _) (hM) (hkp) (by omega) (fun q h => rfl) (fun q h1 h2 => by omega)  _ _ _ hG hS (lv_sub hl [0, 1] rfl)

set_option maxHeartbeats 4000000 in
theorem mX4_undo (l : Launch) (X : gX) (σ : gS) (o : Nat) (a : Nat → Nat) (V : Nat → Int → Int) (Iv : Nat → Int) (hM : MW X σ o a V Iv) (hT : okT (V 0)) (hI2 : Iv 2 = 0 ∨ Iv 2 = 1)    : gMet l X yX4_undo cX4_undo 2 (some .int) 0 0 0 0 σ [.ref o] (oI (fun r σ' => ∃ (V' : Nat → Int → Int) (I' : Nat → Int), MW X σ' o a V' I' ∧ gKeep (fun t => t = 10) σ σ' ∧ (r = (if Iv 2 = 0 then -3 else V 1 18) ∧ (¬ Iv 2 = 0 ∧ ((∀ q, q ≠ 0 → V' q = V q) ∧ ∀ q : Int, 0 ≤ q → q < 48 → V' 0 q = V 1 q) ∧ I' = Iv ∨ Iv 2 = 0 ∧ V' = V ∧ I' = Iv)))) := by
  refine gMet.of (by decide) (Nat.le_of_ble_eq_true rfl) ?_
  intro pp ee ss mm args below meth cd Q H locs ls hargs hx hb hr hlocks hml hown hnm hts hK hG hS hQ hl
  have hown : ss.vm.findClass RX4 = some mm.cls := hown
  have hl : lv_has ls 2 [(0, .ref o)] := hl
  have hkp : gKeep (fun t => t = 10) σ σ := gKeep.rf
  refine lv_aload_n hx hb dX4_undo_0 rfl (lv_at hl 0 rfl) ?_
  refine g_get (C := RX4) (T := TX4) (N := 30) (v := .int (iI (Iv 2))) hx hb hts hown hK hG hM.o rfl in_X4 2 (by decide) q1960 rfl rfl dX4_undo_1 ?_
  refine g_if_ne (tgt := 10) hx hb dX4_undo_4 (by decide) (by omega) (fun cq1 => ?_) (fun cq1 => ?_)
  · refine g_iconst hx hb dX4_undo_10 ?_
    refine lv_istore_n (lv' := [(1, .int (iI 0)), (0, .ref o)]) hx hb dX4_undo_11 rfl hl (by decide) rfl (fun ls hl => ?_)
    have loop_12 : ∀ (nF : Nat) (σL : gS) (VL : Nat → Int → Int) (k9 : Int), ((48 - k9).toNat : Nat) < nF → (MW X σL o a VL Iv) → (gKeep (fun t => t = 10) σ σL) → (0 ≤ k9 ∧ k9 ≤ 48) → (∀ q, q ≠ 0 → VL q = V q) → (∀ q : Int, 0 ≤ q → q < k9 → VL 0 q = V 1 q) → ∀ (H : Heap) (locs : List Loc) (ls : Array Slot), gSat X σL H → va_S (gA X) ss.heap H locs → lv_has ls 2 [(1, .int (iI k9)), (0, .ref o)] → W pp l ee (gR 0 0 0 0) ss mm args below meth cd H locs 0 0 Q (F0 mm 12 ls []) := by
      intro nF
      induction nF with
      | zero => intro σL VL k9 hm; exact absurd hm (Nat.not_lt_zero _)
      | succ nF ih_12 =>
        intro σL VL k9 hm hML hkL hi12_2 hA hZ H locs ls hG hS hl
        refine lv_iload_n hx hb dX4_undo_12 rfl (lv_at hl 0 rfl) ?_
        refine g_bipush hx hb dX4_undo_13 (by decide) ?_
        refine g_icmp_ge (tgt := 36) hx hb dX4_undo_15 (by decide) (by omega) (by omega) (fun cq2 => ?_) (fun cq2 => ?_)
        · refine lv_aload_n hx hb dX4_undo_36 rfl (lv_at hl 1 rfl) ?_
          refine g_get (C := RX4) (T := TX4) (N := 30) (v := .ref (a 0)) hx hb hts hown hK hG hML.o rfl in_X4 0 (by decide) q1958 rfl rfl dX4_undo_37 ?_
          refine g_bipush hx hb dX4_undo_40 (by decide) ?_
          refine g_iald hx hb hK hG hML.a0 dX4_undo_42 (by omega) ?_
          exact g_iret hx hb hr hlocks hQ hG hS (Nat.zero_le _) (Nat.zero_le _) ⟨_, rfl, VL, Iv, hML, hkL, (⟨by rw [if_neg (by assumption)]; exact hZ 18 (by omega) (by omega), Or.inl ⟨by assumption, ⟨hA, fun q h1 h2 => hZ q h1 (by omega)⟩, rfl⟩⟩)⟩ dX4_undo_43
        · refine lv_aload_n hx hb dX4_undo_18 rfl (lv_at hl 1 rfl) ?_
          refine g_get (C := RX4) (T := TX4) (N := 30) (v := .ref (a 0)) hx hb hts hown hK hG hML.o rfl in_X4 0 (by decide) q1958 rfl rfl dX4_undo_19 ?_
          refine lv_iload_n hx hb dX4_undo_22 rfl (lv_at hl 0 rfl) ?_
          refine lv_aload_n hx hb dX4_undo_23 rfl (lv_at hl 1 rfl) ?_
          refine g_get (C := RX4) (T := TX4) (N := 30) (v := .ref (a 1)) hx hb hts hown hK hG hML.o rfl in_X4 1 (by decide) q1959 rfl rfl dX4_undo_24 ?_
          refine lv_iload_n hx hb dX4_undo_27 rfl (lv_at hl 0 rfl) ?_
          refine g_iald hx hb hK hG hML.a1 dX4_undo_28 (by omega) ?_
          refine g_iast hx hb hK hG hS hML.a0 dX4_undo_29 (by omega) (fun H locs hG hS => ?_)
          obtain ⟨V3, eV3⟩ : ∃ J : Nat → Int → Int, J = va_up VL 0 (iup (VL 0) k9 ((VL 1) k9)) := ⟨_, rfl⟩
          have v0_3 : V3 0 = (iup (VL 0) k9 ((VL 1) k9)) := by rw [eV3, va_up_self]
          have fV3 : ∀ j, j ≠ 0 → V3 j = VL j := fun j hj => by rw [eV3, va_up_ne _ _ hj]
          have hM3 : MW X (gup σL (a 0) (10, gI (X.2.1 0) 48 (iup (VL 0) k9 ((VL 1) k9)))) o a V3 Iv := by rw [eV3]; exact hML.set 0 rfl _
          have hkp3 : gKeep (fun t => t = 10) σ (gup σL (a 0) (10, gI (X.2.1 0) 48 (iup (VL 0) k9 ((VL 1) k9)))) := hkL.tr (gKeep.up hML.a0 rfl)
          generalize (gup σL (a 0) (10, gI (X.2.1 0) 48 (iup (VL 0) k9 ((VL 1) k9)))) = σ3 at hG hM3 hkp3
          refine g_iinc (lv' := [(1, .int (iI (k9 + 1))), (0, .ref o)]) hx hb dX4_undo_30 hl (k := 0) rfl (by decide) rfl (fun ls hl => ?_)
          refine lv_goto (tgt := 12) hx hb dX4_undo_33 (by decide) ?_
          exact ih_12 σ3 V3 (k9 + 1) (by omega) (hM3) (hkp3) (by omega) (fun q h1 => (fV3 q h1).trans (hA q h1)) (fun q h1 h2 => by rw [v0_3]; unfold iup; split; (rename_i hq; rw [hq, hA 1 (by decide)]); exact hZ q h1 (by omega))  _ _ _ hG hS (lv_sub hl [0, 1] rfl)
    exact loop_12 _ σ V 0 (Nat.lt_succ_self _) (hM) (hkp) (by omega) (fun q h => rfl) (fun q h1 h2 => by omega)  _ _ _ hG hS (lv_sub hl [0, 1] rfl)
  · refine g_bipush hx hb dX4_undo_7 (by decide) ?_
    exact g_iret hx hb hr hlocks hQ hG hS (Nat.zero_le _) (Nat.zero_le _) ⟨_, rfl, V, Iv, hM, hkp, (⟨by rw [if_pos (by assumption)], Or.inr ⟨by assumption, rfl, rfl⟩⟩)⟩ dX4_undo_9
