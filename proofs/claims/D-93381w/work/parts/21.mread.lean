set_option maxHeartbeats 4000000 in
theorem mX4_of (l : Launch) (X : gX) (σ : gS) (o : Nat) (a : Nat → Nat) (V : Nat → Int → Int) (Iv : Nat → Int) (hM : MW X σ o a V Iv) (hT : okT (V 0)) (t : Int) (i : Int) (j : Int) (h0 : -2147483648 ≤ t ∧ t ≤ 2147483647) (h1 : -2147483648 ≤ i ∧ i ≤ 2147483647) (h2 : -2147483648 ≤ j ∧ j ≤ 2147483647) : gMet l X yX4_of cX4_of 4 (some .int) 2 0 0 47 σ [.ref o, .int (iI t), .int (iI i), .int (iI j)] (oI (fun r σ' => r = (if (0 ≤ t ∧ t ≤ 1) ∧ (0 ≤ i ∧ i ≤ 2) ∧ (0 ≤ j ∧ j ≤ 2) then V 0 (9 * t + 3 * i + j) else -1) ∧ σ = σ')) := by
  refine gMet.of (by decide) (Nat.le_of_ble_eq_true rfl) ?_
  intro pp ee ss mm args below meth cd Q H locs ls hargs hx hb hr hlocks hml hown hnm hts hK hG hS hQ hl
  have hown : ss.vm.findClass RX4 = some mm.cls := hown
  have hl : lv_has ls 4 [(0, .ref o), (1, .int (iI t)), (2, .int (iI i)), (3, .int (iI j))] := hl
  refine lv_iload_n hx hb dX4_of_0 rfl (lv_at hl 1 rfl) ?_
  refine lv_iload_n hx hb dX4_of_1 rfl (lv_at hl 2 rfl) ?_
  refine lv_iload_n hx hb dX4_of_2 rfl (lv_at hl 3 rfl) ?_
  refine g_callS (As := [.int (iI t), .int (iI i), .int (iI j)]) (rest := []) 3 hx hb hml hown hts hK hG hS hl.1 (mX4_isPlace l X σ  t i j (by omega) (by omega) (by omega)) q2053 q2054 q86 q2055 (by decide +kernel) rfl ⟨Nat.le_of_ble_eq_true rfl, Nat.le_of_ble_eq_true rfl⟩ ⟨Nat.le_of_ble_eq_true rfl, Nat.le_of_ble_eq_true rfl⟩ (Nat.le_of_ble_eq_true rfl) dX4_of_3 (kI (fun r1 σr1 H locs hp hG hS => ?_))
  obtain ⟨hr1, rfl⟩ := hp
  refine g_if_eq (tgt := 23) hx hb dX4_of_6 (by decide) (by omega) (fun cq2 => ?_) (fun cq2 => ?_)
  · refine g_iconst hx hb dX4_of_23 ?_
    exact g_iret hx hb hr hlocks hQ hG hS (Nat.zero_le _) (Nat.zero_le _) ⟨_, rfl, (by rw [if_neg (by omega)]), rfl⟩ dX4_of_24
  · refine lv_aload_n hx hb dX4_of_9 rfl (lv_at hl 0 rfl) ?_
    refine g_get (C := RX4) (T := TX4) (N := 30) (v := .ref (a 0)) hx hb hts hown hK hG hM.o rfl in_X4 0 (by decide) q1958 rfl rfl dX4_of_10 ?_
    refine lv_iload_n hx hb dX4_of_13 rfl (lv_at hl 1 rfl) ?_
    refine lv_iload_n hx hb dX4_of_14 rfl (lv_at hl 2 rfl) ?_
    refine lv_iload_n hx hb dX4_of_15 rfl (lv_at hl 3 rfl) ?_
    refine g_callS (As := [.int (iI t), .int (iI i), .int (iI j)]) (rest := [.ref (a 0)]) 3 hx hb hml hown hts hK hG hS hl.1 (mX4_placeOf l X σ  t i j (by omega) (by omega) (by omega)) q2061 q2062 q86 q2063 (by decide +kernel) rfl ⟨Nat.le_of_ble_eq_true rfl, Nat.le_of_ble_eq_true rfl⟩ ⟨Nat.le_of_ble_eq_true rfl, Nat.le_of_ble_eq_true rfl⟩ (Nat.le_of_ble_eq_true rfl) dX4_of_16 (kI (fun r3 σr3 H locs hp hG hS => ?_))
    obtain ⟨hr3, rfl⟩ := hp
    refine g_iald hx hb hK hG hM.a0 dX4_of_19 (by omega) ?_
    refine lv_goto (tgt := 24) hx hb dX4_of_20 (by decide) ?_
    exact g_iret hx hb hr hlocks hQ hG hS (Nat.zero_le _) (Nat.zero_le _) ⟨_, rfl, (by rw [if_pos (by omega)]; simp only [*]), rfl⟩ dX4_of_24

set_option maxHeartbeats 4000000 in
theorem mX4_value (l : Launch) (X : gX) (σ : gS) (o : Nat) (a : Nat → Nat) (V : Nat → Int → Int) (Iv : Nat → Int) (hM : MW X σ o a V Iv) (hT : okT (V 0)) (t : Int) (x : Int) (y : Int) (h0 : -2147483648 ≤ t ∧ t ≤ 2147483647) (h1 : -2147483648 ≤ x ∧ x ≤ 2147483647) (h2 : -2147483648 ≤ y ∧ y ≤ 2147483647) : gMet l X yX4_value cX4_value 4 (some .int) 3 0 0 66 σ [.ref o, .int (iI t), .int (iI x), .int (iI y)] (oI (fun r σ' => r = (if (0 ≤ t ∧ t ≤ 1) ∧ okSp x y then valZ (V 0) t x y else -1) ∧ σ = σ')) := by
  refine gMet.of (by decide) (Nat.le_of_ble_eq_true rfl) ?_
  intro pp ee ss mm args below meth cd Q H locs ls hargs hx hb hr hlocks hml hown hnm hts hK hG hS hQ hl
  have hown : ss.vm.findClass RX4 = some mm.cls := hown
  have hl : lv_has ls 4 [(0, .ref o), (1, .int (iI t)), (2, .int (iI x)), (3, .int (iI y))] := hl
  refine lv_iload_n hx hb dX4_value_0 rfl (lv_at hl 1 rfl) ?_
  refine g_i2l hx hb dX4_value_1 (by omega) ?_
  refine lv_lconst (v := lI 0) hx hb dX4_value_2 (by decide) ?_
  refine lv_lconst (v := lI 1) hx hb dX4_value_3 (by decide) ?_
  refine g_callS (As := [.long (lI t), .long (lI 0), .long (lI 1)]) (rest := []) 3 hx hb hml hown hts hK hG hS hl.1 (mX4_in l X σ  t 0 1 (by omega) (by omega) (by omega)) q2056 q2057 q86 q2058 (by decide +kernel) rfl ⟨Nat.le_of_ble_eq_true rfl, Nat.le_of_ble_eq_true rfl⟩ ⟨Nat.le_of_ble_eq_true rfl, Nat.le_of_ble_eq_true rfl⟩ (Nat.le_of_ble_eq_true rfl) dX4_value_4 (kI (fun r1 σr1 H locs hp hG hS => ?_))
  obtain ⟨hr1, rfl⟩ := hp
  refine g_if_eq (tgt := 28) hx hb dX4_value_7 (by decide) (by omega) (fun cq2 => ?_) (fun cq2 => ?_)
  · refine g_iconst hx hb dX4_value_28 ?_
    exact g_iret hx hb hr hlocks hQ hG hS (Nat.zero_le _) (Nat.zero_le _) ⟨_, rfl, (by first | (rw [if_pos (by omega)]; assumption) | rw [if_neg (by omega)]), rfl⟩ dX4_value_29
  · refine lv_iload_n hx hb dX4_value_10 rfl (lv_at hl 2 rfl) ?_
    refine lv_iload_n hx hb dX4_value_11 rfl (lv_at hl 3 rfl) ?_
    refine g_callS (As := [.int (iI x), .int (iI y)]) (rest := []) 2 hx hb hml hown hts hK hG hS hl.1 (mX4_isSpot l X σ  x y (by omega) (by omega)) q2072 q2073 q86 q2074 (by decide +kernel) rfl ⟨Nat.le_of_ble_eq_true rfl, Nat.le_of_ble_eq_true rfl⟩ ⟨Nat.le_of_ble_eq_true rfl, Nat.le_of_ble_eq_true rfl⟩ (Nat.le_of_ble_eq_true rfl) dX4_value_12 (kI (fun r3 σr3 H locs hp hG hS => ?_))
    obtain ⟨hr3, rfl⟩ := hp
    refine g_if_eq (tgt := 28) hx hb dX4_value_15 (by decide) (by omega) (fun cq4 => ?_) (fun cq4 => ?_)
    · refine g_iconst hx hb dX4_value_28 ?_
      exact g_iret hx hb hr hlocks hQ hG hS (Nat.zero_le _) (Nat.zero_le _) ⟨_, rfl, (by first | (rw [if_pos (by omega)]; assumption) | rw [if_neg (by omega)]), rfl⟩ dX4_value_29
    · refine lv_aload_n hx hb dX4_value_18 rfl (lv_at hl 0 rfl) ?_
      refine lv_iload_n hx hb dX4_value_19 rfl (lv_at hl 1 rfl) ?_
      refine lv_iload_n hx hb dX4_value_20 rfl (lv_at hl 2 rfl) ?_
      refine lv_iload_n hx hb dX4_value_21 rfl (lv_at hl 3 rfl) ?_
      refine g_callV (As := [.int (iI t), .int (iI x), .int (iI y)]) (rest := []) 3 hx hb hml hown hts hK hG hS hl.1 (mX4_valueAt l X σ o a V Iv hM hT t x y (by omega) (by omega) (by omega)) hM.o rfl q2079 q2081 qs46 q86 q2082 (by decide +kernel) rfl ⟨Nat.le_of_ble_eq_true rfl, Nat.le_of_ble_eq_true rfl⟩ ⟨Nat.le_of_ble_eq_true rfl, Nat.le_of_ble_eq_true rfl⟩ (Nat.le_of_ble_eq_true rfl) dX4_value_22 (kI (fun r5 σr5 H locs hp hG hS => ?_))
      obtain ⟨⟨hr5, kr5⟩, rfl⟩ := hp
      refine lv_goto (tgt := 29) hx hb dX4_value_25 (by decide) ?_
      exact g_iret hx hb hr hlocks hQ hG hS (Nat.zero_le _) (Nat.zero_le _) ⟨_, rfl, (by first | (rw [if_pos (by omega)]; assumption) | rw [if_neg (by omega)]), rfl⟩ dX4_value_29

set_option maxHeartbeats 4000000 in
theorem mX4_kept (l : Launch) (X : gX) (σ : gS) (o : Nat) (a : Nat → Nat) (V : Nat → Int → Int) (Iv : Nat → Int) (hM : MW X σ o a V Iv) (hT : okT (V 0)) (x : Int) (y : Int) (h0 : -2147483648 ≤ x ∧ x ≤ 2147483647) (h1 : -2147483648 ≤ y ∧ y ≤ 2147483647) : gMet l X yX4_kept cX4_kept 3 (some .int) 3 0 0 70 σ [.ref o, .int (iI x), .int (iI y)] (oI (fun r σ' => r = (if okSp x y then kepZ (V 0) x y else -1) ∧ σ = σ')) := by
  refine gMet.of (by decide) (Nat.le_of_ble_eq_true rfl) ?_
  intro pp ee ss mm args below meth cd Q H locs ls hargs hx hb hr hlocks hml hown hnm hts hK hG hS hQ hl
  have hown : ss.vm.findClass RX4 = some mm.cls := hown
  have hl : lv_has ls 3 [(0, .ref o), (1, .int (iI x)), (2, .int (iI y))] := hl
  refine lv_iload_n hx hb dX4_kept_0 rfl (lv_at hl 1 rfl) ?_
  refine lv_iload_n hx hb dX4_kept_1 rfl (lv_at hl 2 rfl) ?_
  refine g_callS (As := [.int (iI x), .int (iI y)]) (rest := []) 2 hx hb hml hown hts hK hG hS hl.1 (mX4_isSpot l X σ  x y (by omega) (by omega)) q2072 q2073 q86 q2074 (by decide +kernel) rfl ⟨Nat.le_of_ble_eq_true rfl, Nat.le_of_ble_eq_true rfl⟩ ⟨Nat.le_of_ble_eq_true rfl, Nat.le_of_ble_eq_true rfl⟩ (Nat.le_of_ble_eq_true rfl) dX4_kept_2 (kI (fun r1 σr1 H locs hp hG hS => ?_))
  obtain ⟨hr1, rfl⟩ := hp
  refine g_if_eq (tgt := 17) hx hb dX4_kept_5 (by decide) (by omega) (fun cq2 => ?_) (fun cq2 => ?_)
  · refine g_iconst hx hb dX4_kept_17 ?_
    exact g_iret hx hb hr hlocks hQ hG hS (Nat.zero_le _) (Nat.zero_le _) ⟨_, rfl, (by first | (rw [if_pos (by omega)]; assumption) | rw [if_neg (by omega)]), rfl⟩ dX4_kept_18
  · refine lv_aload_n hx hb dX4_kept_8 rfl (lv_at hl 0 rfl) ?_
    refine lv_iload_n hx hb dX4_kept_9 rfl (lv_at hl 1 rfl) ?_
    refine lv_iload_n hx hb dX4_kept_10 rfl (lv_at hl 2 rfl) ?_
    refine g_callV (As := [.int (iI x), .int (iI y)]) (rest := []) 2 hx hb hml hown hts hK hG hS hl.1 (mX4_keptAt l X σ o a V Iv hM hT x y (by omega) (by omega)) hM.o rfl q2090 q2092 qs47 q86 q2093 (by decide +kernel) rfl ⟨Nat.le_of_ble_eq_true rfl, Nat.le_of_ble_eq_true rfl⟩ ⟨Nat.le_of_ble_eq_true rfl, Nat.le_of_ble_eq_true rfl⟩ (Nat.le_of_ble_eq_true rfl) dX4_kept_11 (kI (fun r3 σr3 H locs hp hG hS => ?_))
    obtain ⟨⟨hr3, kr3⟩, rfl⟩ := hp
    refine lv_goto (tgt := 18) hx hb dX4_kept_14 (by decide) ?_
    exact g_iret hx hb hr hlocks hQ hG hS (Nat.zero_le _) (Nat.zero_le _) ⟨_, rfl, (by first | (rw [if_pos (by omega)]; assumption) | rw [if_neg (by omega)]), rfl⟩ dX4_kept_18

set_option maxHeartbeats 4000000 in
theorem mX4_row (l : Launch) (X : gX) (σ : gS) (o : Nat) (a : Nat → Nat) (V : Nat → Int → Int) (Iv : Nat → Int) (hM : MW X σ o a V Iv) (hT : okT (V 0)) (w : Int) (c : Int) (a9 : Int) (h0 : -2147483648 ≤ w ∧ w ≤ 2147483647) (h1 : -2147483648 ≤ c ∧ c ≤ 2147483647) (h2 : -2147483648 ≤ a9 ∧ a9 ≤ 2147483647) : gMet l X yX4_row cX4_row 4 (some .int) 3 0 0 73 σ [.ref o, .int (iI w), .int (iI c), .int (iI a9)] (oI (fun r σ' => r = (if (0 ≤ w ∧ w ≤ 1) ∧ (0 ≤ c ∧ c ≤ 31) ∧ (0 ≤ a9 ∧ a9 ≤ 2) then crsZ (V 0) w c a9 else -1) ∧ σ = σ')) := by
  refine gMet.of (by decide) (Nat.le_of_ble_eq_true rfl) ?_
  intro pp ee ss mm args below meth cd Q H locs ls hargs hx hb hr hlocks hml hown hnm hts hK hG hS hQ hl
  have hown : ss.vm.findClass RX4 = some mm.cls := hown
  have hl : lv_has ls 4 [(0, .ref o), (1, .int (iI w)), (2, .int (iI c)), (3, .int (iI a9))] := hl
  refine lv_iload_n hx hb dX4_row_0 rfl (lv_at hl 1 rfl) ?_
  refine g_i2l hx hb dX4_row_1 (by omega) ?_
  refine lv_lconst (v := lI 0) hx hb dX4_row_2 (by decide) ?_
  refine lv_lconst (v := lI 1) hx hb dX4_row_3 (by decide) ?_
  refine g_callS (As := [.long (lI w), .long (lI 0), .long (lI 1)]) (rest := []) 3 hx hb hml hown hts hK hG hS hl.1 (mX4_in l X σ  w 0 1 (by omega) (by omega) (by omega)) q2056 q2057 q86 q2058 (by decide +kernel) rfl ⟨Nat.le_of_ble_eq_true rfl, Nat.le_of_ble_eq_true rfl⟩ ⟨Nat.le_of_ble_eq_true rfl, Nat.le_of_ble_eq_true rfl⟩ (Nat.le_of_ble_eq_true rfl) dX4_row_4 (kI (fun r1 σr1 H locs hp hG hS => ?_))
  obtain ⟨hr1, rfl⟩ := hp
  refine g_if_eq (tgt := 39) hx hb dX4_row_7 (by decide) (by omega) (fun cq2 => ?_) (fun cq2 => ?_)
  · refine g_iconst hx hb dX4_row_39 ?_
    exact g_iret hx hb hr hlocks hQ hG hS (Nat.zero_le _) (Nat.zero_le _) ⟨_, rfl, (by first | (rw [if_pos (by omega)]; assumption) | rw [if_neg (by omega)]), rfl⟩ dX4_row_40
  · refine lv_iload_n hx hb dX4_row_10 rfl (lv_at hl 2 rfl) ?_
    refine g_callS (As := [.int (iI c)]) (rest := []) 1 hx hb hml hown hts hK hG hS hl.1 (mX4_isCoordinate l X σ  c (by omega)) q2075 q2076 q86 q2077 (by decide +kernel) rfl ⟨Nat.le_of_ble_eq_true rfl, Nat.le_of_ble_eq_true rfl⟩ ⟨Nat.le_of_ble_eq_true rfl, Nat.le_of_ble_eq_true rfl⟩ (Nat.le_of_ble_eq_true rfl) dX4_row_11 (kI (fun r3 σr3 H locs hp hG hS => ?_))
    obtain ⟨hr3, rfl⟩ := hp
    refine g_if_eq (tgt := 39) hx hb dX4_row_14 (by decide) (by omega) (fun cq4 => ?_) (fun cq4 => ?_)
    · refine g_iconst hx hb dX4_row_39 ?_
      exact g_iret hx hb hr hlocks hQ hG hS (Nat.zero_le _) (Nat.zero_le _) ⟨_, rfl, (by first | (rw [if_pos (by omega)]; assumption) | rw [if_neg (by omega)]), rfl⟩ dX4_row_40
    · refine lv_iload_n hx hb dX4_row_17 rfl (lv_at hl 3 rfl) ?_
      refine g_i2l hx hb dX4_row_18 (by omega) ?_
      refine lv_lconst (v := lI 0) hx hb dX4_row_19 (by decide) ?_
      refine g_ldc2 hx hb (2) hown (hts _ q2059) (by decide) dX4_row_20 ?_
      refine g_callS (As := [.long (lI a9), .long (lI 0), .long (lI (2))]) (rest := []) 3 hx hb hml hown hts hK hG hS hl.1 (mX4_in l X σ  a9 0 (2) (by omega) (by omega) (by omega)) q2056 q2057 q86 q2058 (by decide +kernel) rfl ⟨Nat.le_of_ble_eq_true rfl, Nat.le_of_ble_eq_true rfl⟩ ⟨Nat.le_of_ble_eq_true rfl, Nat.le_of_ble_eq_true rfl⟩ (Nat.le_of_ble_eq_true rfl) dX4_row_23 (kI (fun r5 σr5 H locs hp hG hS => ?_))
      obtain ⟨hr5, rfl⟩ := hp
      refine g_if_eq (tgt := 39) hx hb dX4_row_26 (by decide) (by omega) (fun cq6 => ?_) (fun cq6 => ?_)
      · refine g_iconst hx hb dX4_row_39 ?_
        exact g_iret hx hb hr hlocks hQ hG hS (Nat.zero_le _) (Nat.zero_le _) ⟨_, rfl, (by first | (rw [if_pos (by omega)]; assumption) | rw [if_neg (by omega)]), rfl⟩ dX4_row_40
      · refine lv_aload_n hx hb dX4_row_29 rfl (lv_at hl 0 rfl) ?_
        refine lv_iload_n hx hb dX4_row_30 rfl (lv_at hl 1 rfl) ?_
        refine lv_iload_n hx hb dX4_row_31 rfl (lv_at hl 2 rfl) ?_
        refine lv_iload_n hx hb dX4_row_32 rfl (lv_at hl 3 rfl) ?_
        refine g_callV (As := [.int (iI w), .int (iI c), .int (iI a9)]) (rest := []) 3 hx hb hml hown hts hK hG hS hl.1 (mX4_crossed l X σ o a V Iv hM hT w c a9 (by omega) (by omega) (by omega)) hM.o rfl q2104 q2106 qs48 q86 q2107 (by decide +kernel) rfl ⟨Nat.le_of_ble_eq_true rfl, Nat.le_of_ble_eq_true rfl⟩ ⟨Nat.le_of_ble_eq_true rfl, Nat.le_of_ble_eq_true rfl⟩ (Nat.le_of_ble_eq_true rfl) dX4_row_33 (kI (fun r7 σr7 H locs hp hG hS => ?_))
        obtain ⟨⟨hr7, kr7⟩, rfl⟩ := hp
        refine lv_goto (tgt := 40) hx hb dX4_row_36 (by decide) ?_
        exact g_iret hx hb hr hlocks hQ hG hS (Nat.zero_le _) (Nat.zero_le _) ⟨_, rfl, (by first | (rw [if_pos (by omega)]; assumption) | rw [if_neg (by omega)]), rfl⟩ dX4_row_40

set_option maxHeartbeats 4000000 in
theorem mX4_swap (l : Launch) (X : gX) (σ : gS) (o : Nat) (a : Nat → Nat) (V : Nat → Int → Int) (Iv : Nat → Int) (hM : MW X σ o a V Iv) (hT : okT (V 0)) (w : Int) (x : Int) (y : Int) (h0 : -2147483648 ≤ w ∧ w ≤ 2147483647) (h1 : -2147483648 ≤ x ∧ x ≤ 2147483647) (h2 : -2147483648 ≤ y ∧ y ≤ 2147483647) : gMet l X yX4_swap cX4_swap 4 (some .int) 4 0 0 100 σ [.ref o, .int (iI w), .int (iI x), .int (iI y)] (oI (fun r σ' => r = (if (0 ≤ w ∧ w ≤ 1) ∧ okSp x y then (if w = 0 then othZ (V 0) 0 x y else othZ (V 0) 1 y x) else -1) ∧ σ = σ')) := by
  refine gMet.of (by decide) (Nat.le_of_ble_eq_true rfl) ?_
  intro pp ee ss mm args below meth cd Q H locs ls hargs hx hb hr hlocks hml hown hnm hts hK hG hS hQ hl
  have hown : ss.vm.findClass RX4 = some mm.cls := hown
  have hl : lv_has ls 4 [(0, .ref o), (1, .int (iI w)), (2, .int (iI x)), (3, .int (iI y))] := hl
  refine lv_iload_n hx hb dX4_swap_0 rfl (lv_at hl 1 rfl) ?_
  refine g_i2l hx hb dX4_swap_1 (by omega) ?_
  refine lv_lconst (v := lI 0) hx hb dX4_swap_2 (by decide) ?_
  refine lv_lconst (v := lI 1) hx hb dX4_swap_3 (by decide) ?_
  refine g_callS (As := [.long (lI w), .long (lI 0), .long (lI 1)]) (rest := []) 3 hx hb hml hown hts hK hG hS hl.1 (mX4_in l X σ  w 0 1 (by omega) (by omega) (by omega)) q2056 q2057 q86 q2058 (by decide +kernel) rfl ⟨Nat.le_of_ble_eq_true rfl, Nat.le_of_ble_eq_true rfl⟩ ⟨Nat.le_of_ble_eq_true rfl, Nat.le_of_ble_eq_true rfl⟩ (Nat.le_of_ble_eq_true rfl) dX4_swap_4 (kI (fun r1 σr1 H locs hp hG hS => ?_))
  obtain ⟨hr1, rfl⟩ := hp
  refine g_if_eq (tgt := 44) hx hb dX4_swap_7 (by decide) (by omega) (fun cq2 => ?_) (fun cq2 => ?_)
  · refine g_iconst hx hb dX4_swap_44 ?_
    exact g_iret hx hb hr hlocks hQ hG hS (Nat.zero_le _) (Nat.zero_le _) ⟨_, rfl, (by rw [if_neg (by omega)]), rfl⟩ dX4_swap_45
  · refine lv_iload_n hx hb dX4_swap_10 rfl (lv_at hl 2 rfl) ?_
    refine lv_iload_n hx hb dX4_swap_11 rfl (lv_at hl 3 rfl) ?_
    refine g_callS (As := [.int (iI x), .int (iI y)]) (rest := []) 2 hx hb hml hown hts hK hG hS hl.1 (mX4_isSpot l X σ  x y (by omega) (by omega)) q2072 q2073 q86 q2074 (by decide +kernel) rfl ⟨Nat.le_of_ble_eq_true rfl, Nat.le_of_ble_eq_true rfl⟩ ⟨Nat.le_of_ble_eq_true rfl, Nat.le_of_ble_eq_true rfl⟩ (Nat.le_of_ble_eq_true rfl) dX4_swap_12 (kI (fun r3 σr3 H locs hp hG hS => ?_))
    obtain ⟨hr3, rfl⟩ := hp
    refine g_if_eq (tgt := 44) hx hb dX4_swap_15 (by decide) (by omega) (fun cq4 => ?_) (fun cq4 => ?_)
    · refine g_iconst hx hb dX4_swap_44 ?_
      exact g_iret hx hb hr hlocks hQ hG hS (Nat.zero_le _) (Nat.zero_le _) ⟨_, rfl, (by rw [if_neg (by omega)]), rfl⟩ dX4_swap_45
    · refine lv_aload_n hx hb dX4_swap_18 rfl (lv_at hl 0 rfl) ?_
      refine lv_iload_n hx hb dX4_swap_19 rfl (lv_at hl 1 rfl) ?_
      refine lv_iload_n hx hb dX4_swap_20 rfl (lv_at hl 1 rfl) ?_
      refine g_if_ne (tgt := 28) hx hb dX4_swap_21 (by decide) (by omega) (fun cq5 => ?_) (fun cq5 => ?_)
      · refine lv_iload_n hx hb dX4_swap_28 rfl (lv_at hl 3 rfl) ?_
        refine lv_iload_n hx hb dX4_swap_29 rfl (lv_at hl 1 rfl) ?_
        refine g_if_ne (tgt := 37) hx hb dX4_swap_30 (by decide) (by omega) (fun cq6 => ?_) (fun cq6 => by omega)
        refine lv_iload_n hx hb dX4_swap_37 rfl (lv_at hl 2 rfl) ?_
        refine g_callV (As := [.int (iI w), .int (iI y), .int (iI x)]) (rest := []) 3 hx hb hml hown hts hK hG hS hl.1 (mX4_other l X σ o a V Iv hM hT w y x (by omega) (by omega) (by omega)) hM.o rfl q2119 q2121 qs50 q86 q2122 (by decide +kernel) rfl ⟨Nat.le_of_ble_eq_true rfl, Nat.le_of_ble_eq_true rfl⟩ ⟨Nat.le_of_ble_eq_true rfl, Nat.le_of_ble_eq_true rfl⟩ (Nat.le_of_ble_eq_true rfl) dX4_swap_38 (kI (fun r7 σr7 H locs hp hG hS => ?_))
        obtain ⟨⟨hr7, kr7⟩, rfl⟩ := hp
        refine lv_goto (tgt := 45) hx hb dX4_swap_41 (by decide) ?_
        exact g_iret hx hb hr hlocks hQ hG hS (Nat.zero_le _) (Nat.zero_le _) ⟨_, rfl, (by rw [if_pos (by omega), if_neg (by omega), hr7, show w = 1 by omega]), rfl⟩ dX4_swap_45
      · refine lv_iload_n hx hb dX4_swap_24 rfl (lv_at hl 2 rfl) ?_
        refine lv_goto (tgt := 29) hx hb dX4_swap_25 (by decide) ?_
        refine lv_iload_n hx hb dX4_swap_29 rfl (lv_at hl 1 rfl) ?_
        refine g_if_ne (tgt := 37) hx hb dX4_swap_30 (by decide) (by omega) (fun cq8 => by omega) (fun cq8 => ?_)
        refine lv_iload_n hx hb dX4_swap_33 rfl (lv_at hl 3 rfl) ?_
        refine lv_goto (tgt := 38) hx hb dX4_swap_34 (by decide) ?_
        refine g_callV (As := [.int (iI w), .int (iI x), .int (iI y)]) (rest := []) 3 hx hb hml hown hts hK hG hS hl.1 (mX4_other l X σ o a V Iv hM hT w x y (by omega) (by omega) (by omega)) hM.o rfl q2119 q2121 qs50 q86 q2122 (by decide +kernel) rfl ⟨Nat.le_of_ble_eq_true rfl, Nat.le_of_ble_eq_true rfl⟩ ⟨Nat.le_of_ble_eq_true rfl, Nat.le_of_ble_eq_true rfl⟩ (Nat.le_of_ble_eq_true rfl) dX4_swap_38 (kI (fun r9 σr9 H locs hp hG hS => ?_))
        obtain ⟨⟨hr9, kr9⟩, rfl⟩ := hp
        refine lv_goto (tgt := 45) hx hb dX4_swap_41 (by decide) ?_
        exact g_iret hx hb hr hlocks hQ hG hS (Nat.zero_le _) (Nat.zero_le _) ⟨_, rfl, (by rw [if_pos (by omega), if_pos (by omega), hr9, show w = 0 by omega]), rfl⟩ dX4_swap_45

set_option maxHeartbeats 4000000 in
theorem mX4_behind (l : Launch) (X : gX) (σ : gS) (o : Nat) (a : Nat → Nat) (V : Nat → Int → Int) (Iv : Nat → Int) (hM : MW X σ o a V Iv) (hT : okT (V 0)) (x : Int) (y : Int) (n : Int) (h0 : -2147483648 ≤ x ∧ x ≤ 2147483647) (h1 : -2147483648 ≤ y ∧ y ≤ 2147483647) (h2 : -2147483648 ≤ n ∧ n ≤ 2147483647) : gMet l X yX4_behind cX4_behind 6 (some .int) 6 0 0 148 σ [.ref o, .int (iI x), .int (iI y), .int (iI n)] (oI (fun r σ' => r = behZ (V 0) x y n ∧ σ = σ')) := by
  refine gMet.of (by decide) (Nat.le_of_ble_eq_true rfl) ?_
  intro pp ee ss mm args below meth cd Q H locs ls hargs hx hb hr hlocks hml hown hnm hts hK hG hS hQ hl
  have hown : ss.vm.findClass RX4 = some mm.cls := hown
  have hl : lv_has ls 6 [(0, .ref o), (1, .int (iI x)), (2, .int (iI y)), (3, .int (iI n))] := hl
  refine lv_iload_n hx hb dX4_behind_0 rfl (lv_at hl 1 rfl) ?_
  refine lv_iload_n hx hb dX4_behind_1 rfl (lv_at hl 2 rfl) ?_
  refine g_callS (As := [.int (iI x), .int (iI y)]) (rest := []) 2 hx hb hml hown hts hK hG hS hl.1 (mX4_isSpot l X σ  x y (by omega) (by omega)) q2072 q2073 q86 q2074 (by decide +kernel) rfl ⟨Nat.le_of_ble_eq_true rfl, Nat.le_of_ble_eq_true rfl⟩ ⟨Nat.le_of_ble_eq_true rfl, Nat.le_of_ble_eq_true rfl⟩ (Nat.le_of_ble_eq_true rfl) dX4_behind_2 (kI (fun r1 σr1 H locs hp hG hS => ?_))
  obtain ⟨hr1, rfl⟩ := hp
  refine g_if_ne (tgt := 10) hx hb dX4_behind_5 (by decide) (by omega) (fun cq2 => ?_) (fun cq2 => ?_)
  · refine lv_iload_n hx hb dX4_behind_10 rfl (lv_at hl 3 rfl) ?_
    refine g_i2l hx hb dX4_behind_11 (by omega) ?_
    refine g_ldc2 hx hb (-99) hown (hts _ q2132) (by decide) dX4_behind_12 ?_
    refine g_ldc2 hx hb (99) hown (hts _ q2133) (by decide) dX4_behind_15 ?_
    refine g_callS (As := [.long (lI n), .long (lI (-99)), .long (lI (99))]) (rest := []) 3 hx hb hml hown hts hK hG hS hl.1 (mX4_in l X σ  n (-99) (99) (by omega) (by omega) (by omega)) q2056 q2057 q86 q2058 (by decide +kernel) rfl ⟨Nat.le_of_ble_eq_true rfl, Nat.le_of_ble_eq_true rfl⟩ ⟨Nat.le_of_ble_eq_true rfl, Nat.le_of_ble_eq_true rfl⟩ (Nat.le_of_ble_eq_true rfl) dX4_behind_18 (kI (fun r3 σr3 H locs hp hG hS => ?_))
    obtain ⟨hr3, rfl⟩ := hp
    refine g_if_ne (tgt := 27) hx hb dX4_behind_21 (by decide) (by omega) (fun cq4 => ?_) (fun cq4 => ?_)
    · refine g_bipush hx hb dX4_behind_27 (by decide) ?_
      refine lv_iload_n hx hb dX4_behind_29 rfl (lv_at hl 1 rfl) ?_
      refine g_imul hx hb dX4_behind_30 ?_
      refine lv_iload_n hx hb dX4_behind_31 rfl (lv_at hl 2 rfl) ?_
      refine g_iadd hx hb dX4_behind_32 ?_
      refine lv_istore (lv' := [(4, .int (iI ((32 * x) + y))), (0, .ref o), (1, .int (iI x)), (2, .int (iI y)), (3, .int (iI n))]) hx hb dX4_behind_33 hl (by decide) rfl (fun ls hl => ?_)
      refine lv_iload_n hx hb dX4_behind_35 rfl (lv_at hl 4 rfl) ?_
      refine g_if_ge (tgt := 44) hx hb dX4_behind_36 (by decide) (by omega) (fun cq5 => ?_) (fun cq5 => ?_)
      · refine lv_iload_n hx hb dX4_behind_44 rfl (lv_at hl 4 rfl) ?_
        refine lv_istore (lv' := [(5, .int (iI n)), (4, .int (iI ((32 * x) + y))), (0, .ref o), (1, .int (iI x)), (2, .int (iI y)), (3, .int (iI n))]) hx hb dX4_behind_45 hl (by decide) rfl (fun ls hl => ?_)
        have loop_47 : ∀ (nF : Nat) (k5 : Int) (sp : Int) (k : Nat), (k : Nat) < nF → (k5 = (k : Int)) → (sp = -7 ∨ (0 ≤ sp ∧ sp ≤ 1023)) → (goZ (V 0) (if n < 0 then 1 else 0) k sp = goZ (V 0) (if n < 0 then 1 else 0) n.natAbs (32 * x + y)) → (k ≤ 99) → ∀ (H : Heap) (locs : List Loc) (ls : Array Slot), gSat X σ H → va_S (gA X) ss.heap H locs → lv_has ls 6 [(5, .int (iI k5)), (4, .int (iI sp)), (0, .ref o), (1, .int (iI x)), (2, .int (iI y)), (3, .int (iI n))] → W pp l ee (gR 6 0 0 148) ss mm args below meth cd H locs 0 0 Q (F0 mm 47 ls []) := by
          intro nF
          induction nF with
          | zero => intro k5 sp k hm; exact absurd hm (Nat.not_lt_zero _)
          | succ nF ih_47 =>
            intro k5 sp k hm hi47_0 hi47_1 hi47_2 hi47_3 H locs ls hG hS hl
            refine lv_iload hx hb dX4_behind_47 (lv_at hl 0 rfl) ?_
            refine g_if_le (tgt := 82) hx hb dX4_behind_49 (by decide) (by omega) (fun cq6 => ?_) (fun cq6 => ?_)
            · refine lv_iload hx hb dX4_behind_82 (lv_at hl 1 rfl) ?_
              exact g_iret hx hb hr hlocks hQ hG hS (Nat.zero_le _) (Nat.zero_le _) ⟨_, rfl, (by unfold behZ; rw [if_pos (by omega), if_pos (by omega), ← hi47_2]; first | (rw [show k = 0 by omega]; rfl) | (rename_i hq; rw [show sp = -7 by omega]; exact (goZ_lost _ _ _).symm)), rfl⟩ dX4_behind_84
            · refine lv_iload hx hb dX4_behind_52 (lv_at hl 1 rfl) ?_
              refine g_bipush hx hb dX4_behind_54 (by decide) ?_
              refine g_icmp_eq (tgt := 82) hx hb dX4_behind_56 (by decide) (by omega) (by omega) (fun cq7 => ?_) (fun cq7 => ?_)
              · refine lv_iload hx hb dX4_behind_82 (lv_at hl 1 rfl) ?_
                exact g_iret hx hb hr hlocks hQ hG hS (Nat.zero_le _) (Nat.zero_le _) ⟨_, rfl, (by unfold behZ; rw [if_pos (by omega), if_pos (by omega), ← hi47_2]; first | (rw [show k = 0 by omega]; rfl) | (rename_i hq; rw [show sp = -7 by omega]; exact (goZ_lost _ _ _).symm)), rfl⟩ dX4_behind_84
              · refine lv_aload_n hx hb dX4_behind_59 rfl (lv_at hl 2 rfl) ?_
                refine lv_iload hx hb dX4_behind_60 (lv_at hl 1 rfl) ?_
                refine lv_iload_n hx hb dX4_behind_62 rfl (lv_at hl 5 rfl) ?_
                refine g_if_ge (tgt := 70) hx hb dX4_behind_63 (by decide) (by omega) (fun cq8 => ?_) (fun cq8 => by omega)
                refine g_iconst hx hb dX4_behind_70 ?_
                refine g_callV (As := [.int (iI sp), .int (iI 0)]) (rest := []) 2 hx hb hml hown hts hK hG hS hl.1 (mX4_step l X σ o a V Iv hM hT sp 0 (by omega) (by omega)) hM.o rfl q2134 q2136 qs51 q86 q2137 (by decide +kernel) rfl ⟨Nat.le_of_ble_eq_true rfl, Nat.le_of_ble_eq_true rfl⟩ ⟨Nat.le_of_ble_eq_true rfl, Nat.le_of_ble_eq_true rfl⟩ (Nat.le_of_ble_eq_true rfl) dX4_behind_71 (kI (fun r9 σr9 H locs hp hG hS => ?_))
                obtain ⟨⟨hr9, kr9⟩, rfl⟩ := hp
                refine lv_istore (lv' := [(4, .int (iI r9)), (5, .int (iI k5)), (0, .ref o), (1, .int (iI x)), (2, .int (iI y)), (3, .int (iI n))]) hx hb dX4_behind_74 hl (by decide) rfl (fun ls hl => ?_)
                refine g_iinc (lv' := [(5, .int (iI (k5 + (-1)))), (4, .int (iI r9)), (0, .ref o), (1, .int (iI x)), (2, .int (iI y)), (3, .int (iI n))]) hx hb dX4_behind_76 hl (k := 1) rfl (by decide) rfl (fun ls hl => ?_)
                refine lv_goto (tgt := 47) hx hb dX4_behind_79 (by decide) ?_
                exact ih_47 (k5 + (-1)) r9 (k - 1) (by omega) (by omega) (by omega) (by rw [← hi47_2, hr9, if_neg (by omega)]; exact goZ_s (by omega) (by omega)) (by omega)  _ _ _ hG hS (lv_sub hl [0, 1, 2, 3, 4, 5] rfl)
        exact loop_47 _ n ((32 * x) + y) n.natAbs (Nat.lt_succ_self _) (by omega) (by omega) (by rfl) (by omega)  _ _ _ hG hS (lv_sub hl [0, 1, 2, 3, 4, 5] rfl)
      · refine lv_iload_n hx hb dX4_behind_39 rfl (lv_at hl 4 rfl) ?_
        refine g_ineg hx hb dX4_behind_40 ?_
        refine lv_goto (tgt := 45) hx hb dX4_behind_41 (by decide) ?_
        refine lv_istore (lv' := [(5, .int (iI (-n))), (4, .int (iI ((32 * x) + y))), (0, .ref o), (1, .int (iI x)), (2, .int (iI y)), (3, .int (iI n))]) hx hb dX4_behind_45 hl (by decide) rfl (fun ls hl => ?_)
        have loop_47 : ∀ (nF : Nat) (k5 : Int) (sp : Int) (k : Nat), (k : Nat) < nF → (k5 = (k : Int)) → (sp = -7 ∨ (0 ≤ sp ∧ sp ≤ 1023)) → (goZ (V 0) (if n < 0 then 1 else 0) k sp = goZ (V 0) (if n < 0 then 1 else 0) n.natAbs (32 * x + y)) → (k ≤ 99) → ∀ (H : Heap) (locs : List Loc) (ls : Array Slot), gSat X σ H → va_S (gA X) ss.heap H locs → lv_has ls 6 [(5, .int (iI k5)), (4, .int (iI sp)), (0, .ref o), (1, .int (iI x)), (2, .int (iI y)), (3, .int (iI n))] → W pp l ee (gR 6 0 0 148) ss mm args below meth cd H locs 0 0 Q (F0 mm 47 ls []) := by
          intro nF
          induction nF with
          | zero => intro k5 sp k hm; exact absurd hm (Nat.not_lt_zero _)
          | succ nF ih_47 =>
            intro k5 sp k hm hi47_0 hi47_1 hi47_2 hi47_3 H locs ls hG hS hl
            refine lv_iload hx hb dX4_behind_47 (lv_at hl 0 rfl) ?_
            refine g_if_le (tgt := 82) hx hb dX4_behind_49 (by decide) (by omega) (fun cq10 => ?_) (fun cq10 => ?_)
            · refine lv_iload hx hb dX4_behind_82 (lv_at hl 1 rfl) ?_
              exact g_iret hx hb hr hlocks hQ hG hS (Nat.zero_le _) (Nat.zero_le _) ⟨_, rfl, (by unfold behZ; rw [if_pos (by omega), if_pos (by omega), ← hi47_2]; first | (rw [show k = 0 by omega]; rfl) | (rename_i hq; rw [show sp = -7 by omega]; exact (goZ_lost _ _ _).symm)), rfl⟩ dX4_behind_84
            · refine lv_iload hx hb dX4_behind_52 (lv_at hl 1 rfl) ?_
              refine g_bipush hx hb dX4_behind_54 (by decide) ?_
              refine g_icmp_eq (tgt := 82) hx hb dX4_behind_56 (by decide) (by omega) (by omega) (fun cq11 => ?_) (fun cq11 => ?_)
              · refine lv_iload hx hb dX4_behind_82 (lv_at hl 1 rfl) ?_
                exact g_iret hx hb hr hlocks hQ hG hS (Nat.zero_le _) (Nat.zero_le _) ⟨_, rfl, (by unfold behZ; rw [if_pos (by omega), if_pos (by omega), ← hi47_2]; first | (rw [show k = 0 by omega]; rfl) | (rename_i hq; rw [show sp = -7 by omega]; exact (goZ_lost _ _ _).symm)), rfl⟩ dX4_behind_84
              · refine lv_aload_n hx hb dX4_behind_59 rfl (lv_at hl 2 rfl) ?_
                refine lv_iload hx hb dX4_behind_60 (lv_at hl 1 rfl) ?_
                refine lv_iload_n hx hb dX4_behind_62 rfl (lv_at hl 5 rfl) ?_
                refine g_if_ge (tgt := 70) hx hb dX4_behind_63 (by decide) (by omega) (fun cq12 => by omega) (fun cq12 => ?_)
                refine g_iconst hx hb dX4_behind_66 ?_
                refine lv_goto (tgt := 71) hx hb dX4_behind_67 (by decide) ?_
                refine g_callV (As := [.int (iI sp), .int (iI 1)]) (rest := []) 2 hx hb hml hown hts hK hG hS hl.1 (mX4_step l X σ o a V Iv hM hT sp 1 (by omega) (by omega)) hM.o rfl q2134 q2136 qs51 q86 q2137 (by decide +kernel) rfl ⟨Nat.le_of_ble_eq_true rfl, Nat.le_of_ble_eq_true rfl⟩ ⟨Nat.le_of_ble_eq_true rfl, Nat.le_of_ble_eq_true rfl⟩ (Nat.le_of_ble_eq_true rfl) dX4_behind_71 (kI (fun r13 σr13 H locs hp hG hS => ?_))
                obtain ⟨⟨hr13, kr13⟩, rfl⟩ := hp
                refine lv_istore (lv' := [(4, .int (iI r13)), (5, .int (iI k5)), (0, .ref o), (1, .int (iI x)), (2, .int (iI y)), (3, .int (iI n))]) hx hb dX4_behind_74 hl (by decide) rfl (fun ls hl => ?_)
                refine g_iinc (lv' := [(5, .int (iI (k5 + (-1)))), (4, .int (iI r13)), (0, .ref o), (1, .int (iI x)), (2, .int (iI y)), (3, .int (iI n))]) hx hb dX4_behind_76 hl (k := 1) rfl (by decide) rfl (fun ls hl => ?_)
                refine lv_goto (tgt := 47) hx hb dX4_behind_79 (by decide) ?_
                exact ih_47 (k5 + (-1)) r13 (k - 1) (by omega) (by omega) (by omega) (by rw [← hi47_2, hr13, if_pos (by omega)]; exact goZ_s (by omega) (by omega)) (by omega)  _ _ _ hG hS (lv_sub hl [0, 1, 2, 3, 4, 5] rfl)
        exact loop_47 _ (-n) ((32 * x) + y) n.natAbs (Nat.lt_succ_self _) (by omega) (by omega) (by rfl) (by omega)  _ _ _ hG hS (lv_sub hl [0, 1, 2, 3, 4, 5] rfl)
    · refine g_bipush hx hb dX4_behind_24 (by decide) ?_
      exact g_iret hx hb hr hlocks hQ hG hS (Nat.zero_le _) (Nat.zero_le _) ⟨_, rfl, (by unfold behZ; repeat (first | rw [if_pos (by omega)] | rw [if_neg (by omega)])), rfl⟩ dX4_behind_26
  · refine g_iconst hx hb dX4_behind_8 ?_
    exact g_iret hx hb hr hlocks hQ hG hS (Nat.zero_le _) (Nat.zero_le _) ⟨_, rfl, (by unfold behZ; repeat (first | rw [if_pos (by omega)] | rw [if_neg (by omega)])), rfl⟩ dX4_behind_9

set_option maxHeartbeats 4000000 in
theorem mX4_period (l : Launch) (X : gX) (σ : gS) (o : Nat) (a : Nat → Nat) (V : Nat → Int → Int) (Iv : Nat → Int) (hM : MW X σ o a V Iv) (hT : okT (V 0)) (x : Int) (y : Int) (h0 : -2147483648 ≤ x ∧ x ≤ 2147483647) (h1 : -2147483648 ≤ y ∧ y ≤ 2147483647) : gMet l X yX4_period cX4_period 5 (some .int) 6 0 0 148 σ [.ref o, .int (iI x), .int (iI y)] (oI (fun r σ' => r = (if okSp x y then perZ (V 0) (32 * x + y) else -1) ∧ σ = σ')) := by
  refine gMet.of (by decide) (Nat.le_of_ble_eq_true rfl) ?_
  intro pp ee ss mm args below meth cd Q H locs ls hargs hx hb hr hlocks hml hown hnm hts hK hG hS hQ hl
  have hown : ss.vm.findClass RX4 = some mm.cls := hown
  have hl : lv_has ls 5 [(0, .ref o), (1, .int (iI x)), (2, .int (iI y))] := hl
  refine lv_iload_n hx hb dX4_period_0 rfl (lv_at hl 1 rfl) ?_
  refine lv_iload_n hx hb dX4_period_1 rfl (lv_at hl 2 rfl) ?_
  refine g_callS (As := [.int (iI x), .int (iI y)]) (rest := []) 2 hx hb hml hown hts hK hG hS hl.1 (mX4_isSpot l X σ  x y (by omega) (by omega)) q2072 q2073 q86 q2074 (by decide +kernel) rfl ⟨Nat.le_of_ble_eq_true rfl, Nat.le_of_ble_eq_true rfl⟩ ⟨Nat.le_of_ble_eq_true rfl, Nat.le_of_ble_eq_true rfl⟩ (Nat.le_of_ble_eq_true rfl) dX4_period_2 (kI (fun r1 σr1 H locs hp hG hS => ?_))
  obtain ⟨hr1, rfl⟩ := hp
  refine g_if_ne (tgt := 10) hx hb dX4_period_5 (by decide) (by omega) (fun cq2 => ?_) (fun cq2 => ?_)
  · refine g_bipush hx hb dX4_period_10 (by decide) ?_
    refine lv_iload_n hx hb dX4_period_12 rfl (lv_at hl 1 rfl) ?_
    refine g_imul hx hb dX4_period_13 ?_
    refine lv_iload_n hx hb dX4_period_14 rfl (lv_at hl 2 rfl) ?_
    refine g_iadd hx hb dX4_period_15 ?_
    refine lv_istore_n (lv' := [(3, .int (iI ((32 * x) + y))), (0, .ref o), (1, .int (iI x)), (2, .int (iI y))]) hx hb dX4_period_16 rfl hl (by decide) rfl (fun ls hl => ?_)
    refine g_iconst hx hb dX4_period_17 ?_
    refine lv_istore (lv' := [(4, .int (iI 1)), (3, .int (iI ((32 * x) + y))), (0, .ref o), (1, .int (iI x)), (2, .int (iI y))]) hx hb dX4_period_18 hl (by decide) rfl (fun ls hl => ?_)
    have loop_20 : ∀ (nF : Nat) (at9 : Int) (n9 : Int) (f : Nat), (f : Nat) < nF → (0 ≤ at9 ∧ at9 ≤ 1023) → (n9 + f = 1025) → (f ≤ 1024) → (perA (V 0) (32 * x + y) f n9 at9 = perZ (V 0) (32 * x + y)) → ∀ (H : Heap) (locs : List Loc) (ls : Array Slot), gSat X σ H → va_S (gA X) ss.heap H locs → lv_has ls 5 [(4, .int (iI n9)), (3, .int (iI at9)), (0, .ref o), (1, .int (iI x)), (2, .int (iI y))] → W pp l ee (gR 6 0 0 148) ss mm args below meth cd H locs 0 0 Q (F0 mm 20 ls []) := by
      intro nF
      induction nF with
      | zero => intro at9 n9 f hm; exact absurd hm (Nat.not_lt_zero _)
      | succ nF ih_20 =>
        intro at9 n9 f hm hi20_0 hi20_1 hi20_2 hi20_3 H locs ls hG hS hl
        refine lv_iload hx hb dX4_period_20 (lv_at hl 0 rfl) ?_
        refine g_sipush hx hb dX4_period_22 (by decide) ?_
        refine g_icmp_gt (tgt := 63) hx hb dX4_period_25 (by decide) (by omega) (by omega) (fun cq3 => ?_) (fun cq3 => ?_)
        · refine g_bipush hx hb dX4_period_63 (by decide) ?_
          exact g_iret hx hb hr hlocks hQ hG hS (Nat.zero_le _) (Nat.zero_le _) ⟨_, rfl, (by rw [if_pos (by omega), ← hi20_3]; exact (perA_0 (by omega)).symm), rfl⟩ dX4_period_65
        · refine lv_aload_n hx hb dX4_period_28 rfl (lv_at hl 2 rfl) ?_
          refine lv_iload_n hx hb dX4_period_29 rfl (lv_at hl 1 rfl) ?_
          refine g_iconst hx hb dX4_period_30 ?_
          refine g_callV (As := [.int (iI at9), .int (iI 0)]) (rest := []) 2 hx hb hml hown hts hK hG hS hl.1 (mX4_step l X σ o a V Iv hM hT at9 0 (by omega) (by omega)) hM.o rfl q2134 q2136 qs51 q86 q2137 (by decide +kernel) rfl ⟨Nat.le_of_ble_eq_true rfl, Nat.le_of_ble_eq_true rfl⟩ ⟨Nat.le_of_ble_eq_true rfl, Nat.le_of_ble_eq_true rfl⟩ (Nat.le_of_ble_eq_true rfl) dX4_period_31 (kI (fun r4 σr4 H locs hp hG hS => ?_))
          obtain ⟨⟨hr4, kr4⟩, rfl⟩ := hp
          refine lv_istore_n (lv' := [(3, .int (iI r4)), (4, .int (iI n9)), (0, .ref o), (1, .int (iI x)), (2, .int (iI y))]) hx hb dX4_period_34 rfl hl (by decide) rfl (fun ls hl => ?_)
          refine lv_iload_n hx hb dX4_period_35 rfl (lv_at hl 0 rfl) ?_
          refine g_bipush hx hb dX4_period_36 (by decide) ?_
          refine g_icmp_ne (tgt := 44) hx hb dX4_period_38 (by decide) (by omega) (by omega) (fun cq5 => ?_) (fun cq5 => ?_)
          · refine lv_iload_n hx hb dX4_period_44 rfl (lv_at hl 0 rfl) ?_
            refine g_bipush hx hb dX4_period_45 (by decide) ?_
            refine lv_iload_n hx hb dX4_period_47 rfl (lv_at hl 3 rfl) ?_
            refine g_imul hx hb dX4_period_48 ?_
            refine lv_iload_n hx hb dX4_period_49 rfl (lv_at hl 4 rfl) ?_
            refine g_iadd hx hb dX4_period_50 ?_
            refine g_icmp_ne (tgt := 57) hx hb dX4_period_51 (by decide) (by omega) (by omega) (fun cq6 => ?_) (fun cq6 => ?_)
            · refine g_iinc (lv' := [(4, .int (iI (n9 + 1))), (3, .int (iI r4)), (0, .ref o), (1, .int (iI x)), (2, .int (iI y))]) hx hb dX4_period_57 hl (k := 1) rfl (by decide) rfl (fun ls hl => ?_)
              refine lv_goto (tgt := 20) hx hb dX4_period_60 (by decide) ?_
              exact ih_20 r4 (n9 + 1) (f - 1) (by omega) (by omega) (by omega) (by omega) (by rw [← hi20_3, hr4]; exact perA_s (by omega) (by omega) (by omega))  _ _ _ hG hS (lv_sub hl [0, 1, 2, 3, 4] rfl)
            · refine lv_iload hx hb dX4_period_54 (lv_at hl 1 rfl) ?_
              exact g_iret hx hb hr hlocks hQ hG hS (Nat.zero_le _) (Nat.zero_le _) ⟨_, rfl, (by rw [if_pos (by omega), ← hi20_3]; exact (perA_b (by omega) (by omega) (by omega)).symm), rfl⟩ dX4_period_56
          · refine g_bipush hx hb dX4_period_41 (by decide) ?_
            exact g_iret hx hb hr hlocks hQ hG hS (Nat.zero_le _) (Nat.zero_le _) ⟨_, rfl, (by rw [if_pos (by omega), ← hi20_3]; exact (perA_l (by omega) (by omega)).symm), rfl⟩ dX4_period_43
    exact loop_20 _ ((32 * x) + y) 1 1024 (Nat.lt_succ_self _) (by omega) (by omega) (by omega) (rfl)  _ _ _ hG hS (lv_sub hl [0, 1, 2, 3, 4] rfl)
  · refine g_iconst hx hb dX4_period_8 ?_
    exact g_iret hx hb hr hlocks hQ hG hS (Nat.zero_le _) (Nat.zero_le _) ⟨_, rfl, (by rw [if_neg (by omega)]), rfl⟩ dX4_period_9

set_option maxHeartbeats 4000000 in
theorem mX4_pinched (l : Launch) (X : gX) (σ : gS) (o : Nat) (a : Nat → Nat) (V : Nat → Int → Int) (Iv : Nat → Int) (hM : MW X σ o a V Iv) (hT : okT (V 0)) (w : Int) (h0 : -2147483648 ≤ w ∧ w ≤ 2147483647) : gMet l X yX4_pinched cX4_pinched 6 (some .long) 3 0 0 73 σ [.ref o, .int (iI w)] (oL (fun r σ' => r = (if 0 ≤ w ∧ w ≤ 1 then pinA (V 0) w 32 else noL) ∧ σ = σ')) := by
  refine gMet.of (by decide) (Nat.le_of_ble_eq_true rfl) ?_
  intro pp ee ss mm args below meth cd Q H locs ls hargs hx hb hr hlocks hml hown hnm hts hK hG hS hQ hl
  have hown : ss.vm.findClass RX4 = some mm.cls := hown
  have hl : lv_has ls 6 [(0, .ref o), (1, .int (iI w))] := hl
  refine lv_iload_n hx hb dX4_pinched_0 rfl (lv_at hl 1 rfl) ?_
  refine g_i2l hx hb dX4_pinched_1 (by omega) ?_
  refine lv_lconst (v := lI 0) hx hb dX4_pinched_2 (by decide) ?_
  refine lv_lconst (v := lI 1) hx hb dX4_pinched_3 (by decide) ?_
  refine g_callS (As := [.long (lI w), .long (lI 0), .long (lI 1)]) (rest := []) 3 hx hb hml hown hts hK hG hS hl.1 (mX4_in l X σ  w 0 1 (by omega) (by omega) (by omega)) q2056 q2057 q86 q2058 (by decide +kernel) rfl ⟨Nat.le_of_ble_eq_true rfl, Nat.le_of_ble_eq_true rfl⟩ ⟨Nat.le_of_ble_eq_true rfl, Nat.le_of_ble_eq_true rfl⟩ (Nat.le_of_ble_eq_true rfl) dX4_pinched_4 (kI (fun r1 σr1 H locs hp hG hS => ?_))
  obtain ⟨hr1, rfl⟩ := hp
  refine g_if_ne (tgt := 14) hx hb dX4_pinched_7 (by decide) (by omega) (fun cq2 => ?_) (fun cq2 => ?_)
  · refine lv_lconst (v := lI 0) hx hb dX4_pinched_14 (by decide) ?_
    refine lv_lstore_n (lv' := [(2, .long (lI 0)), (0, .ref o), (1, .int (iI w))]) hx hb dX4_pinched_15 rfl hl (by decide) rfl (fun ls hl => ?_)
    refine g_iconst hx hb dX4_pinched_16 ?_
    refine lv_istore (lv' := [(4, .int (iI 0)), (2, .long (lI 0)), (0, .ref o), (1, .int (iI w))]) hx hb dX4_pinched_17 hl (by decide) rfl (fun ls hl => ?_)
    have loop_19 : ∀ (nF : Nat) (set9 : Int64) (c9 : Int) (k : Nat), (32 - k : Nat) < nF → (c9 = (k : Int)) → (k ≤ 32) → (set9 = pinA (V 0) w k) → ∀ (H : Heap) (locs : List Loc) (ls : Array Slot), gSat X σ H → va_S (gA X) ss.heap H locs → lv_has ls 6 [(4, .int (iI c9)), (2, .long set9), (0, .ref o), (1, .int (iI w))] → W pp l ee (gR 3 0 0 73) ss mm args below meth cd H locs 0 0 Q (F0 mm 19 ls []) := by
      intro nF
      induction nF with
      | zero => intro set9 c9 k hm; exact absurd hm (Nat.not_lt_zero _)
      | succ nF ih_19 =>
        intro set9 c9 k hm hi19_0 hi19_1 hi19_2 H locs ls hG hS hl
        refine lv_iload hx hb dX4_pinched_19 (lv_at hl 0 rfl) ?_
        refine g_bipush hx hb dX4_pinched_21 (by decide) ?_
        refine g_icmp_gt (tgt := 84) hx hb dX4_pinched_23 (by decide) (by omega) (by omega) (fun cq3 => ?_) (fun cq3 => ?_)
        · refine lv_lload_n hx hb dX4_pinched_84 rfl (lv_at hl 1 rfl) ?_
          exact g_lret hx hb hr hlocks hQ hG hS (Nat.zero_le _) (Nat.zero_le _) ⟨_, rfl, (by rw [if_pos (by omega), hi19_2, show k = 32 by omega]), rfl⟩ dX4_pinched_85
        · refine lv_aload_n hx hb dX4_pinched_26 rfl (lv_at hl 2 rfl) ?_
          refine lv_iload_n hx hb dX4_pinched_27 rfl (lv_at hl 3 rfl) ?_
          refine lv_iload hx hb dX4_pinched_28 (lv_at hl 0 rfl) ?_
          refine g_iconst hx hb dX4_pinched_30 ?_
          refine g_callV (As := [.int (iI w), .int (iI c9), .int (iI 1)]) (rest := []) 3 hx hb hml hown hts hK hG hS hl.1 (mX4_crossed l X σ o a V Iv hM hT w c9 1 (by omega) (by omega) (by omega)) hM.o rfl q2104 q2106 qs48 q86 q2107 (by decide +kernel) rfl ⟨Nat.le_of_ble_eq_true rfl, Nat.le_of_ble_eq_true rfl⟩ ⟨Nat.le_of_ble_eq_true rfl, Nat.le_of_ble_eq_true rfl⟩ (Nat.le_of_ble_eq_true rfl) dX4_pinched_31 (kI (fun r4 σr4 H locs hp hG hS => ?_))
          obtain ⟨⟨hr4, kr4⟩, rfl⟩ := hp
          refine lv_istore (lv' := [(5, .int (iI r4)), (4, .int (iI c9)), (2, .long set9), (0, .ref o), (1, .int (iI w))]) hx hb dX4_pinched_34 hl (by decide) rfl (fun ls hl => ?_)
          refine lv_lload_n hx hb dX4_pinched_36 rfl (lv_at hl 2 rfl) ?_
          refine lv_iload hx hb dX4_pinched_37 (lv_at hl 0 rfl) ?_
          refine lv_iload hx hb dX4_pinched_39 (lv_at hl 0 rfl) ?_
          have hp5 := mulR (a := r4) (b := r4) (A := 30) (B := 30) (by omega) (by omega)
          refine g_imul hx hb dX4_pinched_41 ?_
          refine g_bipush hx hb dX4_pinched_42 (by decide) ?_
          refine g_irem hx hb dX4_pinched_44 (by omega) (by omega) ?_
          refine lv_aload_n hx hb dX4_pinched_45 rfl (lv_at hl 3 rfl) ?_
          refine lv_iload_n hx hb dX4_pinched_46 rfl (lv_at hl 4 rfl) ?_
          refine lv_iload hx hb dX4_pinched_47 (lv_at hl 1 rfl) ?_
          refine g_iconst hx hb dX4_pinched_49 ?_
          refine g_callV (As := [.int (iI w), .int (iI c9), .int (iI 0)]) (rest := [.int (iI ((r4 * r4) % 31)), .long set9]) 3 hx hb hml hown hts hK hG hS hl.1 (mX4_crossed l X σ o a V Iv hM hT w c9 0 (by omega) (by omega) (by omega)) hM.o rfl q2104 q2106 qs48 q86 q2107 (by decide +kernel) rfl ⟨Nat.le_of_ble_eq_true rfl, Nat.le_of_ble_eq_true rfl⟩ ⟨Nat.le_of_ble_eq_true rfl, Nat.le_of_ble_eq_true rfl⟩ (Nat.le_of_ble_eq_true rfl) dX4_pinched_50 (kI (fun r6 σr6 H locs hp hG hS => ?_))
          obtain ⟨⟨hr6, kr6⟩, rfl⟩ := hp
          refine lv_aload_n hx hb dX4_pinched_53 rfl (lv_at hl 3 rfl) ?_
          refine lv_iload_n hx hb dX4_pinched_54 rfl (lv_at hl 4 rfl) ?_
          refine lv_iload hx hb dX4_pinched_55 (lv_at hl 1 rfl) ?_
          refine g_iconst hx hb dX4_pinched_57 ?_
          refine g_callV (As := [.int (iI w), .int (iI c9), .int (iI 2)]) (rest := [.int (iI r6), .int (iI ((r4 * r4) % 31)), .long set9]) 3 hx hb hml hown hts hK hG hS hl.1 (mX4_crossed l X σ o a V Iv hM hT w c9 2 (by omega) (by omega) (by omega)) hM.o rfl q2104 q2106 qs48 q86 q2107 (by decide +kernel) rfl ⟨Nat.le_of_ble_eq_true rfl, Nat.le_of_ble_eq_true rfl⟩ ⟨Nat.le_of_ble_eq_true rfl, Nat.le_of_ble_eq_true rfl⟩ (Nat.le_of_ble_eq_true rfl) dX4_pinched_58 (kI (fun r7 σr7 H locs hp hG hS => ?_))
          obtain ⟨⟨hr7, kr7⟩, rfl⟩ := hp
          have hp8 := mulR (a := r6) (b := r7) (A := 30) (B := 30) (by omega) (by omega)
          refine g_imul hx hb dX4_pinched_61 ?_
          refine g_bipush hx hb dX4_pinched_62 (by decide) ?_
          refine g_irem hx hb dX4_pinched_64 (by omega) (by omega) ?_
          refine g_icmp_ne (tgt := 75) hx hb dX4_pinched_65 (by decide) (by omega) (by omega) (fun cq9 => ?_) (fun cq9 => ?_)
          · refine lv_lconst (v := lI 0) hx hb dX4_pinched_75 (by decide) ?_
            refine lv_lor hx hb dX4_pinched_76 ?_
            refine lv_lstore_n (lv' := [(2, .long (set9 ||| (lI 0))), (5, .int (iI r4)), (4, .int (iI c9)), (0, .ref o), (1, .int (iI w))]) hx hb dX4_pinched_77 rfl hl (by decide) rfl (fun ls hl => ?_)
            refine g_iinc (lv' := [(4, .int (iI (c9 + 1))), (2, .long (set9 ||| (lI 0))), (5, .int (iI r4)), (0, .ref o), (1, .int (iI w))]) hx hb dX4_pinched_78 hl (k := 2) rfl (by decide) rfl (fun ls hl => ?_)
            refine lv_goto (tgt := 19) hx hb dX4_pinched_81 (by decide) ?_
            exact ih_19 (set9 ||| (lI 0)) (c9 + 1) (k + 1) (by omega) (by omega) (by omega) (by rw [hi19_2, pinA]; subst hi19_0; first | rw [if_pos (by simp only [*] at *; omega)] | rw [if_neg (by simp only [*] at *; omega)])  _ _ _ hG hS (lv_sub hl [0, 1, 3, 4] rfl)
          · refine lv_lconst (v := lI 1) hx hb dX4_pinched_68 (by decide) ?_
            refine lv_iload hx hb dX4_pinched_69 (lv_at hl 1 rfl) ?_
            refine lv_lshl (v := bitL c9) hx hb dX4_pinched_71 rfl ?_
            refine lv_goto (tgt := 76) hx hb dX4_pinched_72 (by decide) ?_
            refine lv_lor hx hb dX4_pinched_76 ?_
            refine lv_lstore_n (lv' := [(2, .long (set9 ||| (bitL c9))), (5, .int (iI r4)), (4, .int (iI c9)), (0, .ref o), (1, .int (iI w))]) hx hb dX4_pinched_77 rfl hl (by decide) rfl (fun ls hl => ?_)
            refine g_iinc (lv' := [(4, .int (iI (c9 + 1))), (2, .long (set9 ||| (bitL c9))), (5, .int (iI r4)), (0, .ref o), (1, .int (iI w))]) hx hb dX4_pinched_78 hl (k := 2) rfl (by decide) rfl (fun ls hl => ?_)
            refine lv_goto (tgt := 19) hx hb dX4_pinched_81 (by decide) ?_
            exact ih_19 (set9 ||| (bitL c9)) (c9 + 1) (k + 1) (by omega) (by omega) (by omega) (by rw [hi19_2, pinA]; subst hi19_0; first | rw [if_pos (by simp only [*] at *; omega)] | rw [if_neg (by simp only [*] at *; omega)])  _ _ _ hG hS (lv_sub hl [0, 1, 3, 4] rfl)
    exact loop_19 _ (lI 0) 0 0 (Nat.lt_succ_self _) (rfl) (by decide) (rfl)  _ _ _ hG hS (lv_sub hl [0, 1, 2, 3] rfl)
  · refine g_ldc2 hx hb (-9223372036854775808) hown (hts _ q2127) (by decide) dX4_pinched_10 ?_
    exact g_lret hx hb hr hlocks hQ hG hS (Nat.zero_le _) (Nat.zero_le _) ⟨_, rfl, (by rw [if_neg (by omega)]; rfl), rfl⟩ dX4_pinched_13
