theorem mX0_isIn (l : Launch) (X : gX) (σ : gS)  (v : Int) (lo : Int) (hi : Int) (h0 : -9223372036854775808 ≤ v ∧ v ≤ 9223372036854775807) (h1 : -9223372036854775808 ≤ lo ∧ lo ≤ 9223372036854775807) (h2 : -9223372036854775808 ≤ hi ∧ hi ≤ 9223372036854775807) : gMet l X yX0_isIn cX0_isIn 6 (some .boolean) 0 0 0 0 σ [.long (lI v), .long (lI lo), .long (lI hi)] (oI (fun r σ' => ((r = 1 ∧ (lo ≤ v ∧ v ≤ hi)) ∨ (r = 0 ∧ ¬ (lo ≤ v ∧ v ≤ hi))) ∧ σ = σ')) := by
  refine gMet.of (by decide) (Nat.le_of_ble_eq_true rfl) ?_
  intro pp ee ss mm args below meth cd Q H locs ls hargs hx hb hr hlocks hml hown hnm hts hK hG hS hQ hl
  have hown : ss.vm.findClass RX0 = some mm.cls := hown
  have hl : lv_has ls 6 [(0, .long (lI v)), (2, .long (lI lo)), (4, .long (lI hi))] := hl
  refine lv_lload_n hx hb dX0_isIn_0 rfl (lv_at hl 0 rfl) ?_
  refine lv_lload_n hx hb dX0_isIn_1 rfl (lv_at hl 1 rfl) ?_
  refine g_lcmp hx hb dX0_isIn_2 (by omega) (by omega) (fun z1 hz1 => ?_)
  refine g_if_lt (tgt := 17) hx hb dX0_isIn_3 (by decide) (by omega) (fun cq2 => ?_) (fun cq2 => ?_)
  · refine g_iconst hx hb dX0_isIn_17 ?_
    exact g_zret hx hb hr hlocks hQ hG hS (Nat.zero_le _) (Nat.zero_le _) (gnz (by omega)) ⟨_, rfl, (by omega), rfl⟩ dX0_isIn_18
  · refine lv_lload_n hx hb dX0_isIn_6 rfl (lv_at hl 0 rfl) ?_
    refine lv_lload hx hb dX0_isIn_7 (lv_at hl 2 rfl) ?_
    refine g_lcmp hx hb dX0_isIn_9 (by omega) (by omega) (fun z3 hz3 => ?_)
    refine g_if_gt (tgt := 17) hx hb dX0_isIn_10 (by decide) (by omega) (fun cq4 => ?_) (fun cq4 => ?_)
    · refine g_iconst hx hb dX0_isIn_17 ?_
      exact g_zret hx hb hr hlocks hQ hG hS (Nat.zero_le _) (Nat.zero_le _) (gnz (by omega)) ⟨_, rfl, (by omega), rfl⟩ dX0_isIn_18
    · refine g_iconst hx hb dX0_isIn_13 ?_
      refine lv_goto (tgt := 18) hx hb dX0_isIn_14 (by decide) ?_
      exact g_zret hx hb hr hlocks hQ hG hS (Nat.zero_le _) (Nat.zero_le _) (gnz (by omega)) ⟨_, rfl, (by omega), rfl⟩ dX0_isIn_18

theorem mX0_isCoordinate (l : Launch) (X : gX) (σ : gS)  (c : Int) (h0 : -2147483648 ≤ c ∧ c ≤ 2147483647) : gMet l X yX0_isCoordinate cX0_isCoordinate 1 (some .boolean) 1 0 0 25 σ [.int (iI c)] (oI (fun r σ' => ((r = 1 ∧ (0 ≤ c ∧ c ≤ 31)) ∨ (r = 0 ∧ ¬ (0 ≤ c ∧ c ≤ 31))) ∧ σ = σ')) := by
  refine gMet.of (by decide) (Nat.le_of_ble_eq_true rfl) ?_
  intro pp ee ss mm args below meth cd Q H locs ls hargs hx hb hr hlocks hml hown hnm hts hK hG hS hQ hl
  have hown : ss.vm.findClass RX0 = some mm.cls := hown
  have hl : lv_has ls 1 [(0, .int (iI c))] := hl
  refine lv_iload_n hx hb dX0_isCoordinate_0 rfl (lv_at hl 0 rfl) ?_
  refine g_i2l hx hb dX0_isCoordinate_1 (by omega) ?_
  refine lv_lconst (v := lI 0) hx hb dX0_isCoordinate_2 (by decide) ?_
  refine g_ldc2 hx hb (31) hown (hts _ q597) (by decide) dX0_isCoordinate_3 ?_
  refine g_callS (As := [.long (lI c), .long (lI 0), .long (lI (31))]) (rest := []) 3 hx hb hml hown hts hK hG hS hl.1 (mX0_isIn l X σ  c 0 (31) (by omega) (by omega) (by omega)) q494 q495 q69 q496 (by decide +kernel) rfl ⟨Nat.le_of_ble_eq_true rfl, Nat.le_of_ble_eq_true rfl⟩ ⟨Nat.le_of_ble_eq_true rfl, Nat.le_of_ble_eq_true rfl⟩ (Nat.le_of_ble_eq_true rfl) dX0_isCoordinate_6 (kI (fun r1 σr1 H locs hp hG hS => ?_))
  obtain ⟨hr1, rfl⟩ := hp
  exact g_zret hx hb hr hlocks hQ hG hS (Nat.zero_le _) (Nat.zero_le _) (gnz (by omega)) ⟨_, rfl, (by omega), rfl⟩ dX0_isCoordinate_9

theorem mX0_isNumber (l : Launch) (X : gX) (σ : gS)  (c : Int) (h0 : -2147483648 ≤ c ∧ c ≤ 2147483647) : gMet l X yX0_isNumber cX0_isNumber 1 (some .boolean) 1 0 0 25 σ [.int (iI c)] (oI (fun r σ' => ((r = 1 ∧ (0 ≤ c ∧ c ≤ 30)) ∨ (r = 0 ∧ ¬ (0 ≤ c ∧ c ≤ 30))) ∧ σ = σ')) := by
  refine gMet.of (by decide) (Nat.le_of_ble_eq_true rfl) ?_
  intro pp ee ss mm args below meth cd Q H locs ls hargs hx hb hr hlocks hml hown hnm hts hK hG hS hQ hl
  have hown : ss.vm.findClass RX0 = some mm.cls := hown
  have hl : lv_has ls 1 [(0, .int (iI c))] := hl
  refine lv_iload_n hx hb dX0_isNumber_0 rfl (lv_at hl 0 rfl) ?_
  refine g_i2l hx hb dX0_isNumber_1 (by omega) ?_
  refine lv_lconst (v := lI 0) hx hb dX0_isNumber_2 (by decide) ?_
  refine g_ldc2 hx hb (30) hown (hts _ q504) (by decide) dX0_isNumber_3 ?_
  refine g_callS (As := [.long (lI c), .long (lI 0), .long (lI (30))]) (rest := []) 3 hx hb hml hown hts hK hG hS hl.1 (mX0_isIn l X σ  c 0 (30) (by omega) (by omega) (by omega)) q494 q495 q69 q496 (by decide +kernel) rfl ⟨Nat.le_of_ble_eq_true rfl, Nat.le_of_ble_eq_true rfl⟩ ⟨Nat.le_of_ble_eq_true rfl, Nat.le_of_ble_eq_true rfl⟩ (Nat.le_of_ble_eq_true rfl) dX0_isNumber_6 (kI (fun r1 σr1 H locs hp hG hS => ?_))
  obtain ⟨hr1, rfl⟩ := hp
  exact g_zret hx hb hr hlocks hQ hG hS (Nat.zero_le _) (Nat.zero_le _) (gnz (by omega)) ⟨_, rfl, (by omega), rfl⟩ dX0_isNumber_9

theorem mX0_isTable (l : Launch) (X : gX) (σ : gS)  (c : Int) (h0 : -2147483648 ≤ c ∧ c ≤ 2147483647) : gMet l X yX0_isTable cX0_isTable 1 (some .boolean) 1 0 0 25 σ [.int (iI c)] (oI (fun r σ' => ((r = 1 ∧ (0 ≤ c ∧ c ≤ 1)) ∨ (r = 0 ∧ ¬ (0 ≤ c ∧ c ≤ 1))) ∧ σ = σ')) := by
  refine gMet.of (by decide) (Nat.le_of_ble_eq_true rfl) ?_
  intro pp ee ss mm args below meth cd Q H locs ls hargs hx hb hr hlocks hml hown hnm hts hK hG hS hQ hl
  have hown : ss.vm.findClass RX0 = some mm.cls := hown
  have hl : lv_has ls 1 [(0, .int (iI c))] := hl
  refine lv_iload_n hx hb dX0_isTable_0 rfl (lv_at hl 0 rfl) ?_
  refine g_i2l hx hb dX0_isTable_1 (by omega) ?_
  refine lv_lconst (v := lI 0) hx hb dX0_isTable_2 (by decide) ?_
  refine lv_lconst (v := lI 1) hx hb dX0_isTable_3 (by decide) ?_
  refine g_callS (As := [.long (lI c), .long (lI 0), .long (lI 1)]) (rest := []) 3 hx hb hml hown hts hK hG hS hl.1 (mX0_isIn l X σ  c 0 1 (by omega) (by omega) (by omega)) q494 q495 q69 q496 (by decide +kernel) rfl ⟨Nat.le_of_ble_eq_true rfl, Nat.le_of_ble_eq_true rfl⟩ ⟨Nat.le_of_ble_eq_true rfl, Nat.le_of_ble_eq_true rfl⟩ (Nat.le_of_ble_eq_true rfl) dX0_isTable_4 (kI (fun r1 σr1 H locs hp hG hS => ?_))
  obtain ⟨hr1, rfl⟩ := hp
  exact g_zret hx hb hr hlocks hQ hG hS (Nat.zero_le _) (Nat.zero_le _) (gnz (by omega)) ⟨_, rfl, (by omega), rfl⟩ dX0_isTable_7

theorem mX0_isPower (l : Launch) (X : gX) (σ : gS)  (c : Int) (h0 : -2147483648 ≤ c ∧ c ≤ 2147483647) : gMet l X yX0_isPower cX0_isPower 1 (some .boolean) 1 0 0 25 σ [.int (iI c)] (oI (fun r σ' => ((r = 1 ∧ (0 ≤ c ∧ c ≤ 2)) ∨ (r = 0 ∧ ¬ (0 ≤ c ∧ c ≤ 2))) ∧ σ = σ')) := by
  refine gMet.of (by decide) (Nat.le_of_ble_eq_true rfl) ?_
  intro pp ee ss mm args below meth cd Q H locs ls hargs hx hb hr hlocks hml hown hnm hts hK hG hS hQ hl
  have hown : ss.vm.findClass RX0 = some mm.cls := hown
  have hl : lv_has ls 1 [(0, .int (iI c))] := hl
  refine lv_iload_n hx hb dX0_isPower_0 rfl (lv_at hl 0 rfl) ?_
  refine g_i2l hx hb dX0_isPower_1 (by omega) ?_
  refine lv_lconst (v := lI 0) hx hb dX0_isPower_2 (by decide) ?_
  refine g_ldc2 hx hb (2) hown (hts _ q500) (by decide) dX0_isPower_3 ?_
  refine g_callS (As := [.long (lI c), .long (lI 0), .long (lI (2))]) (rest := []) 3 hx hb hml hown hts hK hG hS hl.1 (mX0_isIn l X σ  c 0 (2) (by omega) (by omega) (by omega)) q494 q495 q69 q496 (by decide +kernel) rfl ⟨Nat.le_of_ble_eq_true rfl, Nat.le_of_ble_eq_true rfl⟩ ⟨Nat.le_of_ble_eq_true rfl, Nat.le_of_ble_eq_true rfl⟩ (Nat.le_of_ble_eq_true rfl) dX0_isPower_6 (kI (fun r1 σr1 H locs hp hG hS => ?_))
  obtain ⟨hr1, rfl⟩ := hp
  exact g_zret hx hb hr hlocks hQ hG hS (Nat.zero_le _) (Nat.zero_le _) (gnz (by omega)) ⟨_, rfl, (by omega), rfl⟩ dX0_isPower_9

theorem mX0_isWhich (l : Launch) (X : gX) (σ : gS)  (c : Int) (h0 : -2147483648 ≤ c ∧ c ≤ 2147483647) : gMet l X yX0_isWhich cX0_isWhich 1 (some .boolean) 1 0 0 25 σ [.int (iI c)] (oI (fun r σ' => ((r = 1 ∧ (0 ≤ c ∧ c ≤ 1)) ∨ (r = 0 ∧ ¬ (0 ≤ c ∧ c ≤ 1))) ∧ σ = σ')) := by
  refine gMet.of (by decide) (Nat.le_of_ble_eq_true rfl) ?_
  intro pp ee ss mm args below meth cd Q H locs ls hargs hx hb hr hlocks hml hown hnm hts hK hG hS hQ hl
  have hown : ss.vm.findClass RX0 = some mm.cls := hown
  have hl : lv_has ls 1 [(0, .int (iI c))] := hl
  refine lv_iload_n hx hb dX0_isWhich_0 rfl (lv_at hl 0 rfl) ?_
  refine g_i2l hx hb dX0_isWhich_1 (by omega) ?_
  refine lv_lconst (v := lI 0) hx hb dX0_isWhich_2 (by decide) ?_
  refine lv_lconst (v := lI 1) hx hb dX0_isWhich_3 (by decide) ?_
  refine g_callS (As := [.long (lI c), .long (lI 0), .long (lI 1)]) (rest := []) 3 hx hb hml hown hts hK hG hS hl.1 (mX0_isIn l X σ  c 0 1 (by omega) (by omega) (by omega)) q494 q495 q69 q496 (by decide +kernel) rfl ⟨Nat.le_of_ble_eq_true rfl, Nat.le_of_ble_eq_true rfl⟩ ⟨Nat.le_of_ble_eq_true rfl, Nat.le_of_ble_eq_true rfl⟩ (Nat.le_of_ble_eq_true rfl) dX0_isWhich_4 (kI (fun r1 σr1 H locs hp hG hS => ?_))
  obtain ⟨hr1, rfl⟩ := hp
  exact g_zret hx hb hr hlocks hQ hG hS (Nat.zero_le _) (Nat.zero_le _) (gnz (by omega)) ⟨_, rfl, (by omega), rfl⟩ dX0_isWhich_7

theorem mX0_isList (l : Launch) (X : gX) (σ : gS)  (c : Int) (h0 : -2147483648 ≤ c ∧ c ≤ 2147483647) : gMet l X yX0_isList cX0_isList 1 (some .boolean) 1 0 0 25 σ [.int (iI c)] (oI (fun r σ' => ((r = 1 ∧ (0 ≤ c ∧ c ≤ 3)) ∨ (r = 0 ∧ ¬ (0 ≤ c ∧ c ≤ 3))) ∧ σ = σ')) := by
  refine gMet.of (by decide) (Nat.le_of_ble_eq_true rfl) ?_
  intro pp ee ss mm args below meth cd Q H locs ls hargs hx hb hr hlocks hml hown hnm hts hK hG hS hQ hl
  have hown : ss.vm.findClass RX0 = some mm.cls := hown
  have hl : lv_has ls 1 [(0, .int (iI c))] := hl
  refine lv_iload_n hx hb dX0_isList_0 rfl (lv_at hl 0 rfl) ?_
  refine g_i2l hx hb dX0_isList_1 (by omega) ?_
  refine lv_lconst (v := lI 0) hx hb dX0_isList_2 (by decide) ?_
  refine g_ldc2 hx hb (3) hown (hts _ q1418) (by decide) dX0_isList_3 ?_
  refine g_callS (As := [.long (lI c), .long (lI 0), .long (lI (3))]) (rest := []) 3 hx hb hml hown hts hK hG hS hl.1 (mX0_isIn l X σ  c 0 (3) (by omega) (by omega) (by omega)) q494 q495 q69 q496 (by decide +kernel) rfl ⟨Nat.le_of_ble_eq_true rfl, Nat.le_of_ble_eq_true rfl⟩ ⟨Nat.le_of_ble_eq_true rfl, Nat.le_of_ble_eq_true rfl⟩ (Nat.le_of_ble_eq_true rfl) dX0_isList_6 (kI (fun r1 σr1 H locs hp hG hS => ?_))
  obtain ⟨hr1, rfl⟩ := hp
  exact g_zret hx hb hr hlocks hQ hG hS (Nat.zero_le _) (Nat.zero_le _) (gnz (by omega)) ⟨_, rfl, (by omega), rfl⟩ dX0_isList_9

theorem mX0_times (l : Launch) (X : gX) (σ : gS)  (a9 : Int) (b9 : Int) (h0 : 0 ≤ a9 ∧ a9 ≤ 40000) (h1 : 0 ≤ b9 ∧ b9 ≤ 40000) : gMet l X yX0_times cX0_times 2 (some .int) 0 0 0 0 σ [.int (iI a9), .int (iI b9)] (oI (fun r σ' => (r = a9 * b9 % 31 ∧ (0 ≤ r ∧ r ≤ 30)) ∧ σ = σ')) := by
  refine gMet.of (by decide) (Nat.le_of_ble_eq_true rfl) ?_
  intro pp ee ss mm args below meth cd Q H locs ls hargs hx hb hr hlocks hml hown hnm hts hK hG hS hQ hl
  have hown : ss.vm.findClass RX0 = some mm.cls := hown
  have hl : lv_has ls 2 [(0, .int (iI a9)), (1, .int (iI b9))] := hl
  refine lv_iload_n hx hb dX0_times_0 rfl (lv_at hl 0 rfl) ?_
  refine lv_iload_n hx hb dX0_times_1 rfl (lv_at hl 1 rfl) ?_
  have hp1 := mulR (a := a9) (b := b9) (A := 40000) (B := 40000) (by omega) (by omega)
  refine g_imul hx hb dX0_times_2 ?_
  refine g_bipush hx hb dX0_times_3 (by decide) ?_
  refine g_irem hx hb dX0_times_5 (by omega) (by omega) ?_
  exact g_iret hx hb hr hlocks hQ hG hS (Nat.zero_le _) (Nat.zero_le _) ⟨_, rfl, ⟨(rfl), (by omega)⟩, rfl⟩ dX0_times_6

theorem mX0_less (l : Launch) (X : gX) (σ : gS)  (a9 : Int) (b9 : Int) (h0 : 0 ≤ a9 ∧ a9 ≤ 30) (h1 : 0 ≤ b9 ∧ b9 ≤ 30) : gMet l X yX0_less cX0_less 2 (some .int) 0 0 0 0 σ [.int (iI a9), .int (iI b9)] (oI (fun r σ' => (r = (a9 - b9) % 31 ∧ (0 ≤ r ∧ r ≤ 30)) ∧ σ = σ')) := by
  refine gMet.of (by decide) (Nat.le_of_ble_eq_true rfl) ?_
  intro pp ee ss mm args below meth cd Q H locs ls hargs hx hb hr hlocks hml hown hnm hts hK hG hS hQ hl
  have hown : ss.vm.findClass RX0 = some mm.cls := hown
  have hl : lv_has ls 2 [(0, .int (iI a9)), (1, .int (iI b9))] := hl
  refine lv_iload_n hx hb dX0_less_0 rfl (lv_at hl 0 rfl) ?_
  refine g_bipush hx hb dX0_less_1 (by decide) ?_
  refine g_iadd hx hb dX0_less_3 ?_
  refine lv_iload_n hx hb dX0_less_4 rfl (lv_at hl 1 rfl) ?_
  refine g_isub hx hb dX0_less_5 ?_
  refine g_bipush hx hb dX0_less_6 (by decide) ?_
  refine g_irem hx hb dX0_less_8 (by omega) (by omega) ?_
  exact g_iret hx hb hr hlocks hQ hG hS (Nat.zero_le _) (Nat.zero_le _) ⟨_, rfl, ⟨(by omega), (by omega)⟩, rfl⟩ dX0_less_9

theorem mX0_codeOf (l : Launch) (X : gX) (σ : gS)  (x : Int) (y : Int) (h0 : -2147483648 ≤ x ∧ x ≤ 2147483647) (h1 : -2147483648 ≤ y ∧ y ≤ 2147483647) : gMet l X yX0_codeOf cX0_codeOf 2 (some .int) 0 0 0 0 σ [.int (iI x), .int (iI y)] (oI (fun r σ' => r = 32 * x + y ∧ σ = σ')) := by
  refine gMet.of (by decide) (Nat.le_of_ble_eq_true rfl) ?_
  intro pp ee ss mm args below meth cd Q H locs ls hargs hx hb hr hlocks hml hown hnm hts hK hG hS hQ hl
  have hown : ss.vm.findClass RX0 = some mm.cls := hown
  have hl : lv_has ls 2 [(0, .int (iI x)), (1, .int (iI y))] := hl
  refine g_bipush hx hb dX0_codeOf_0 (by decide) ?_
  refine lv_iload_n hx hb dX0_codeOf_2 rfl (lv_at hl 0 rfl) ?_
  refine g_imul hx hb dX0_codeOf_3 ?_
  refine lv_iload_n hx hb dX0_codeOf_4 rfl (lv_at hl 1 rfl) ?_
  refine g_iadd hx hb dX0_codeOf_5 ?_
  exact g_iret hx hb hr hlocks hQ hG hS (Nat.zero_le _) (Nat.zero_le _) ⟨_, rfl, (rfl), rfl⟩ dX0_codeOf_6

theorem mX0_isSpot (l : Launch) (X : gX) (σ : gS)  (x : Int) (y : Int) (h0 : -2147483648 ≤ x ∧ x ≤ 2147483647) (h1 : -2147483648 ≤ y ∧ y ≤ 2147483647) : gMet l X yX0_isSpot cX0_isSpot 2 (some .boolean) 2 0 0 45 σ [.int (iI x), .int (iI y)] (oI (fun r σ' => ((r = 1 ∧ ((0 ≤ x ∧ x ≤ 31) ∧ (0 ≤ y ∧ y ≤ 31))) ∨ (r = 0 ∧ ¬ ((0 ≤ x ∧ x ≤ 31) ∧ (0 ≤ y ∧ y ≤ 31)))) ∧ σ = σ')) := by
  refine gMet.of (by decide) (Nat.le_of_ble_eq_true rfl) ?_
  intro pp ee ss mm args below meth cd Q H locs ls hargs hx hb hr hlocks hml hown hnm hts hK hG hS hQ hl
  have hown : ss.vm.findClass RX0 = some mm.cls := hown
  have hl : lv_has ls 2 [(0, .int (iI x)), (1, .int (iI y))] := hl
  refine lv_iload_n hx hb dX0_isSpot_0 rfl (lv_at hl 0 rfl) ?_
  refine g_callS (As := [.int (iI x)]) (rest := []) 1 hx hb hml hown hts hK hG hS hl.1 (mX0_isCoordinate l X σ  x (by omega)) q594 q595 q69 q596 (by decide +kernel) rfl ⟨Nat.le_of_ble_eq_true rfl, Nat.le_of_ble_eq_true rfl⟩ ⟨Nat.le_of_ble_eq_true rfl, Nat.le_of_ble_eq_true rfl⟩ (Nat.le_of_ble_eq_true rfl) dX0_isSpot_1 (kI (fun r1 σr1 H locs hp hG hS => ?_))
  obtain ⟨hr1, rfl⟩ := hp
  refine g_if_eq (tgt := 18) hx hb dX0_isSpot_4 (by decide) (by omega) (fun cq2 => ?_) (fun cq2 => ?_)
  · refine g_iconst hx hb dX0_isSpot_18 ?_
    exact g_zret hx hb hr hlocks hQ hG hS (Nat.zero_le _) (Nat.zero_le _) (gnz (by omega)) ⟨_, rfl, (by omega), rfl⟩ dX0_isSpot_19
  · refine lv_iload_n hx hb dX0_isSpot_7 rfl (lv_at hl 1 rfl) ?_
    refine g_callS (As := [.int (iI y)]) (rest := []) 1 hx hb hml hown hts hK hG hS hl.1 (mX0_isCoordinate l X σ  y (by omega)) q594 q595 q69 q596 (by decide +kernel) rfl ⟨Nat.le_of_ble_eq_true rfl, Nat.le_of_ble_eq_true rfl⟩ ⟨Nat.le_of_ble_eq_true rfl, Nat.le_of_ble_eq_true rfl⟩ (Nat.le_of_ble_eq_true rfl) dX0_isSpot_8 (kI (fun r3 σr3 H locs hp hG hS => ?_))
    obtain ⟨hr3, rfl⟩ := hp
    refine g_if_eq (tgt := 18) hx hb dX0_isSpot_11 (by decide) (by omega) (fun cq4 => ?_) (fun cq4 => ?_)
    · refine g_iconst hx hb dX0_isSpot_18 ?_
      exact g_zret hx hb hr hlocks hQ hG hS (Nat.zero_le _) (Nat.zero_le _) (gnz (by omega)) ⟨_, rfl, (by omega), rfl⟩ dX0_isSpot_19
    · refine g_iconst hx hb dX0_isSpot_14 ?_
      refine lv_goto (tgt := 19) hx hb dX0_isSpot_15 (by decide) ?_
      exact g_zret hx hb hr hlocks hQ hG hS (Nat.zero_le _) (Nat.zero_le _) (gnz (by omega)) ⟨_, rfl, (by omega), rfl⟩ dX0_isSpot_19

theorem mX0_cell (l : Launch) (X : gX) (σ : gS)  (t : Int) (i : Int) (j : Int) (h0 : -2147483648 ≤ t ∧ t ≤ 2147483647) (h1 : -2147483648 ≤ i ∧ i ≤ 2147483647) (h2 : -2147483648 ≤ j ∧ j ≤ 2147483647) : gMet l X yX0_cell cX0_cell 3 (some .int) 0 0 0 0 σ [.int (iI t), .int (iI i), .int (iI j)] (oI (fun r σ' => r = 9 * t + 3 * i + j ∧ σ = σ')) := by
  refine gMet.of (by decide) (Nat.le_of_ble_eq_true rfl) ?_
  intro pp ee ss mm args below meth cd Q H locs ls hargs hx hb hr hlocks hml hown hnm hts hK hG hS hQ hl
  have hown : ss.vm.findClass RX0 = some mm.cls := hown
  have hl : lv_has ls 3 [(0, .int (iI t)), (1, .int (iI i)), (2, .int (iI j))] := hl
  refine g_bipush hx hb dX0_cell_0 (by decide) ?_
  refine lv_iload_n hx hb dX0_cell_2 rfl (lv_at hl 0 rfl) ?_
  refine g_imul hx hb dX0_cell_3 ?_
  refine g_iconst hx hb dX0_cell_4 ?_
  refine lv_iload_n hx hb dX0_cell_5 rfl (lv_at hl 1 rfl) ?_
  refine g_imul hx hb dX0_cell_6 ?_
  refine g_iadd hx hb dX0_cell_7 ?_
  refine lv_iload_n hx hb dX0_cell_8 rfl (lv_at hl 2 rfl) ?_
  refine g_iadd hx hb dX0_cell_9 ?_
  exact g_iret hx hb hr hlocks hQ hG hS (Nat.zero_le _) (Nat.zero_le _) ⟨_, rfl, (rfl), rfl⟩ dX0_cell_10

theorem mX0_isCell (l : Launch) (X : gX) (σ : gS)  (t : Int) (i : Int) (j : Int) (h0 : -2147483648 ≤ t ∧ t ≤ 2147483647) (h1 : -2147483648 ≤ i ∧ i ≤ 2147483647) (h2 : -2147483648 ≤ j ∧ j ≤ 2147483647) : gMet l X yX0_isCell cX0_isCell 3 (some .boolean) 2 0 0 45 σ [.int (iI t), .int (iI i), .int (iI j)] (oI (fun r σ' => ((r = 1 ∧ ((0 ≤ t ∧ t ≤ 1) ∧ (0 ≤ i ∧ i ≤ 2) ∧ (0 ≤ j ∧ j ≤ 2))) ∨ (r = 0 ∧ ¬ ((0 ≤ t ∧ t ≤ 1) ∧ (0 ≤ i ∧ i ≤ 2) ∧ (0 ≤ j ∧ j ≤ 2)))) ∧ σ = σ')) := by
  refine gMet.of (by decide) (Nat.le_of_ble_eq_true rfl) ?_
  intro pp ee ss mm args below meth cd Q H locs ls hargs hx hb hr hlocks hml hown hnm hts hK hG hS hQ hl
  have hown : ss.vm.findClass RX0 = some mm.cls := hown
  have hl : lv_has ls 3 [(0, .int (iI t)), (1, .int (iI i)), (2, .int (iI j))] := hl
  refine lv_iload_n hx hb dX0_isCell_0 rfl (lv_at hl 0 rfl) ?_
  refine g_callS (As := [.int (iI t)]) (rest := []) 1 hx hb hml hown hts hK hG hS hl.1 (mX0_isTable l X σ  t (by omega)) q491 q492 q69 q493 (by decide +kernel) rfl ⟨Nat.le_of_ble_eq_true rfl, Nat.le_of_ble_eq_true rfl⟩ ⟨Nat.le_of_ble_eq_true rfl, Nat.le_of_ble_eq_true rfl⟩ (Nat.le_of_ble_eq_true rfl) dX0_isCell_1 (kI (fun r1 σr1 H locs hp hG hS => ?_))
  obtain ⟨hr1, rfl⟩ := hp
  refine g_if_eq (tgt := 25) hx hb dX0_isCell_4 (by decide) (by omega) (fun cq2 => ?_) (fun cq2 => ?_)
  · refine g_iconst hx hb dX0_isCell_25 ?_
    exact g_zret hx hb hr hlocks hQ hG hS (Nat.zero_le _) (Nat.zero_le _) (gnz (by omega)) ⟨_, rfl, (by omega), rfl⟩ dX0_isCell_26
  · refine lv_iload_n hx hb dX0_isCell_7 rfl (lv_at hl 1 rfl) ?_
    refine g_callS (As := [.int (iI i)]) (rest := []) 1 hx hb hml hown hts hK hG hS hl.1 (mX0_isPower l X σ  i (by omega)) q497 q498 q69 q499 (by decide +kernel) rfl ⟨Nat.le_of_ble_eq_true rfl, Nat.le_of_ble_eq_true rfl⟩ ⟨Nat.le_of_ble_eq_true rfl, Nat.le_of_ble_eq_true rfl⟩ (Nat.le_of_ble_eq_true rfl) dX0_isCell_8 (kI (fun r3 σr3 H locs hp hG hS => ?_))
    obtain ⟨hr3, rfl⟩ := hp
    refine g_if_eq (tgt := 25) hx hb dX0_isCell_11 (by decide) (by omega) (fun cq4 => ?_) (fun cq4 => ?_)
    · refine g_iconst hx hb dX0_isCell_25 ?_
      exact g_zret hx hb hr hlocks hQ hG hS (Nat.zero_le _) (Nat.zero_le _) (gnz (by omega)) ⟨_, rfl, (by omega), rfl⟩ dX0_isCell_26
    · refine lv_iload_n hx hb dX0_isCell_14 rfl (lv_at hl 2 rfl) ?_
      refine g_callS (As := [.int (iI j)]) (rest := []) 1 hx hb hml hown hts hK hG hS hl.1 (mX0_isPower l X σ  j (by omega)) q497 q498 q69 q499 (by decide +kernel) rfl ⟨Nat.le_of_ble_eq_true rfl, Nat.le_of_ble_eq_true rfl⟩ ⟨Nat.le_of_ble_eq_true rfl, Nat.le_of_ble_eq_true rfl⟩ (Nat.le_of_ble_eq_true rfl) dX0_isCell_15 (kI (fun r5 σr5 H locs hp hG hS => ?_))
      obtain ⟨hr5, rfl⟩ := hp
      refine g_if_eq (tgt := 25) hx hb dX0_isCell_18 (by decide) (by omega) (fun cq6 => ?_) (fun cq6 => ?_)
      · refine g_iconst hx hb dX0_isCell_25 ?_
        exact g_zret hx hb hr hlocks hQ hG hS (Nat.zero_le _) (Nat.zero_le _) (gnz (by omega)) ⟨_, rfl, (by omega), rfl⟩ dX0_isCell_26
      · refine g_iconst hx hb dX0_isCell_21 ?_
        refine lv_goto (tgt := 26) hx hb dX0_isCell_22 (by decide) ?_
        exact g_zret hx hb hr hlocks hQ hG hS (Nat.zero_le _) (Nat.zero_le _) (gnz (by omega)) ⟨_, rfl, (by omega), rfl⟩ dX0_isCell_26

theorem mX0_by (l : Launch) (X : gX) (σ : gS)  (u : Int) (v : Int) (h0 : 0 ≤ u ∧ u ≤ 30) (h1 : 0 ≤ v ∧ v ≤ 30) : gMet l X yX0_by cX0_by 2 (some .int) 1 0 0 21 σ [.int (iI u), .int (iI v)] (oI (fun r σ' => (r = byZ u v ∧ (r = -6 ∨ (0 ≤ r ∧ r ≤ 31))) ∧ σ = σ')) := by
  refine gMet.of (by decide) (Nat.le_of_ble_eq_true rfl) ?_
  intro pp ee ss mm args below meth cd Q H locs ls hargs hx hb hr hlocks hml hown hnm hts hK hG hS hQ hl
  have hown : ss.vm.findClass RX0 = some mm.cls := hown
  have hl : lv_has ls 2 [(0, .int (iI u)), (1, .int (iI v))] := hl
  refine lv_iload_n hx hb dX0_by_0 rfl (lv_at hl 1 rfl) ?_
  refine g_if_eq (tgt := 16) hx hb dX0_by_1 (by decide) (by omega) (fun cq1 => ?_) (fun cq1 => ?_)
  · refine lv_iload_n hx hb dX0_by_16 rfl (lv_at hl 0 rfl) ?_
    refine g_if_eq (tgt := 25) hx hb dX0_by_17 (by decide) (by omega) (fun cq2 => ?_) (fun cq2 => ?_)
    · refine g_bipush hx hb dX0_by_25 (by decide) ?_
      exact g_iret hx hb hr hlocks hQ hG hS (Nat.zero_le _) (Nat.zero_le _) ⟨_, rfl, ⟨(by unfold byZ; first | (rw [if_neg (by assumption)]; simp only [*]) | (rw [if_pos (by assumption), if_neg (by assumption)]) | (rw [if_pos (by assumption), if_pos (by assumption)])), (by omega)⟩, rfl⟩ dX0_by_27
    · refine g_bipush hx hb dX0_by_20 (by decide) ?_
      refine lv_goto (tgt := 27) hx hb dX0_by_22 (by decide) ?_
      exact g_iret hx hb hr hlocks hQ hG hS (Nat.zero_le _) (Nat.zero_le _) ⟨_, rfl, ⟨(by unfold byZ; first | (rw [if_neg (by assumption)]; simp only [*]) | (rw [if_pos (by assumption), if_neg (by assumption)]) | (rw [if_pos (by assumption), if_pos (by assumption)])), (by omega)⟩, rfl⟩ dX0_by_27
  · refine lv_iload_n hx hb dX0_by_4 rfl (lv_at hl 0 rfl) ?_
    obtain ⟨tv3, hZtv3, hTtv3⟩ := gInv hK
    refine va_gets hx hb hZtv3 hS hown (hts _ q385) (fun _ h => h) dX0_by_5 ?_
    refine lv_iload_n hx hb dX0_by_8 rfl (lv_at hl 1 rfl) ?_
    refine g_ti hx hb hTtv3 hS dX0_by_9 (by omega) ?_
    have hi4 := invZ_r (v := v) (by omega)
    refine g_callS (As := [.int (iI u), .int (iI (invZ v))]) (rest := []) 2 hx hb hml hown hts hK hG hS hl.1 (mX0_times l X σ  u (invZ v) (by omega) (by omega)) q376 q377 q69 q378 (by decide +kernel) rfl ⟨Nat.le_of_ble_eq_true rfl, Nat.le_of_ble_eq_true rfl⟩ ⟨Nat.le_of_ble_eq_true rfl, Nat.le_of_ble_eq_true rfl⟩ (Nat.le_of_ble_eq_true rfl) dX0_by_10 (kI (fun r5 σr5 H locs hp hG hS => ?_))
    obtain ⟨⟨hr5, kr5⟩, rfl⟩ := hp
    refine lv_goto (tgt := 27) hx hb dX0_by_13 (by decide) ?_
    exact g_iret hx hb hr hlocks hQ hG hS (Nat.zero_le _) (Nat.zero_le _) ⟨_, rfl, ⟨(by unfold byZ; first | (rw [if_neg (by assumption)]; simp only [*]) | (rw [if_pos (by assumption), if_neg (by assumption)]) | (rw [if_pos (by assumption), if_pos (by assumption)])), (by omega)⟩, rfl⟩ dX0_by_27

set_option maxHeartbeats 4000000 in
theorem mX0_power (l : Launch) (X : gX) (σ : gS) (c k : Int) (h0 : 0 ≤ c ∧ c ≤ 31) (h1 : 0 ≤ k ∧ k ≤ 2) : gMet l X yX0_power cX0_power 4 (some .int) 1 0 0 21 σ [.int (iI c), .int (iI k)] (oI (fun r σ' => (r = pw c k ∧ (0 ≤ r ∧ r ≤ 30)) ∧ σ = σ')) := by
  rcases (show k = 0 ∨ k = 1 ∨ k = 2 by omega) with rfl | rfl | rfl
  · refine gMet.of (by decide) (Nat.le_of_ble_eq_true rfl) ?_
    intro pp ee ss mm args below meth cd Q H locs ls hargs hx hb hr hlocks hml hown hnm hts hK hG hS hQ hl
    have hown : ss.vm.findClass RX0 = some mm.cls := hown
    have hl : lv_has ls 4 [(0, .int (iI c)), (1, .int (iI 0))] := hl
    refine lv_iload_n hx hb dX0_power_0 rfl (lv_at hl 0 rfl) ?_
    refine g_bipush hx hb dX0_power_1 (by decide) ?_
    refine g_icmp_ne (tgt := 17) hx hb dX0_power_3 (by decide) (by omega) (by omega) (fun cq1 => ?_) (fun cq1 => ?_)
    · refine g_iconst hx hb dX0_power_17 ?_
      refine lv_istore_n (lv' := [(2, .int (iI 1)), (0, .int (iI c)), (1, .int (iI 0))]) hx hb dX0_power_18 rfl hl (by decide) rfl (fun ls hl => ?_)
      refine g_iconst hx hb dX0_power_19 ?_
      refine lv_istore_n (lv' := [(3, .int (iI 0)), (2, .int (iI 1)), (0, .int (iI c)), (1, .int (iI 0))]) hx hb dX0_power_20 rfl hl (by decide) rfl (fun ls hl => ?_)
      refine lv_iload_n hx hb dX0_power_21 rfl (lv_at hl 0 rfl) ?_
      refine lv_iload_n hx hb dX0_power_22 rfl (lv_at hl 3 rfl) ?_
      refine g_icmp_ge (tgt := 38) hx hb dX0_power_23 (by decide) (by omega) (by omega) (fun cq2 => ?_) (fun cq2 => absurd cq2 (by decide))
      refine lv_iload_n hx hb dX0_power_38 rfl (lv_at hl 1 rfl) ?_
      exact g_iret hx hb hr hlocks hQ hG hS (Nat.zero_le _) (Nat.zero_le _) ⟨_, rfl, ⟨(by unfold pw; rw [if_neg (by omega)]; rfl), (by omega)⟩, rfl⟩ dX0_power_39
    · refine lv_iload_n hx hb dX0_power_6 rfl (lv_at hl 1 rfl) ?_
      refine g_iconst hx hb dX0_power_7 ?_
      refine g_icmp_ne (tgt := 15) hx hb dX0_power_8 (by decide) (by omega) (by omega) (fun cq3 => ?_) (fun cq3 => absurd cq3 (by decide))
      refine g_iconst hx hb dX0_power_15 ?_
      exact g_iret hx hb hr hlocks hQ hG hS (Nat.zero_le _) (Nat.zero_le _) ⟨_, rfl, ⟨(by unfold pw; rw [if_pos (by omega)]; rfl), (by omega)⟩, rfl⟩ dX0_power_16
  · refine gMet.of (by decide) (Nat.le_of_ble_eq_true rfl) ?_
    intro pp ee ss mm args below meth cd Q H locs ls hargs hx hb hr hlocks hml hown hnm hts hK hG hS hQ hl
    have hown : ss.vm.findClass RX0 = some mm.cls := hown
    have hl : lv_has ls 4 [(0, .int (iI c)), (1, .int (iI 1))] := hl
    refine lv_iload_n hx hb dX0_power_0 rfl (lv_at hl 0 rfl) ?_
    refine g_bipush hx hb dX0_power_1 (by decide) ?_
    refine g_icmp_ne (tgt := 17) hx hb dX0_power_3 (by decide) (by omega) (by omega) (fun cq1 => ?_) (fun cq1 => ?_)
    · refine g_iconst hx hb dX0_power_17 ?_
      refine lv_istore_n (lv' := [(2, .int (iI 1)), (0, .int (iI c)), (1, .int (iI 1))]) hx hb dX0_power_18 rfl hl (by decide) rfl (fun ls hl => ?_)
      refine g_iconst hx hb dX0_power_19 ?_
      refine lv_istore_n (lv' := [(3, .int (iI 0)), (2, .int (iI 1)), (0, .int (iI c)), (1, .int (iI 1))]) hx hb dX0_power_20 rfl hl (by decide) rfl (fun ls hl => ?_)
      refine lv_iload_n hx hb dX0_power_21 rfl (lv_at hl 0 rfl) ?_
      refine lv_iload_n hx hb dX0_power_22 rfl (lv_at hl 3 rfl) ?_
      refine g_icmp_ge (tgt := 38) hx hb dX0_power_23 (by decide) (by omega) (by omega) (fun cq2 => absurd cq2 (by decide)) (fun cq2 => ?_)
      refine lv_iload_n hx hb dX0_power_26 rfl (lv_at hl 1 rfl) ?_
      refine lv_iload_n hx hb dX0_power_27 rfl (lv_at hl 2 rfl) ?_
      refine g_callS (As := [.int (iI 1), .int (iI c)]) (rest := []) 2 hx hb hml hown hts hK hG hS hl.1 (mX0_times l X σ  1 c (by omega) (by omega)) q376 q377 q69 q378 (by decide +kernel) rfl ⟨Nat.le_of_ble_eq_true rfl, Nat.le_of_ble_eq_true rfl⟩ ⟨Nat.le_of_ble_eq_true rfl, Nat.le_of_ble_eq_true rfl⟩ (Nat.le_of_ble_eq_true rfl) dX0_power_28 (kI (fun r3 σr3 H locs hp hG hS => ?_))
      obtain ⟨⟨hr3, kr3⟩, rfl⟩ := hp
      refine lv_istore_n (lv' := [(2, .int (iI r3)), (3, .int (iI 0)), (0, .int (iI c)), (1, .int (iI 1))]) hx hb dX0_power_31 rfl hl (by decide) rfl (fun ls hl => ?_)
      refine g_iinc (lv' := [(3, .int (iI (0 + 1))), (2, .int (iI r3)), (0, .int (iI c)), (1, .int (iI 1))]) hx hb dX0_power_32 hl (k := 1) rfl (by decide) rfl (fun ls hl => ?_)
      have hl : lv_has ls 4 [(3, .int (iI 1)), (2, .int (iI r3)), (0, .int (iI c)), (1, .int (iI 1))] := hl
      refine lv_goto (tgt := 21) hx hb dX0_power_35 (by decide) ?_
      refine lv_iload_n hx hb dX0_power_21 rfl (lv_at hl 0 rfl) ?_
      refine lv_iload_n hx hb dX0_power_22 rfl (lv_at hl 3 rfl) ?_
      refine g_icmp_ge (tgt := 38) hx hb dX0_power_23 (by decide) (by omega) (by omega) (fun cq4 => ?_) (fun cq4 => absurd cq4 (by decide))
      refine lv_iload_n hx hb dX0_power_38 rfl (lv_at hl 1 rfl) ?_
      exact g_iret hx hb hr hlocks hQ hG hS (Nat.zero_le _) (Nat.zero_le _) ⟨_, rfl, ⟨(by unfold pw; rw [if_neg (by omega), if_neg (by decide), if_pos rfl]; omega), (by omega)⟩, rfl⟩ dX0_power_39
    · refine lv_iload_n hx hb dX0_power_6 rfl (lv_at hl 1 rfl) ?_
      refine g_iconst hx hb dX0_power_7 ?_
      refine g_icmp_ne (tgt := 15) hx hb dX0_power_8 (by decide) (by omega) (by omega) (fun cq5 => ?_) (fun cq5 => absurd cq5 (by decide))
      refine g_iconst hx hb dX0_power_15 ?_
      exact g_iret hx hb hr hlocks hQ hG hS (Nat.zero_le _) (Nat.zero_le _) ⟨_, rfl, ⟨(by unfold pw; rw [if_pos (by omega)]; rfl), (by omega)⟩, rfl⟩ dX0_power_16
  · refine gMet.of (by decide) (Nat.le_of_ble_eq_true rfl) ?_
    intro pp ee ss mm args below meth cd Q H locs ls hargs hx hb hr hlocks hml hown hnm hts hK hG hS hQ hl
    have hown : ss.vm.findClass RX0 = some mm.cls := hown
    have hl : lv_has ls 4 [(0, .int (iI c)), (1, .int (iI 2))] := hl
    refine lv_iload_n hx hb dX0_power_0 rfl (lv_at hl 0 rfl) ?_
    refine g_bipush hx hb dX0_power_1 (by decide) ?_
    refine g_icmp_ne (tgt := 17) hx hb dX0_power_3 (by decide) (by omega) (by omega) (fun cq1 => ?_) (fun cq1 => ?_)
    · refine g_iconst hx hb dX0_power_17 ?_
      refine lv_istore_n (lv' := [(2, .int (iI 1)), (0, .int (iI c)), (1, .int (iI 2))]) hx hb dX0_power_18 rfl hl (by decide) rfl (fun ls hl => ?_)
      refine g_iconst hx hb dX0_power_19 ?_
      refine lv_istore_n (lv' := [(3, .int (iI 0)), (2, .int (iI 1)), (0, .int (iI c)), (1, .int (iI 2))]) hx hb dX0_power_20 rfl hl (by decide) rfl (fun ls hl => ?_)
      refine lv_iload_n hx hb dX0_power_21 rfl (lv_at hl 0 rfl) ?_
      refine lv_iload_n hx hb dX0_power_22 rfl (lv_at hl 3 rfl) ?_
      refine g_icmp_ge (tgt := 38) hx hb dX0_power_23 (by decide) (by omega) (by omega) (fun cq2 => absurd cq2 (by decide)) (fun cq2 => ?_)
      refine lv_iload_n hx hb dX0_power_26 rfl (lv_at hl 1 rfl) ?_
      refine lv_iload_n hx hb dX0_power_27 rfl (lv_at hl 2 rfl) ?_
      refine g_callS (As := [.int (iI 1), .int (iI c)]) (rest := []) 2 hx hb hml hown hts hK hG hS hl.1 (mX0_times l X σ  1 c (by omega) (by omega)) q376 q377 q69 q378 (by decide +kernel) rfl ⟨Nat.le_of_ble_eq_true rfl, Nat.le_of_ble_eq_true rfl⟩ ⟨Nat.le_of_ble_eq_true rfl, Nat.le_of_ble_eq_true rfl⟩ (Nat.le_of_ble_eq_true rfl) dX0_power_28 (kI (fun r3 σr3 H locs hp hG hS => ?_))
      obtain ⟨⟨hr3, kr3⟩, rfl⟩ := hp
      refine lv_istore_n (lv' := [(2, .int (iI r3)), (3, .int (iI 0)), (0, .int (iI c)), (1, .int (iI 2))]) hx hb dX0_power_31 rfl hl (by decide) rfl (fun ls hl => ?_)
      refine g_iinc (lv' := [(3, .int (iI (0 + 1))), (2, .int (iI r3)), (0, .int (iI c)), (1, .int (iI 2))]) hx hb dX0_power_32 hl (k := 1) rfl (by decide) rfl (fun ls hl => ?_)
      have hl : lv_has ls 4 [(3, .int (iI 1)), (2, .int (iI r3)), (0, .int (iI c)), (1, .int (iI 2))] := hl
      refine lv_goto (tgt := 21) hx hb dX0_power_35 (by decide) ?_
      refine lv_iload_n hx hb dX0_power_21 rfl (lv_at hl 0 rfl) ?_
      refine lv_iload_n hx hb dX0_power_22 rfl (lv_at hl 3 rfl) ?_
      refine g_icmp_ge (tgt := 38) hx hb dX0_power_23 (by decide) (by omega) (by omega) (fun cq4 => absurd cq4 (by decide)) (fun cq4 => ?_)
      refine lv_iload_n hx hb dX0_power_26 rfl (lv_at hl 1 rfl) ?_
      refine lv_iload_n hx hb dX0_power_27 rfl (lv_at hl 2 rfl) ?_
      refine g_callS (As := [.int (iI r3), .int (iI c)]) (rest := []) 2 hx hb hml hown hts hK hG hS hl.1 (mX0_times l X σ  r3 c (by omega) (by omega)) q376 q377 q69 q378 (by decide +kernel) rfl ⟨Nat.le_of_ble_eq_true rfl, Nat.le_of_ble_eq_true rfl⟩ ⟨Nat.le_of_ble_eq_true rfl, Nat.le_of_ble_eq_true rfl⟩ (Nat.le_of_ble_eq_true rfl) dX0_power_28 (kI (fun r5 σr5 H locs hp hG hS => ?_))
      obtain ⟨⟨hr5, kr5⟩, rfl⟩ := hp
      refine lv_istore_n (lv' := [(2, .int (iI r5)), (3, .int (iI 1)), (0, .int (iI c)), (1, .int (iI 2))]) hx hb dX0_power_31 rfl hl (by decide) rfl (fun ls hl => ?_)
      refine g_iinc (lv' := [(3, .int (iI (1 + 1))), (2, .int (iI r5)), (0, .int (iI c)), (1, .int (iI 2))]) hx hb dX0_power_32 hl (k := 1) rfl (by decide) rfl (fun ls hl => ?_)
      have hl : lv_has ls 4 [(3, .int (iI 2)), (2, .int (iI r5)), (0, .int (iI c)), (1, .int (iI 2))] := hl
      refine lv_goto (tgt := 21) hx hb dX0_power_35 (by decide) ?_
      refine lv_iload_n hx hb dX0_power_21 rfl (lv_at hl 0 rfl) ?_
      refine lv_iload_n hx hb dX0_power_22 rfl (lv_at hl 3 rfl) ?_
      refine g_icmp_ge (tgt := 38) hx hb dX0_power_23 (by decide) (by omega) (by omega) (fun cq6 => ?_) (fun cq6 => absurd cq6 (by decide))
      refine lv_iload_n hx hb dX0_power_38 rfl (lv_at hl 1 rfl) ?_
      exact g_iret hx hb hr hlocks hQ hG hS (Nat.zero_le _) (Nat.zero_le _) ⟨_, rfl, ⟨(by unfold pw; rw [if_neg (by omega), if_neg (by decide), if_neg (by decide), hr5, show r3 = c by omega]), (by omega)⟩, rfl⟩ dX0_power_39
    · refine lv_iload_n hx hb dX0_power_6 rfl (lv_at hl 1 rfl) ?_
      refine g_iconst hx hb dX0_power_7 ?_
      refine g_icmp_ne (tgt := 15) hx hb dX0_power_8 (by decide) (by omega) (by omega) (fun cq7 => absurd cq7 (by decide)) (fun cq7 => ?_)
      refine g_iconst hx hb dX0_power_11 ?_
      refine lv_goto (tgt := 16) hx hb dX0_power_12 (by decide) ?_
      exact g_iret hx hb hr hlocks hQ hG hS (Nat.zero_le _) (Nat.zero_le _) ⟨_, rfl, ⟨(by unfold pw; rw [if_pos (by omega)]; rfl), (by omega)⟩, rfl⟩ dX0_power_16

set_option maxHeartbeats 4000000 in
theorem mX0_rowAt (l : Launch) (X : gX) (σ : gS) (b : Nat → Nat) (U : Nat → Int → Int) (J : Nat → Int) (R : Int → Option Nat) (hX : XW X σ b U J R) (hT : okT (U 20)) (t : Int) (w : Int) (i : Int) (c : Int) (h0 : 0 ≤ t ∧ t ≤ 1) (h1 : -2147483648 ≤ w ∧ w ≤ 2147483647) (h2 : 0 ≤ i ∧ i ≤ 2) (h3 : 0 ≤ c ∧ c ≤ 31) : gMet l X yX0_rowAt cX0_rowAt 8 (some .int) 2 0 0 44 σ [.ref (b 0), .int (iI t), .int (iI w), .int (iI i), .int (iI c)] (oI (fun r σ' => (r = rowZ (U 20) t w i c ∧ (0 ≤ r ∧ r ≤ 30)) ∧ σ = σ')) := by
  refine gMet.of (by decide) (Nat.le_of_ble_eq_true rfl) ?_
  intro pp ee ss mm args below meth cd Q H locs ls hargs hx hb hr hlocks hml hown hnm hts hK hG hS hQ hl
  have hown : ss.vm.findClass RX0 = some mm.cls := hown
  have hl : lv_has ls 8 [(0, .ref (b 0)), (1, .int (iI t)), (2, .int (iI w)), (3, .int (iI i)), (4, .int (iI c))] := hl
  refine g_iconst hx hb dX0_rowAt_0 ?_
  refine lv_istore (lv' := [(5, .int (iI 0)), (0, .ref (b 0)), (1, .int (iI t)), (2, .int (iI w)), (3, .int (iI i)), (4, .int (iI c))]) hx hb dX0_rowAt_1 hl (by decide) rfl (fun ls hl => ?_)
  refine g_iconst hx hb dX0_rowAt_3 ?_
  refine lv_istore (lv' := [(6, .int (iI 0)), (5, .int (iI 0)), (0, .ref (b 0)), (1, .int (iI t)), (2, .int (iI w)), (3, .int (iI i)), (4, .int (iI c))]) hx hb dX0_rowAt_4 hl (by decide) rfl (fun ls hl => ?_)
  refine lv_iload hx hb dX0_rowAt_6 (lv_at hl 0 rfl) ?_
  refine g_iconst hx hb dX0_rowAt_8 ?_
  refine g_icmp_ge (tgt := 74) hx hb dX0_rowAt_9 (by decide) (by omega) (by omega) (fun cq1 => absurd cq1 (by decide)) (fun cq1 => ?_)
  refine lv_iload_n hx hb dX0_rowAt_12 rfl (lv_at hl 4 rfl) ?_
  refine g_if_ne (tgt := 34) hx hb dX0_rowAt_13 (by decide) (by omega) (fun cq2 => ?_) (fun cq2 => ?_)
  · refine lv_aload_n hx hb dX0_rowAt_34 rfl (lv_at hl 2 rfl) ?_
    refine g_get (C := RX0) (T := TX0) (N := 20) (v := .ref (b 1)) hx hb hts hown hK hG hX.c0 rfl in_X0 0 (by decide) q420 rfl rfl dX0_rowAt_35 ?_
    refine g_getN (C := RX1) (T := TX1) (N := 4) (v := .ref (b 20)) hx hb hts hown hK hG hX.c1 rfl in_X1 0 (by decide) q187 rfl rfl dX0_rowAt_38 ?_
    refine lv_iload_n hx hb dX0_rowAt_41 rfl (lv_at hl 3 rfl) ?_
    refine lv_iload hx hb dX0_rowAt_42 (lv_at hl 0 rfl) ?_
    refine lv_iload_n hx hb dX0_rowAt_44 rfl (lv_at hl 5 rfl) ?_
    refine g_callS (As := [.int (iI t), .int (iI 0), .int (iI i)]) (rest := [.ref (b 20)]) 3 hx hb hml hown hts hK hG hS hl.1 (mX0_cell l X σ  t 0 i (by omega) (by omega) (by omega)) q370 q371 q69 q372 (by decide +kernel) rfl ⟨Nat.le_of_ble_eq_true rfl, Nat.le_of_ble_eq_true rfl⟩ ⟨Nat.le_of_ble_eq_true rfl, Nat.le_of_ble_eq_true rfl⟩ (Nat.le_of_ble_eq_true rfl) dX0_rowAt_45 (kI (fun r3 σr3 H locs hp hG hS => ?_))
    obtain ⟨hr3, rfl⟩ := hp
    refine g_iald hx hb hK hG hX.c20 dX0_rowAt_48 (by omega) ?_
    refine g_name (fun w4 ew4 => ?_)
    have hw4 : 0 ≤ w4 ∧ w4 ≤ 30 := by rw [ew4]; exact hT _ (by omega) (by omega)
    refine lv_istore (lv' := [(7, .int (iI w4)), (6, .int (iI 0)), (5, .int (iI 0)), (0, .ref (b 0)), (1, .int (iI t)), (2, .int (iI w)), (3, .int (iI i)), (4, .int (iI c))]) hx hb dX0_rowAt_49 hl (by decide) rfl (fun ls hl => ?_)
    refine lv_iload hx hb dX0_rowAt_51 (lv_at hl 2 rfl) ?_
    refine lv_iload hx hb dX0_rowAt_53 (lv_at hl 0 rfl) ?_
    refine lv_iload hx hb dX0_rowAt_55 (lv_at hl 7 rfl) ?_
    refine lv_iload hx hb dX0_rowAt_57 (lv_at hl 1 rfl) ?_
    refine g_callS (As := [.int (iI c), .int (iI 0)]) (rest := [.int (iI w4), .int (iI 0)]) 2 hx hb hml hown hts hK hG hS hl.1 (mX0_power l X σ c 0 (by omega) (by omega)) q373 q374 q69 q375 (by decide +kernel) rfl ⟨Nat.le_of_ble_eq_true rfl, Nat.le_of_ble_eq_true rfl⟩ ⟨Nat.le_of_ble_eq_true rfl, Nat.le_of_ble_eq_true rfl⟩ (Nat.le_of_ble_eq_true rfl) dX0_rowAt_59 (kI (fun r5 σr5 H locs hp hG hS => ?_))
    obtain ⟨⟨hr5, kr5⟩, rfl⟩ := hp
    refine g_callS (As := [.int (iI w4), .int (iI r5)]) (rest := [.int (iI 0)]) 2 hx hb hml hown hts hK hG hS hl.1 (mX0_times l X σ  w4 r5 (by omega) (by omega)) q376 q377 q69 q378 (by decide +kernel) rfl ⟨Nat.le_of_ble_eq_true rfl, Nat.le_of_ble_eq_true rfl⟩ ⟨Nat.le_of_ble_eq_true rfl, Nat.le_of_ble_eq_true rfl⟩ (Nat.le_of_ble_eq_true rfl) dX0_rowAt_62 (kI (fun r6 σr6 H locs hp hG hS => ?_))
    obtain ⟨⟨hr6, kr6⟩, rfl⟩ := hp
    refine g_iadd hx hb dX0_rowAt_65 ?_
    refine lv_istore (lv' := [(5, .int (iI (0 + r6))), (7, .int (iI w4)), (6, .int (iI 0)), (0, .ref (b 0)), (1, .int (iI t)), (2, .int (iI w)), (3, .int (iI i)), (4, .int (iI c))]) hx hb dX0_rowAt_66 hl (by decide) rfl (fun ls hl => ?_)
    refine g_iinc (lv' := [(6, .int (iI (0 + 1))), (5, .int (iI (0 + r6))), (7, .int (iI w4)), (0, .ref (b 0)), (1, .int (iI t)), (2, .int (iI w)), (3, .int (iI i)), (4, .int (iI c))]) hx hb dX0_rowAt_68 hl (k := 2) rfl (by decide) rfl (fun ls hl => ?_)
    have hl : lv_has ls 8 [(6, .int (iI 1)), (5, .int (iI (0 + r6))), (7, .int (iI w4)), (0, .ref (b 0)), (1, .int (iI t)), (2, .int (iI w)), (3, .int (iI i)), (4, .int (iI c))] := hl
    refine lv_goto (tgt := 6) hx hb dX0_rowAt_71 (by decide) ?_
    refine lv_iload hx hb dX0_rowAt_6 (lv_at hl 0 rfl) ?_
    refine g_iconst hx hb dX0_rowAt_8 ?_
    refine g_icmp_ge (tgt := 74) hx hb dX0_rowAt_9 (by decide) (by omega) (by omega) (fun cq7 => absurd cq7 (by decide)) (fun cq7 => ?_)
    refine lv_iload_n hx hb dX0_rowAt_12 rfl (lv_at hl 5 rfl) ?_
    refine g_if_ne (tgt := 34) hx hb dX0_rowAt_13 (by decide) (by omega) (fun cq8 => ?_) (fun cq8 => by omega)
    refine lv_aload_n hx hb dX0_rowAt_34 rfl (lv_at hl 3 rfl) ?_
    refine g_get (C := RX0) (T := TX0) (N := 20) (v := .ref (b 1)) hx hb hts hown hK hG hX.c0 rfl in_X0 0 (by decide) q420 rfl rfl dX0_rowAt_35 ?_
    refine g_getN (C := RX1) (T := TX1) (N := 4) (v := .ref (b 20)) hx hb hts hown hK hG hX.c1 rfl in_X1 0 (by decide) q187 rfl rfl dX0_rowAt_38 ?_
    refine lv_iload_n hx hb dX0_rowAt_41 rfl (lv_at hl 4 rfl) ?_
    refine lv_iload hx hb dX0_rowAt_42 (lv_at hl 0 rfl) ?_
    refine lv_iload_n hx hb dX0_rowAt_44 rfl (lv_at hl 6 rfl) ?_
    refine g_callS (As := [.int (iI t), .int (iI 1), .int (iI i)]) (rest := [.ref (b 20)]) 3 hx hb hml hown hts hK hG hS hl.1 (mX0_cell l X σ  t 1 i (by omega) (by omega) (by omega)) q370 q371 q69 q372 (by decide +kernel) rfl ⟨Nat.le_of_ble_eq_true rfl, Nat.le_of_ble_eq_true rfl⟩ ⟨Nat.le_of_ble_eq_true rfl, Nat.le_of_ble_eq_true rfl⟩ (Nat.le_of_ble_eq_true rfl) dX0_rowAt_45 (kI (fun r9 σr9 H locs hp hG hS => ?_))
    obtain ⟨hr9, rfl⟩ := hp
    refine g_iald hx hb hK hG hX.c20 dX0_rowAt_48 (by omega) ?_
    refine g_name (fun w10 ew10 => ?_)
    have hw10 : 0 ≤ w10 ∧ w10 ≤ 30 := by rw [ew10]; exact hT _ (by omega) (by omega)
    refine lv_istore (lv' := [(7, .int (iI w10)), (6, .int (iI 1)), (5, .int (iI (0 + r6))), (0, .ref (b 0)), (1, .int (iI t)), (2, .int (iI w)), (3, .int (iI i)), (4, .int (iI c))]) hx hb dX0_rowAt_49 hl (by decide) rfl (fun ls hl => ?_)
    refine lv_iload hx hb dX0_rowAt_51 (lv_at hl 2 rfl) ?_
    refine lv_iload hx hb dX0_rowAt_53 (lv_at hl 0 rfl) ?_
    refine lv_iload hx hb dX0_rowAt_55 (lv_at hl 7 rfl) ?_
    refine lv_iload hx hb dX0_rowAt_57 (lv_at hl 1 rfl) ?_
    refine g_callS (As := [.int (iI c), .int (iI 1)]) (rest := [.int (iI w10), .int (iI (0 + r6))]) 2 hx hb hml hown hts hK hG hS hl.1 (mX0_power l X σ c 1 (by omega) (by omega)) q373 q374 q69 q375 (by decide +kernel) rfl ⟨Nat.le_of_ble_eq_true rfl, Nat.le_of_ble_eq_true rfl⟩ ⟨Nat.le_of_ble_eq_true rfl, Nat.le_of_ble_eq_true rfl⟩ (Nat.le_of_ble_eq_true rfl) dX0_rowAt_59 (kI (fun r11 σr11 H locs hp hG hS => ?_))
    obtain ⟨⟨hr11, kr11⟩, rfl⟩ := hp
    refine g_callS (As := [.int (iI w10), .int (iI r11)]) (rest := [.int (iI (0 + r6))]) 2 hx hb hml hown hts hK hG hS hl.1 (mX0_times l X σ  w10 r11 (by omega) (by omega)) q376 q377 q69 q378 (by decide +kernel) rfl ⟨Nat.le_of_ble_eq_true rfl, Nat.le_of_ble_eq_true rfl⟩ ⟨Nat.le_of_ble_eq_true rfl, Nat.le_of_ble_eq_true rfl⟩ (Nat.le_of_ble_eq_true rfl) dX0_rowAt_62 (kI (fun r12 σr12 H locs hp hG hS => ?_))
    obtain ⟨⟨hr12, kr12⟩, rfl⟩ := hp
    refine g_iadd hx hb dX0_rowAt_65 ?_
    refine lv_istore (lv' := [(5, .int (iI ((0 + r6) + r12))), (7, .int (iI w10)), (6, .int (iI 1)), (0, .ref (b 0)), (1, .int (iI t)), (2, .int (iI w)), (3, .int (iI i)), (4, .int (iI c))]) hx hb dX0_rowAt_66 hl (by decide) rfl (fun ls hl => ?_)
    refine g_iinc (lv' := [(6, .int (iI (1 + 1))), (5, .int (iI ((0 + r6) + r12))), (7, .int (iI w10)), (0, .ref (b 0)), (1, .int (iI t)), (2, .int (iI w)), (3, .int (iI i)), (4, .int (iI c))]) hx hb dX0_rowAt_68 hl (k := 2) rfl (by decide) rfl (fun ls hl => ?_)
    have hl : lv_has ls 8 [(6, .int (iI 2)), (5, .int (iI ((0 + r6) + r12))), (7, .int (iI w10)), (0, .ref (b 0)), (1, .int (iI t)), (2, .int (iI w)), (3, .int (iI i)), (4, .int (iI c))] := hl
    refine lv_goto (tgt := 6) hx hb dX0_rowAt_71 (by decide) ?_
    refine lv_iload hx hb dX0_rowAt_6 (lv_at hl 0 rfl) ?_
    refine g_iconst hx hb dX0_rowAt_8 ?_
    refine g_icmp_ge (tgt := 74) hx hb dX0_rowAt_9 (by decide) (by omega) (by omega) (fun cq13 => absurd cq13 (by decide)) (fun cq13 => ?_)
    refine lv_iload_n hx hb dX0_rowAt_12 rfl (lv_at hl 5 rfl) ?_
    refine g_if_ne (tgt := 34) hx hb dX0_rowAt_13 (by decide) (by omega) (fun cq14 => ?_) (fun cq14 => by omega)
    refine lv_aload_n hx hb dX0_rowAt_34 rfl (lv_at hl 3 rfl) ?_
    refine g_get (C := RX0) (T := TX0) (N := 20) (v := .ref (b 1)) hx hb hts hown hK hG hX.c0 rfl in_X0 0 (by decide) q420 rfl rfl dX0_rowAt_35 ?_
    refine g_getN (C := RX1) (T := TX1) (N := 4) (v := .ref (b 20)) hx hb hts hown hK hG hX.c1 rfl in_X1 0 (by decide) q187 rfl rfl dX0_rowAt_38 ?_
    refine lv_iload_n hx hb dX0_rowAt_41 rfl (lv_at hl 4 rfl) ?_
    refine lv_iload hx hb dX0_rowAt_42 (lv_at hl 0 rfl) ?_
    refine lv_iload_n hx hb dX0_rowAt_44 rfl (lv_at hl 6 rfl) ?_
    refine g_callS (As := [.int (iI t), .int (iI 2), .int (iI i)]) (rest := [.ref (b 20)]) 3 hx hb hml hown hts hK hG hS hl.1 (mX0_cell l X σ  t 2 i (by omega) (by omega) (by omega)) q370 q371 q69 q372 (by decide +kernel) rfl ⟨Nat.le_of_ble_eq_true rfl, Nat.le_of_ble_eq_true rfl⟩ ⟨Nat.le_of_ble_eq_true rfl, Nat.le_of_ble_eq_true rfl⟩ (Nat.le_of_ble_eq_true rfl) dX0_rowAt_45 (kI (fun r15 σr15 H locs hp hG hS => ?_))
    obtain ⟨hr15, rfl⟩ := hp
    refine g_iald hx hb hK hG hX.c20 dX0_rowAt_48 (by omega) ?_
    refine g_name (fun w16 ew16 => ?_)
    have hw16 : 0 ≤ w16 ∧ w16 ≤ 30 := by rw [ew16]; exact hT _ (by omega) (by omega)
    refine lv_istore (lv' := [(7, .int (iI w16)), (6, .int (iI 2)), (5, .int (iI ((0 + r6) + r12))), (0, .ref (b 0)), (1, .int (iI t)), (2, .int (iI w)), (3, .int (iI i)), (4, .int (iI c))]) hx hb dX0_rowAt_49 hl (by decide) rfl (fun ls hl => ?_)
    refine lv_iload hx hb dX0_rowAt_51 (lv_at hl 2 rfl) ?_
    refine lv_iload hx hb dX0_rowAt_53 (lv_at hl 0 rfl) ?_
    refine lv_iload hx hb dX0_rowAt_55 (lv_at hl 7 rfl) ?_
    refine lv_iload hx hb dX0_rowAt_57 (lv_at hl 1 rfl) ?_
    refine g_callS (As := [.int (iI c), .int (iI 2)]) (rest := [.int (iI w16), .int (iI ((0 + r6) + r12))]) 2 hx hb hml hown hts hK hG hS hl.1 (mX0_power l X σ c 2 (by omega) (by omega)) q373 q374 q69 q375 (by decide +kernel) rfl ⟨Nat.le_of_ble_eq_true rfl, Nat.le_of_ble_eq_true rfl⟩ ⟨Nat.le_of_ble_eq_true rfl, Nat.le_of_ble_eq_true rfl⟩ (Nat.le_of_ble_eq_true rfl) dX0_rowAt_59 (kI (fun r17 σr17 H locs hp hG hS => ?_))
    obtain ⟨⟨hr17, kr17⟩, rfl⟩ := hp
    refine g_callS (As := [.int (iI w16), .int (iI r17)]) (rest := [.int (iI ((0 + r6) + r12))]) 2 hx hb hml hown hts hK hG hS hl.1 (mX0_times l X σ  w16 r17 (by omega) (by omega)) q376 q377 q69 q378 (by decide +kernel) rfl ⟨Nat.le_of_ble_eq_true rfl, Nat.le_of_ble_eq_true rfl⟩ ⟨Nat.le_of_ble_eq_true rfl, Nat.le_of_ble_eq_true rfl⟩ (Nat.le_of_ble_eq_true rfl) dX0_rowAt_62 (kI (fun r18 σr18 H locs hp hG hS => ?_))
    obtain ⟨⟨hr18, kr18⟩, rfl⟩ := hp
    refine g_iadd hx hb dX0_rowAt_65 ?_
    refine lv_istore (lv' := [(5, .int (iI (((0 + r6) + r12) + r18))), (7, .int (iI w16)), (6, .int (iI 2)), (0, .ref (b 0)), (1, .int (iI t)), (2, .int (iI w)), (3, .int (iI i)), (4, .int (iI c))]) hx hb dX0_rowAt_66 hl (by decide) rfl (fun ls hl => ?_)
    refine g_iinc (lv' := [(6, .int (iI (2 + 1))), (5, .int (iI (((0 + r6) + r12) + r18))), (7, .int (iI w16)), (0, .ref (b 0)), (1, .int (iI t)), (2, .int (iI w)), (3, .int (iI i)), (4, .int (iI c))]) hx hb dX0_rowAt_68 hl (k := 2) rfl (by decide) rfl (fun ls hl => ?_)
    have hl : lv_has ls 8 [(6, .int (iI 3)), (5, .int (iI (((0 + r6) + r12) + r18))), (7, .int (iI w16)), (0, .ref (b 0)), (1, .int (iI t)), (2, .int (iI w)), (3, .int (iI i)), (4, .int (iI c))] := hl
    refine lv_goto (tgt := 6) hx hb dX0_rowAt_71 (by decide) ?_
    refine lv_iload hx hb dX0_rowAt_6 (lv_at hl 0 rfl) ?_
    refine g_iconst hx hb dX0_rowAt_8 ?_
    refine g_icmp_ge (tgt := 74) hx hb dX0_rowAt_9 (by decide) (by omega) (by omega) (fun cq19 => ?_) (fun cq19 => absurd cq19 (by decide))
    refine lv_iload hx hb dX0_rowAt_74 (lv_at hl 1 rfl) ?_
    refine g_bipush hx hb dX0_rowAt_76 (by decide) ?_
    refine g_irem hx hb dX0_rowAt_78 (by omega) (by omega) ?_
    exact g_iret hx hb hr hlocks hQ hG hS (Nat.zero_le _) (Nat.zero_le _) ⟨_, rfl, ⟨(by
              have e0 : ∀ i j : Int, entZ (U 20) t w i j = if w = 0 then U 20 (9 * t + 3 * i + j) else U 20 (9 * t + 3 * j + i) := fun i j => rfl
              simp only [rowZ, e0]
              first | rw [if_pos (by assumption), if_pos (by assumption), if_pos (by assumption)] | rw [if_neg (by assumption), if_neg (by assumption), if_neg (by assumption)]
              simp only [*]
              omega), (by omega)⟩, rfl⟩ dX0_rowAt_79
  · refine lv_aload_n hx hb dX0_rowAt_16 rfl (lv_at hl 2 rfl) ?_
    refine g_get (C := RX0) (T := TX0) (N := 20) (v := .ref (b 1)) hx hb hts hown hK hG hX.c0 rfl in_X0 0 (by decide) q420 rfl rfl dX0_rowAt_17 ?_
    refine g_getN (C := RX1) (T := TX1) (N := 4) (v := .ref (b 20)) hx hb hts hown hK hG hX.c1 rfl in_X1 0 (by decide) q187 rfl rfl dX0_rowAt_20 ?_
    refine lv_iload_n hx hb dX0_rowAt_23 rfl (lv_at hl 3 rfl) ?_
    refine lv_iload_n hx hb dX0_rowAt_24 rfl (lv_at hl 5 rfl) ?_
    refine lv_iload hx hb dX0_rowAt_25 (lv_at hl 0 rfl) ?_
    refine g_callS (As := [.int (iI t), .int (iI i), .int (iI 0)]) (rest := [.ref (b 20)]) 3 hx hb hml hown hts hK hG hS hl.1 (mX0_cell l X σ  t i 0 (by omega) (by omega) (by omega)) q370 q371 q69 q372 (by decide +kernel) rfl ⟨Nat.le_of_ble_eq_true rfl, Nat.le_of_ble_eq_true rfl⟩ ⟨Nat.le_of_ble_eq_true rfl, Nat.le_of_ble_eq_true rfl⟩ (Nat.le_of_ble_eq_true rfl) dX0_rowAt_27 (kI (fun r20 σr20 H locs hp hG hS => ?_))
    obtain ⟨hr20, rfl⟩ := hp
    refine g_iald hx hb hK hG hX.c20 dX0_rowAt_30 (by omega) ?_
    refine g_name (fun w21 ew21 => ?_)
    have hw21 : 0 ≤ w21 ∧ w21 ≤ 30 := by rw [ew21]; exact hT _ (by omega) (by omega)
    refine lv_goto (tgt := 49) hx hb dX0_rowAt_31 (by decide) ?_
    refine lv_istore (lv' := [(7, .int (iI w21)), (6, .int (iI 0)), (5, .int (iI 0)), (0, .ref (b 0)), (1, .int (iI t)), (2, .int (iI w)), (3, .int (iI i)), (4, .int (iI c))]) hx hb dX0_rowAt_49 hl (by decide) rfl (fun ls hl => ?_)
    refine lv_iload hx hb dX0_rowAt_51 (lv_at hl 2 rfl) ?_
    refine lv_iload hx hb dX0_rowAt_53 (lv_at hl 0 rfl) ?_
    refine lv_iload hx hb dX0_rowAt_55 (lv_at hl 7 rfl) ?_
    refine lv_iload hx hb dX0_rowAt_57 (lv_at hl 1 rfl) ?_
    refine g_callS (As := [.int (iI c), .int (iI 0)]) (rest := [.int (iI w21), .int (iI 0)]) 2 hx hb hml hown hts hK hG hS hl.1 (mX0_power l X σ c 0 (by omega) (by omega)) q373 q374 q69 q375 (by decide +kernel) rfl ⟨Nat.le_of_ble_eq_true rfl, Nat.le_of_ble_eq_true rfl⟩ ⟨Nat.le_of_ble_eq_true rfl, Nat.le_of_ble_eq_true rfl⟩ (Nat.le_of_ble_eq_true rfl) dX0_rowAt_59 (kI (fun r22 σr22 H locs hp hG hS => ?_))
    obtain ⟨⟨hr22, kr22⟩, rfl⟩ := hp
    refine g_callS (As := [.int (iI w21), .int (iI r22)]) (rest := [.int (iI 0)]) 2 hx hb hml hown hts hK hG hS hl.1 (mX0_times l X σ  w21 r22 (by omega) (by omega)) q376 q377 q69 q378 (by decide +kernel) rfl ⟨Nat.le_of_ble_eq_true rfl, Nat.le_of_ble_eq_true rfl⟩ ⟨Nat.le_of_ble_eq_true rfl, Nat.le_of_ble_eq_true rfl⟩ (Nat.le_of_ble_eq_true rfl) dX0_rowAt_62 (kI (fun r23 σr23 H locs hp hG hS => ?_))
    obtain ⟨⟨hr23, kr23⟩, rfl⟩ := hp
    refine g_iadd hx hb dX0_rowAt_65 ?_
    refine lv_istore (lv' := [(5, .int (iI (0 + r23))), (7, .int (iI w21)), (6, .int (iI 0)), (0, .ref (b 0)), (1, .int (iI t)), (2, .int (iI w)), (3, .int (iI i)), (4, .int (iI c))]) hx hb dX0_rowAt_66 hl (by decide) rfl (fun ls hl => ?_)
    refine g_iinc (lv' := [(6, .int (iI (0 + 1))), (5, .int (iI (0 + r23))), (7, .int (iI w21)), (0, .ref (b 0)), (1, .int (iI t)), (2, .int (iI w)), (3, .int (iI i)), (4, .int (iI c))]) hx hb dX0_rowAt_68 hl (k := 2) rfl (by decide) rfl (fun ls hl => ?_)
    have hl : lv_has ls 8 [(6, .int (iI 1)), (5, .int (iI (0 + r23))), (7, .int (iI w21)), (0, .ref (b 0)), (1, .int (iI t)), (2, .int (iI w)), (3, .int (iI i)), (4, .int (iI c))] := hl
    refine lv_goto (tgt := 6) hx hb dX0_rowAt_71 (by decide) ?_
    refine lv_iload hx hb dX0_rowAt_6 (lv_at hl 0 rfl) ?_
    refine g_iconst hx hb dX0_rowAt_8 ?_
    refine g_icmp_ge (tgt := 74) hx hb dX0_rowAt_9 (by decide) (by omega) (by omega) (fun cq24 => absurd cq24 (by decide)) (fun cq24 => ?_)
    refine lv_iload_n hx hb dX0_rowAt_12 rfl (lv_at hl 5 rfl) ?_
    refine g_if_ne (tgt := 34) hx hb dX0_rowAt_13 (by decide) (by omega) (fun cq25 => by omega) (fun cq25 => ?_)
    refine lv_aload_n hx hb dX0_rowAt_16 rfl (lv_at hl 3 rfl) ?_
    refine g_get (C := RX0) (T := TX0) (N := 20) (v := .ref (b 1)) hx hb hts hown hK hG hX.c0 rfl in_X0 0 (by decide) q420 rfl rfl dX0_rowAt_17 ?_
    refine g_getN (C := RX1) (T := TX1) (N := 4) (v := .ref (b 20)) hx hb hts hown hK hG hX.c1 rfl in_X1 0 (by decide) q187 rfl rfl dX0_rowAt_20 ?_
    refine lv_iload_n hx hb dX0_rowAt_23 rfl (lv_at hl 4 rfl) ?_
    refine lv_iload_n hx hb dX0_rowAt_24 rfl (lv_at hl 6 rfl) ?_
    refine lv_iload hx hb dX0_rowAt_25 (lv_at hl 0 rfl) ?_
    refine g_callS (As := [.int (iI t), .int (iI i), .int (iI 1)]) (rest := [.ref (b 20)]) 3 hx hb hml hown hts hK hG hS hl.1 (mX0_cell l X σ  t i 1 (by omega) (by omega) (by omega)) q370 q371 q69 q372 (by decide +kernel) rfl ⟨Nat.le_of_ble_eq_true rfl, Nat.le_of_ble_eq_true rfl⟩ ⟨Nat.le_of_ble_eq_true rfl, Nat.le_of_ble_eq_true rfl⟩ (Nat.le_of_ble_eq_true rfl) dX0_rowAt_27 (kI (fun r26 σr26 H locs hp hG hS => ?_))
    obtain ⟨hr26, rfl⟩ := hp
    refine g_iald hx hb hK hG hX.c20 dX0_rowAt_30 (by omega) ?_
    refine g_name (fun w27 ew27 => ?_)
    have hw27 : 0 ≤ w27 ∧ w27 ≤ 30 := by rw [ew27]; exact hT _ (by omega) (by omega)
    refine lv_goto (tgt := 49) hx hb dX0_rowAt_31 (by decide) ?_
    refine lv_istore (lv' := [(7, .int (iI w27)), (6, .int (iI 1)), (5, .int (iI (0 + r23))), (0, .ref (b 0)), (1, .int (iI t)), (2, .int (iI w)), (3, .int (iI i)), (4, .int (iI c))]) hx hb dX0_rowAt_49 hl (by decide) rfl (fun ls hl => ?_)
    refine lv_iload hx hb dX0_rowAt_51 (lv_at hl 2 rfl) ?_
    refine lv_iload hx hb dX0_rowAt_53 (lv_at hl 0 rfl) ?_
    refine lv_iload hx hb dX0_rowAt_55 (lv_at hl 7 rfl) ?_
    refine lv_iload hx hb dX0_rowAt_57 (lv_at hl 1 rfl) ?_
    refine g_callS (As := [.int (iI c), .int (iI 1)]) (rest := [.int (iI w27), .int (iI (0 + r23))]) 2 hx hb hml hown hts hK hG hS hl.1 (mX0_power l X σ c 1 (by omega) (by omega)) q373 q374 q69 q375 (by decide +kernel) rfl ⟨Nat.le_of_ble_eq_true rfl, Nat.le_of_ble_eq_true rfl⟩ ⟨Nat.le_of_ble_eq_true rfl, Nat.le_of_ble_eq_true rfl⟩ (Nat.le_of_ble_eq_true rfl) dX0_rowAt_59 (kI (fun r28 σr28 H locs hp hG hS => ?_))
    obtain ⟨⟨hr28, kr28⟩, rfl⟩ := hp
    refine g_callS (As := [.int (iI w27), .int (iI r28)]) (rest := [.int (iI (0 + r23))]) 2 hx hb hml hown hts hK hG hS hl.1 (mX0_times l X σ  w27 r28 (by omega) (by omega)) q376 q377 q69 q378 (by decide +kernel) rfl ⟨Nat.le_of_ble_eq_true rfl, Nat.le_of_ble_eq_true rfl⟩ ⟨Nat.le_of_ble_eq_true rfl, Nat.le_of_ble_eq_true rfl⟩ (Nat.le_of_ble_eq_true rfl) dX0_rowAt_62 (kI (fun r29 σr29 H locs hp hG hS => ?_))
    obtain ⟨⟨hr29, kr29⟩, rfl⟩ := hp
    refine g_iadd hx hb dX0_rowAt_65 ?_
    refine lv_istore (lv' := [(5, .int (iI ((0 + r23) + r29))), (7, .int (iI w27)), (6, .int (iI 1)), (0, .ref (b 0)), (1, .int (iI t)), (2, .int (iI w)), (3, .int (iI i)), (4, .int (iI c))]) hx hb dX0_rowAt_66 hl (by decide) rfl (fun ls hl => ?_)
    refine g_iinc (lv' := [(6, .int (iI (1 + 1))), (5, .int (iI ((0 + r23) + r29))), (7, .int (iI w27)), (0, .ref (b 0)), (1, .int (iI t)), (2, .int (iI w)), (3, .int (iI i)), (4, .int (iI c))]) hx hb dX0_rowAt_68 hl (k := 2) rfl (by decide) rfl (fun ls hl => ?_)
    have hl : lv_has ls 8 [(6, .int (iI 2)), (5, .int (iI ((0 + r23) + r29))), (7, .int (iI w27)), (0, .ref (b 0)), (1, .int (iI t)), (2, .int (iI w)), (3, .int (iI i)), (4, .int (iI c))] := hl
    refine lv_goto (tgt := 6) hx hb dX0_rowAt_71 (by decide) ?_
    refine lv_iload hx hb dX0_rowAt_6 (lv_at hl 0 rfl) ?_
    refine g_iconst hx hb dX0_rowAt_8 ?_
    refine g_icmp_ge (tgt := 74) hx hb dX0_rowAt_9 (by decide) (by omega) (by omega) (fun cq30 => absurd cq30 (by decide)) (fun cq30 => ?_)
    refine lv_iload_n hx hb dX0_rowAt_12 rfl (lv_at hl 5 rfl) ?_
    refine g_if_ne (tgt := 34) hx hb dX0_rowAt_13 (by decide) (by omega) (fun cq31 => by omega) (fun cq31 => ?_)
    refine lv_aload_n hx hb dX0_rowAt_16 rfl (lv_at hl 3 rfl) ?_
    refine g_get (C := RX0) (T := TX0) (N := 20) (v := .ref (b 1)) hx hb hts hown hK hG hX.c0 rfl in_X0 0 (by decide) q420 rfl rfl dX0_rowAt_17 ?_
    refine g_getN (C := RX1) (T := TX1) (N := 4) (v := .ref (b 20)) hx hb hts hown hK hG hX.c1 rfl in_X1 0 (by decide) q187 rfl rfl dX0_rowAt_20 ?_
    refine lv_iload_n hx hb dX0_rowAt_23 rfl (lv_at hl 4 rfl) ?_
    refine lv_iload_n hx hb dX0_rowAt_24 rfl (lv_at hl 6 rfl) ?_
    refine lv_iload hx hb dX0_rowAt_25 (lv_at hl 0 rfl) ?_
    refine g_callS (As := [.int (iI t), .int (iI i), .int (iI 2)]) (rest := [.ref (b 20)]) 3 hx hb hml hown hts hK hG hS hl.1 (mX0_cell l X σ  t i 2 (by omega) (by omega) (by omega)) q370 q371 q69 q372 (by decide +kernel) rfl ⟨Nat.le_of_ble_eq_true rfl, Nat.le_of_ble_eq_true rfl⟩ ⟨Nat.le_of_ble_eq_true rfl, Nat.le_of_ble_eq_true rfl⟩ (Nat.le_of_ble_eq_true rfl) dX0_rowAt_27 (kI (fun r32 σr32 H locs hp hG hS => ?_))
    obtain ⟨hr32, rfl⟩ := hp
    refine g_iald hx hb hK hG hX.c20 dX0_rowAt_30 (by omega) ?_
    refine g_name (fun w33 ew33 => ?_)
    have hw33 : 0 ≤ w33 ∧ w33 ≤ 30 := by rw [ew33]; exact hT _ (by omega) (by omega)
    refine lv_goto (tgt := 49) hx hb dX0_rowAt_31 (by decide) ?_
    refine lv_istore (lv' := [(7, .int (iI w33)), (6, .int (iI 2)), (5, .int (iI ((0 + r23) + r29))), (0, .ref (b 0)), (1, .int (iI t)), (2, .int (iI w)), (3, .int (iI i)), (4, .int (iI c))]) hx hb dX0_rowAt_49 hl (by decide) rfl (fun ls hl => ?_)
    refine lv_iload hx hb dX0_rowAt_51 (lv_at hl 2 rfl) ?_
    refine lv_iload hx hb dX0_rowAt_53 (lv_at hl 0 rfl) ?_
    refine lv_iload hx hb dX0_rowAt_55 (lv_at hl 7 rfl) ?_
    refine lv_iload hx hb dX0_rowAt_57 (lv_at hl 1 rfl) ?_
    refine g_callS (As := [.int (iI c), .int (iI 2)]) (rest := [.int (iI w33), .int (iI ((0 + r23) + r29))]) 2 hx hb hml hown hts hK hG hS hl.1 (mX0_power l X σ c 2 (by omega) (by omega)) q373 q374 q69 q375 (by decide +kernel) rfl ⟨Nat.le_of_ble_eq_true rfl, Nat.le_of_ble_eq_true rfl⟩ ⟨Nat.le_of_ble_eq_true rfl, Nat.le_of_ble_eq_true rfl⟩ (Nat.le_of_ble_eq_true rfl) dX0_rowAt_59 (kI (fun r34 σr34 H locs hp hG hS => ?_))
    obtain ⟨⟨hr34, kr34⟩, rfl⟩ := hp
    refine g_callS (As := [.int (iI w33), .int (iI r34)]) (rest := [.int (iI ((0 + r23) + r29))]) 2 hx hb hml hown hts hK hG hS hl.1 (mX0_times l X σ  w33 r34 (by omega) (by omega)) q376 q377 q69 q378 (by decide +kernel) rfl ⟨Nat.le_of_ble_eq_true rfl, Nat.le_of_ble_eq_true rfl⟩ ⟨Nat.le_of_ble_eq_true rfl, Nat.le_of_ble_eq_true rfl⟩ (Nat.le_of_ble_eq_true rfl) dX0_rowAt_62 (kI (fun r35 σr35 H locs hp hG hS => ?_))
    obtain ⟨⟨hr35, kr35⟩, rfl⟩ := hp
    refine g_iadd hx hb dX0_rowAt_65 ?_
    refine lv_istore (lv' := [(5, .int (iI (((0 + r23) + r29) + r35))), (7, .int (iI w33)), (6, .int (iI 2)), (0, .ref (b 0)), (1, .int (iI t)), (2, .int (iI w)), (3, .int (iI i)), (4, .int (iI c))]) hx hb dX0_rowAt_66 hl (by decide) rfl (fun ls hl => ?_)
    refine g_iinc (lv' := [(6, .int (iI (2 + 1))), (5, .int (iI (((0 + r23) + r29) + r35))), (7, .int (iI w33)), (0, .ref (b 0)), (1, .int (iI t)), (2, .int (iI w)), (3, .int (iI i)), (4, .int (iI c))]) hx hb dX0_rowAt_68 hl (k := 2) rfl (by decide) rfl (fun ls hl => ?_)
    have hl : lv_has ls 8 [(6, .int (iI 3)), (5, .int (iI (((0 + r23) + r29) + r35))), (7, .int (iI w33)), (0, .ref (b 0)), (1, .int (iI t)), (2, .int (iI w)), (3, .int (iI i)), (4, .int (iI c))] := hl
    refine lv_goto (tgt := 6) hx hb dX0_rowAt_71 (by decide) ?_
    refine lv_iload hx hb dX0_rowAt_6 (lv_at hl 0 rfl) ?_
    refine g_iconst hx hb dX0_rowAt_8 ?_
    refine g_icmp_ge (tgt := 74) hx hb dX0_rowAt_9 (by decide) (by omega) (by omega) (fun cq36 => ?_) (fun cq36 => absurd cq36 (by decide))
    refine lv_iload hx hb dX0_rowAt_74 (lv_at hl 1 rfl) ?_
    refine g_bipush hx hb dX0_rowAt_76 (by decide) ?_
    refine g_irem hx hb dX0_rowAt_78 (by omega) (by omega) ?_
    exact g_iret hx hb hr hlocks hQ hG hS (Nat.zero_le _) (Nat.zero_le _) ⟨_, rfl, ⟨(by
              have e0 : ∀ i j : Int, entZ (U 20) t w i j = if w = 0 then U 20 (9 * t + 3 * i + j) else U 20 (9 * t + 3 * j + i) := fun i j => rfl
              simp only [rowZ, e0]
              first | rw [if_pos (by assumption), if_pos (by assumption), if_pos (by assumption)] | rw [if_neg (by assumption), if_neg (by assumption), if_neg (by assumption)]
              simp only [*]
              omega), (by omega)⟩, rfl⟩ dX0_rowAt_79

set_option maxHeartbeats 4000000 in
theorem mX0_valueAt (l : Launch) (X : gX) (σ : gS) (b : Nat → Nat) (U : Nat → Int → Int) (J : Nat → Int) (R : Int → Option Nat) (hX : XW X σ b U J R) (hT : okT (U 20)) (t : Int) (x : Int) (y : Int) (h0 : 0 ≤ t ∧ t ≤ 1) (h1 : 0 ≤ x ∧ x ≤ 31) (h2 : 0 ≤ y ∧ y ≤ 31) : gMet l X yX0_valueAt cX0_valueAt 6 (some .int) 3 0 0 71 σ [.ref (b 0), .int (iI t), .int (iI x), .int (iI y)] (oI (fun r σ' => (r = valZ (U 20) t x y ∧ (0 ≤ r ∧ r ≤ 30)) ∧ σ = σ')) := by
  refine gMet.of (by decide) (Nat.le_of_ble_eq_true rfl) ?_
  intro pp ee ss mm args below meth cd Q H locs ls hargs hx hb hr hlocks hml hown hnm hts hK hG hS hQ hl
  have hown : ss.vm.findClass RX0 = some mm.cls := hown
  have hl : lv_has ls 6 [(0, .ref (b 0)), (1, .int (iI t)), (2, .int (iI x)), (3, .int (iI y))] := hl
  refine g_iconst hx hb dX0_valueAt_0 ?_
  refine lv_istore (lv' := [(4, .int (iI 0)), (0, .ref (b 0)), (1, .int (iI t)), (2, .int (iI x)), (3, .int (iI y))]) hx hb dX0_valueAt_1 hl (by decide) rfl (fun ls hl => ?_)
  refine g_iconst hx hb dX0_valueAt_3 ?_
  refine lv_istore (lv' := [(5, .int (iI 0)), (4, .int (iI 0)), (0, .ref (b 0)), (1, .int (iI t)), (2, .int (iI x)), (3, .int (iI y))]) hx hb dX0_valueAt_4 hl (by decide) rfl (fun ls hl => ?_)
  refine lv_iload hx hb dX0_valueAt_6 (lv_at hl 0 rfl) ?_
  refine g_iconst hx hb dX0_valueAt_8 ?_
  refine g_icmp_ge (tgt := 41) hx hb dX0_valueAt_9 (by decide) (by omega) (by omega) (fun cq1 => absurd cq1 (by decide)) (fun cq1 => ?_)
  refine lv_iload hx hb dX0_valueAt_12 (lv_at hl 1 rfl) ?_
  refine lv_aload_n hx hb dX0_valueAt_14 rfl (lv_at hl 2 rfl) ?_
  refine lv_iload_n hx hb dX0_valueAt_15 rfl (lv_at hl 3 rfl) ?_
  refine g_iconst hx hb dX0_valueAt_16 ?_
  refine lv_iload hx hb dX0_valueAt_17 (lv_at hl 0 rfl) ?_
  refine lv_iload_n hx hb dX0_valueAt_19 rfl (lv_at hl 5 rfl) ?_
  refine g_callV (As := [.int (iI t), .int (iI 0), .int (iI 0), .int (iI y)]) (rest := [.int (iI 0)]) 4 hx hb hml hown hts hK hG hS hl.1 (mX0_rowAt l X σ b U J R hX hT t 0 0 y (by omega) (by omega) (by omega) (by omega)) hX.c0 rfl q366 q368 qs5 q69 q369 (by decide +kernel) rfl ⟨Nat.le_of_ble_eq_true rfl, Nat.le_of_ble_eq_true rfl⟩ ⟨Nat.le_of_ble_eq_true rfl, Nat.le_of_ble_eq_true rfl⟩ (Nat.le_of_ble_eq_true rfl) dX0_valueAt_20 (kI (fun r2 σr2 H locs hp hG hS => ?_))
  obtain ⟨⟨hr2, kr2⟩, rfl⟩ := hp
  refine lv_iload_n hx hb dX0_valueAt_23 rfl (lv_at hl 4 rfl) ?_
  refine lv_iload hx hb dX0_valueAt_24 (lv_at hl 0 rfl) ?_
  refine g_callS (As := [.int (iI x), .int (iI 0)]) (rest := [.int (iI r2), .int (iI 0)]) 2 hx hb hml hown hts hK hG hS hl.1 (mX0_power l X σ x 0 (by omega) (by omega)) q373 q374 q69 q375 (by decide +kernel) rfl ⟨Nat.le_of_ble_eq_true rfl, Nat.le_of_ble_eq_true rfl⟩ ⟨Nat.le_of_ble_eq_true rfl, Nat.le_of_ble_eq_true rfl⟩ (Nat.le_of_ble_eq_true rfl) dX0_valueAt_26 (kI (fun r3 σr3 H locs hp hG hS => ?_))
  obtain ⟨⟨hr3, kr3⟩, rfl⟩ := hp
  refine g_callS (As := [.int (iI r2), .int (iI r3)]) (rest := [.int (iI 0)]) 2 hx hb hml hown hts hK hG hS hl.1 (mX0_times l X σ  r2 r3 (by omega) (by omega)) q376 q377 q69 q378 (by decide +kernel) rfl ⟨Nat.le_of_ble_eq_true rfl, Nat.le_of_ble_eq_true rfl⟩ ⟨Nat.le_of_ble_eq_true rfl, Nat.le_of_ble_eq_true rfl⟩ (Nat.le_of_ble_eq_true rfl) dX0_valueAt_29 (kI (fun r4 σr4 H locs hp hG hS => ?_))
  obtain ⟨⟨hr4, kr4⟩, rfl⟩ := hp
  refine g_iadd hx hb dX0_valueAt_32 ?_
  refine lv_istore (lv' := [(4, .int (iI (0 + r4))), (5, .int (iI 0)), (0, .ref (b 0)), (1, .int (iI t)), (2, .int (iI x)), (3, .int (iI y))]) hx hb dX0_valueAt_33 hl (by decide) rfl (fun ls hl => ?_)
  refine g_iinc (lv' := [(5, .int (iI (0 + 1))), (4, .int (iI (0 + r4))), (0, .ref (b 0)), (1, .int (iI t)), (2, .int (iI x)), (3, .int (iI y))]) hx hb dX0_valueAt_35 hl (k := 1) rfl (by decide) rfl (fun ls hl => ?_)
  have hl : lv_has ls 6 [(5, .int (iI 1)), (4, .int (iI (0 + r4))), (0, .ref (b 0)), (1, .int (iI t)), (2, .int (iI x)), (3, .int (iI y))] := hl
  refine lv_goto (tgt := 6) hx hb dX0_valueAt_38 (by decide) ?_
  refine lv_iload hx hb dX0_valueAt_6 (lv_at hl 0 rfl) ?_
  refine g_iconst hx hb dX0_valueAt_8 ?_
  refine g_icmp_ge (tgt := 41) hx hb dX0_valueAt_9 (by decide) (by omega) (by omega) (fun cq5 => absurd cq5 (by decide)) (fun cq5 => ?_)
  refine lv_iload hx hb dX0_valueAt_12 (lv_at hl 1 rfl) ?_
  refine lv_aload_n hx hb dX0_valueAt_14 rfl (lv_at hl 2 rfl) ?_
  refine lv_iload_n hx hb dX0_valueAt_15 rfl (lv_at hl 3 rfl) ?_
  refine g_iconst hx hb dX0_valueAt_16 ?_
  refine lv_iload hx hb dX0_valueAt_17 (lv_at hl 0 rfl) ?_
  refine lv_iload_n hx hb dX0_valueAt_19 rfl (lv_at hl 5 rfl) ?_
  refine g_callV (As := [.int (iI t), .int (iI 0), .int (iI 1), .int (iI y)]) (rest := [.int (iI (0 + r4))]) 4 hx hb hml hown hts hK hG hS hl.1 (mX0_rowAt l X σ b U J R hX hT t 0 1 y (by omega) (by omega) (by omega) (by omega)) hX.c0 rfl q366 q368 qs5 q69 q369 (by decide +kernel) rfl ⟨Nat.le_of_ble_eq_true rfl, Nat.le_of_ble_eq_true rfl⟩ ⟨Nat.le_of_ble_eq_true rfl, Nat.le_of_ble_eq_true rfl⟩ (Nat.le_of_ble_eq_true rfl) dX0_valueAt_20 (kI (fun r6 σr6 H locs hp hG hS => ?_))
  obtain ⟨⟨hr6, kr6⟩, rfl⟩ := hp
  refine lv_iload_n hx hb dX0_valueAt_23 rfl (lv_at hl 4 rfl) ?_
  refine lv_iload hx hb dX0_valueAt_24 (lv_at hl 0 rfl) ?_
  refine g_callS (As := [.int (iI x), .int (iI 1)]) (rest := [.int (iI r6), .int (iI (0 + r4))]) 2 hx hb hml hown hts hK hG hS hl.1 (mX0_power l X σ x 1 (by omega) (by omega)) q373 q374 q69 q375 (by decide +kernel) rfl ⟨Nat.le_of_ble_eq_true rfl, Nat.le_of_ble_eq_true rfl⟩ ⟨Nat.le_of_ble_eq_true rfl, Nat.le_of_ble_eq_true rfl⟩ (Nat.le_of_ble_eq_true rfl) dX0_valueAt_26 (kI (fun r7 σr7 H locs hp hG hS => ?_))
  obtain ⟨⟨hr7, kr7⟩, rfl⟩ := hp
  refine g_callS (As := [.int (iI r6), .int (iI r7)]) (rest := [.int (iI (0 + r4))]) 2 hx hb hml hown hts hK hG hS hl.1 (mX0_times l X σ  r6 r7 (by omega) (by omega)) q376 q377 q69 q378 (by decide +kernel) rfl ⟨Nat.le_of_ble_eq_true rfl, Nat.le_of_ble_eq_true rfl⟩ ⟨Nat.le_of_ble_eq_true rfl, Nat.le_of_ble_eq_true rfl⟩ (Nat.le_of_ble_eq_true rfl) dX0_valueAt_29 (kI (fun r8 σr8 H locs hp hG hS => ?_))
  obtain ⟨⟨hr8, kr8⟩, rfl⟩ := hp
  refine g_iadd hx hb dX0_valueAt_32 ?_
  refine lv_istore (lv' := [(4, .int (iI ((0 + r4) + r8))), (5, .int (iI 1)), (0, .ref (b 0)), (1, .int (iI t)), (2, .int (iI x)), (3, .int (iI y))]) hx hb dX0_valueAt_33 hl (by decide) rfl (fun ls hl => ?_)
  refine g_iinc (lv' := [(5, .int (iI (1 + 1))), (4, .int (iI ((0 + r4) + r8))), (0, .ref (b 0)), (1, .int (iI t)), (2, .int (iI x)), (3, .int (iI y))]) hx hb dX0_valueAt_35 hl (k := 1) rfl (by decide) rfl (fun ls hl => ?_)
  have hl : lv_has ls 6 [(5, .int (iI 2)), (4, .int (iI ((0 + r4) + r8))), (0, .ref (b 0)), (1, .int (iI t)), (2, .int (iI x)), (3, .int (iI y))] := hl
  refine lv_goto (tgt := 6) hx hb dX0_valueAt_38 (by decide) ?_
  refine lv_iload hx hb dX0_valueAt_6 (lv_at hl 0 rfl) ?_
  refine g_iconst hx hb dX0_valueAt_8 ?_
  refine g_icmp_ge (tgt := 41) hx hb dX0_valueAt_9 (by decide) (by omega) (by omega) (fun cq9 => absurd cq9 (by decide)) (fun cq9 => ?_)
  refine lv_iload hx hb dX0_valueAt_12 (lv_at hl 1 rfl) ?_
  refine lv_aload_n hx hb dX0_valueAt_14 rfl (lv_at hl 2 rfl) ?_
  refine lv_iload_n hx hb dX0_valueAt_15 rfl (lv_at hl 3 rfl) ?_
  refine g_iconst hx hb dX0_valueAt_16 ?_
  refine lv_iload hx hb dX0_valueAt_17 (lv_at hl 0 rfl) ?_
  refine lv_iload_n hx hb dX0_valueAt_19 rfl (lv_at hl 5 rfl) ?_
  refine g_callV (As := [.int (iI t), .int (iI 0), .int (iI 2), .int (iI y)]) (rest := [.int (iI ((0 + r4) + r8))]) 4 hx hb hml hown hts hK hG hS hl.1 (mX0_rowAt l X σ b U J R hX hT t 0 2 y (by omega) (by omega) (by omega) (by omega)) hX.c0 rfl q366 q368 qs5 q69 q369 (by decide +kernel) rfl ⟨Nat.le_of_ble_eq_true rfl, Nat.le_of_ble_eq_true rfl⟩ ⟨Nat.le_of_ble_eq_true rfl, Nat.le_of_ble_eq_true rfl⟩ (Nat.le_of_ble_eq_true rfl) dX0_valueAt_20 (kI (fun r10 σr10 H locs hp hG hS => ?_))
  obtain ⟨⟨hr10, kr10⟩, rfl⟩ := hp
  refine lv_iload_n hx hb dX0_valueAt_23 rfl (lv_at hl 4 rfl) ?_
  refine lv_iload hx hb dX0_valueAt_24 (lv_at hl 0 rfl) ?_
  refine g_callS (As := [.int (iI x), .int (iI 2)]) (rest := [.int (iI r10), .int (iI ((0 + r4) + r8))]) 2 hx hb hml hown hts hK hG hS hl.1 (mX0_power l X σ x 2 (by omega) (by omega)) q373 q374 q69 q375 (by decide +kernel) rfl ⟨Nat.le_of_ble_eq_true rfl, Nat.le_of_ble_eq_true rfl⟩ ⟨Nat.le_of_ble_eq_true rfl, Nat.le_of_ble_eq_true rfl⟩ (Nat.le_of_ble_eq_true rfl) dX0_valueAt_26 (kI (fun r11 σr11 H locs hp hG hS => ?_))
  obtain ⟨⟨hr11, kr11⟩, rfl⟩ := hp
  refine g_callS (As := [.int (iI r10), .int (iI r11)]) (rest := [.int (iI ((0 + r4) + r8))]) 2 hx hb hml hown hts hK hG hS hl.1 (mX0_times l X σ  r10 r11 (by omega) (by omega)) q376 q377 q69 q378 (by decide +kernel) rfl ⟨Nat.le_of_ble_eq_true rfl, Nat.le_of_ble_eq_true rfl⟩ ⟨Nat.le_of_ble_eq_true rfl, Nat.le_of_ble_eq_true rfl⟩ (Nat.le_of_ble_eq_true rfl) dX0_valueAt_29 (kI (fun r12 σr12 H locs hp hG hS => ?_))
  obtain ⟨⟨hr12, kr12⟩, rfl⟩ := hp
  refine g_iadd hx hb dX0_valueAt_32 ?_
  refine lv_istore (lv' := [(4, .int (iI (((0 + r4) + r8) + r12))), (5, .int (iI 2)), (0, .ref (b 0)), (1, .int (iI t)), (2, .int (iI x)), (3, .int (iI y))]) hx hb dX0_valueAt_33 hl (by decide) rfl (fun ls hl => ?_)
  refine g_iinc (lv' := [(5, .int (iI (2 + 1))), (4, .int (iI (((0 + r4) + r8) + r12))), (0, .ref (b 0)), (1, .int (iI t)), (2, .int (iI x)), (3, .int (iI y))]) hx hb dX0_valueAt_35 hl (k := 1) rfl (by decide) rfl (fun ls hl => ?_)
  have hl : lv_has ls 6 [(5, .int (iI 3)), (4, .int (iI (((0 + r4) + r8) + r12))), (0, .ref (b 0)), (1, .int (iI t)), (2, .int (iI x)), (3, .int (iI y))] := hl
  refine lv_goto (tgt := 6) hx hb dX0_valueAt_38 (by decide) ?_
  refine lv_iload hx hb dX0_valueAt_6 (lv_at hl 0 rfl) ?_
  refine g_iconst hx hb dX0_valueAt_8 ?_
  refine g_icmp_ge (tgt := 41) hx hb dX0_valueAt_9 (by decide) (by omega) (by omega) (fun cq13 => ?_) (fun cq13 => absurd cq13 (by decide))
  refine lv_iload hx hb dX0_valueAt_41 (lv_at hl 1 rfl) ?_
  refine g_bipush hx hb dX0_valueAt_43 (by decide) ?_
  refine g_irem hx hb dX0_valueAt_45 (by omega) (by omega) ?_
  exact g_iret hx hb hr hlocks hQ hG hS (Nat.zero_le _) (Nat.zero_le _) ⟨_, rfl, ⟨(by simp only [valZ, *]; omega), (by omega)⟩, rfl⟩ dX0_valueAt_46

set_option maxHeartbeats 4000000 in
theorem mX0_value (l : Launch) (X : gX) (σ : gS) (b : Nat → Nat) (U : Nat → Int → Int) (J : Nat → Int) (R : Int → Option Nat) (hX : XW X σ b U J R) (hT : okT (U 20)) (t : Int) (x : Int) (y : Int) (h0 : -2147483648 ≤ t ∧ t ≤ 2147483647) (h1 : -2147483648 ≤ x ∧ x ≤ 2147483647) (h2 : -2147483648 ≤ y ∧ y ≤ 2147483647) : gMet l X yX0_value cX0_value 4 (some .int) 4 0 0 96 σ [.ref (b 0), .int (iI t), .int (iI x), .int (iI y)] (oI (fun r σ' => r = (if (0 ≤ t ∧ t ≤ 1) ∧ okSp x y then valZ (U 20) t x y else -1) ∧ σ = σ')) := by
  refine gMet.of (by decide) (Nat.le_of_ble_eq_true rfl) ?_
  intro pp ee ss mm args below meth cd Q H locs ls hargs hx hb hr hlocks hml hown hnm hts hK hG hS hQ hl
  have hown : ss.vm.findClass RX0 = some mm.cls := hown
  have hl : lv_has ls 4 [(0, .ref (b 0)), (1, .int (iI t)), (2, .int (iI x)), (3, .int (iI y))] := hl
  refine lv_iload_n hx hb dX0_value_0 rfl (lv_at hl 1 rfl) ?_
  refine g_callS (As := [.int (iI t)]) (rest := []) 1 hx hb hml hown hts hK hG hS hl.1 (mX0_isTable l X σ  t (by omega)) q491 q492 q69 q493 (by decide +kernel) rfl ⟨Nat.le_of_ble_eq_true rfl, Nat.le_of_ble_eq_true rfl⟩ ⟨Nat.le_of_ble_eq_true rfl, Nat.le_of_ble_eq_true rfl⟩ (Nat.le_of_ble_eq_true rfl) dX0_value_1 (kI (fun r1 σr1 H locs hp hG hS => ?_))
  obtain ⟨hr1, rfl⟩ := hp
  refine g_if_eq (tgt := 25) hx hb dX0_value_4 (by decide) (by omega) (fun cq2 => ?_) (fun cq2 => ?_)
  · refine g_iconst hx hb dX0_value_25 ?_
    exact g_iret hx hb hr hlocks hQ hG hS (Nat.zero_le _) (Nat.zero_le _) ⟨_, rfl, (by first | (rw [if_pos (by omega)]; assumption) | rw [if_neg (by omega)]), rfl⟩ dX0_value_26
  · refine lv_iload_n hx hb dX0_value_7 rfl (lv_at hl 2 rfl) ?_
    refine lv_iload_n hx hb dX0_value_8 rfl (lv_at hl 3 rfl) ?_
    refine g_callS (As := [.int (iI x), .int (iI y)]) (rest := []) 2 hx hb hml hown hts hK hG hS hl.1 (mX0_isSpot l X σ  x y (by omega) (by omega)) q591 q592 q69 q593 (by decide +kernel) rfl ⟨Nat.le_of_ble_eq_true rfl, Nat.le_of_ble_eq_true rfl⟩ ⟨Nat.le_of_ble_eq_true rfl, Nat.le_of_ble_eq_true rfl⟩ (Nat.le_of_ble_eq_true rfl) dX0_value_9 (kI (fun r3 σr3 H locs hp hG hS => ?_))
    obtain ⟨hr3, rfl⟩ := hp
    refine g_if_eq (tgt := 25) hx hb dX0_value_12 (by decide) (by omega) (fun cq4 => ?_) (fun cq4 => ?_)
    · refine g_iconst hx hb dX0_value_25 ?_
      exact g_iret hx hb hr hlocks hQ hG hS (Nat.zero_le _) (Nat.zero_le _) ⟨_, rfl, (by first | (rw [if_pos (by omega)]; assumption) | rw [if_neg (by omega)]), rfl⟩ dX0_value_26
    · refine lv_aload_n hx hb dX0_value_15 rfl (lv_at hl 0 rfl) ?_
      refine lv_iload_n hx hb dX0_value_16 rfl (lv_at hl 1 rfl) ?_
      refine lv_iload_n hx hb dX0_value_17 rfl (lv_at hl 2 rfl) ?_
      refine lv_iload_n hx hb dX0_value_18 rfl (lv_at hl 3 rfl) ?_
      refine g_callV (As := [.int (iI t), .int (iI x), .int (iI y)]) (rest := []) 3 hx hb hml hown hts hK hG hS hl.1 (mX0_valueAt l X σ b U J R hX hT t x y (by omega) (by omega) (by omega)) hX.c0 rfl q598 q600 qs17 q69 q601 (by decide +kernel) rfl ⟨Nat.le_of_ble_eq_true rfl, Nat.le_of_ble_eq_true rfl⟩ ⟨Nat.le_of_ble_eq_true rfl, Nat.le_of_ble_eq_true rfl⟩ (Nat.le_of_ble_eq_true rfl) dX0_value_19 (kI (fun r5 σr5 H locs hp hG hS => ?_))
      obtain ⟨⟨hr5, kr5⟩, rfl⟩ := hp
      refine lv_goto (tgt := 26) hx hb dX0_value_22 (by decide) ?_
      exact g_iret hx hb hr hlocks hQ hG hS (Nat.zero_le _) (Nat.zero_le _) ⟨_, rfl, (by first | (rw [if_pos (by omega)]; assumption) | rw [if_neg (by omega)]), rfl⟩ dX0_value_26

set_option maxHeartbeats 4000000 in
theorem mX0_keptAt (l : Launch) (X : gX) (σ : gS) (b : Nat → Nat) (U : Nat → Int → Int) (J : Nat → Int) (R : Int → Option Nat) (hX : XW X σ b U J R) (hT : okT (U 20)) (x : Int) (y : Int) (h0 : 0 ≤ x ∧ x ≤ 31) (h1 : 0 ≤ y ∧ y ≤ 31) : gMet l X yX0_keptAt cX0_keptAt 3 (some .int) 4 0 0 96 σ [.ref (b 0), .int (iI x), .int (iI y)] (oI (fun r σ' => (r = kepZ (U 20) x y ∧ (r = -6 ∨ (0 ≤ r ∧ r ≤ 31))) ∧ σ = σ')) := by
  refine gMet.of (by decide) (Nat.le_of_ble_eq_true rfl) ?_
  intro pp ee ss mm args below meth cd Q H locs ls hargs hx hb hr hlocks hml hown hnm hts hK hG hS hQ hl
  have hown : ss.vm.findClass RX0 = some mm.cls := hown
  have hl : lv_has ls 3 [(0, .ref (b 0)), (1, .int (iI x)), (2, .int (iI y))] := hl
  refine lv_aload_n hx hb dX0_keptAt_0 rfl (lv_at hl 0 rfl) ?_
  refine g_iconst hx hb dX0_keptAt_1 ?_
  refine lv_iload_n hx hb dX0_keptAt_2 rfl (lv_at hl 1 rfl) ?_
  refine lv_iload_n hx hb dX0_keptAt_3 rfl (lv_at hl 2 rfl) ?_
  refine g_callV (As := [.int (iI 0), .int (iI x), .int (iI y)]) (rest := []) 3 hx hb hml hown hts hK hG hS hl.1 (mX0_valueAt l X σ b U J R hX hT 0 x y (by omega) (by omega) (by omega)) hX.c0 rfl q598 q600 qs17 q69 q601 (by decide +kernel) rfl ⟨Nat.le_of_ble_eq_true rfl, Nat.le_of_ble_eq_true rfl⟩ ⟨Nat.le_of_ble_eq_true rfl, Nat.le_of_ble_eq_true rfl⟩ (Nat.le_of_ble_eq_true rfl) dX0_keptAt_4 (kI (fun r1 σr1 H locs hp hG hS => ?_))
  obtain ⟨⟨hr1, kr1⟩, rfl⟩ := hp
  refine lv_aload_n hx hb dX0_keptAt_7 rfl (lv_at hl 0 rfl) ?_
  refine g_iconst hx hb dX0_keptAt_8 ?_
  refine lv_iload_n hx hb dX0_keptAt_9 rfl (lv_at hl 1 rfl) ?_
  refine lv_iload_n hx hb dX0_keptAt_10 rfl (lv_at hl 2 rfl) ?_
  refine g_callV (As := [.int (iI 1), .int (iI x), .int (iI y)]) (rest := [.int (iI r1)]) 3 hx hb hml hown hts hK hG hS hl.1 (mX0_valueAt l X σ b U J R hX hT 1 x y (by omega) (by omega) (by omega)) hX.c0 rfl q598 q600 qs17 q69 q601 (by decide +kernel) rfl ⟨Nat.le_of_ble_eq_true rfl, Nat.le_of_ble_eq_true rfl⟩ ⟨Nat.le_of_ble_eq_true rfl, Nat.le_of_ble_eq_true rfl⟩ (Nat.le_of_ble_eq_true rfl) dX0_keptAt_11 (kI (fun r2 σr2 H locs hp hG hS => ?_))
  obtain ⟨⟨hr2, kr2⟩, rfl⟩ := hp
  refine g_callS (As := [.int (iI r1), .int (iI r2)]) (rest := []) 2 hx hb hml hown hts hK hG hS hl.1 (mX0_by l X σ  r1 r2 (by omega) (by omega)) q382 q383 q69 q384 (by decide +kernel) rfl ⟨Nat.le_of_ble_eq_true rfl, Nat.le_of_ble_eq_true rfl⟩ ⟨Nat.le_of_ble_eq_true rfl, Nat.le_of_ble_eq_true rfl⟩ (Nat.le_of_ble_eq_true rfl) dX0_keptAt_14 (kI (fun r3 σr3 H locs hp hG hS => ?_))
  obtain ⟨⟨hr3, kr3⟩, rfl⟩ := hp
  exact g_iret hx hb hr hlocks hQ hG hS (Nat.zero_le _) (Nat.zero_le _) ⟨_, rfl, ⟨(by simp only [kepZ, *]), (by omega)⟩, rfl⟩ dX0_keptAt_17

set_option maxHeartbeats 4000000 in
theorem mX0_kept (l : Launch) (X : gX) (σ : gS) (b : Nat → Nat) (U : Nat → Int → Int) (J : Nat → Int) (R : Int → Option Nat) (hX : XW X σ b U J R) (hT : okT (U 20)) (x : Int) (y : Int) (h0 : -2147483648 ≤ x ∧ x ≤ 2147483647) (h1 : -2147483648 ≤ y ∧ y ≤ 2147483647) : gMet l X yX0_kept cX0_kept 3 (some .int) 5 0 0 118 σ [.ref (b 0), .int (iI x), .int (iI y)] (oI (fun r σ' => r = (if okSp x y then kepZ (U 20) x y else -1) ∧ σ = σ')) := by
  refine gMet.of (by decide) (Nat.le_of_ble_eq_true rfl) ?_
  intro pp ee ss mm args below meth cd Q H locs ls hargs hx hb hr hlocks hml hown hnm hts hK hG hS hQ hl
  have hown : ss.vm.findClass RX0 = some mm.cls := hown
  have hl : lv_has ls 3 [(0, .ref (b 0)), (1, .int (iI x)), (2, .int (iI y))] := hl
  refine lv_iload_n hx hb dX0_kept_0 rfl (lv_at hl 1 rfl) ?_
  refine lv_iload_n hx hb dX0_kept_1 rfl (lv_at hl 2 rfl) ?_
  refine g_callS (As := [.int (iI x), .int (iI y)]) (rest := []) 2 hx hb hml hown hts hK hG hS hl.1 (mX0_isSpot l X σ  x y (by omega) (by omega)) q591 q592 q69 q593 (by decide +kernel) rfl ⟨Nat.le_of_ble_eq_true rfl, Nat.le_of_ble_eq_true rfl⟩ ⟨Nat.le_of_ble_eq_true rfl, Nat.le_of_ble_eq_true rfl⟩ (Nat.le_of_ble_eq_true rfl) dX0_kept_2 (kI (fun r1 σr1 H locs hp hG hS => ?_))
  obtain ⟨hr1, rfl⟩ := hp
  refine g_if_eq (tgt := 17) hx hb dX0_kept_5 (by decide) (by omega) (fun cq2 => ?_) (fun cq2 => ?_)
  · refine g_iconst hx hb dX0_kept_17 ?_
    exact g_iret hx hb hr hlocks hQ hG hS (Nat.zero_le _) (Nat.zero_le _) ⟨_, rfl, (by first | (rw [if_pos (by omega)]; assumption) | rw [if_neg (by omega)]), rfl⟩ dX0_kept_18
  · refine lv_aload_n hx hb dX0_kept_8 rfl (lv_at hl 0 rfl) ?_
    refine lv_iload_n hx hb dX0_kept_9 rfl (lv_at hl 1 rfl) ?_
    refine lv_iload_n hx hb dX0_kept_10 rfl (lv_at hl 2 rfl) ?_
    refine g_callV (As := [.int (iI x), .int (iI y)]) (rest := []) 2 hx hb hml hown hts hK hG hS hl.1 (mX0_keptAt l X σ b U J R hX hT x y (by omega) (by omega)) hX.c0 rfl q606 q608 qs18 q69 q609 (by decide +kernel) rfl ⟨Nat.le_of_ble_eq_true rfl, Nat.le_of_ble_eq_true rfl⟩ ⟨Nat.le_of_ble_eq_true rfl, Nat.le_of_ble_eq_true rfl⟩ (Nat.le_of_ble_eq_true rfl) dX0_kept_11 (kI (fun r3 σr3 H locs hp hG hS => ?_))
    obtain ⟨⟨hr3, kr3⟩, rfl⟩ := hp
    refine lv_goto (tgt := 18) hx hb dX0_kept_14 (by decide) ?_
    exact g_iret hx hb hr hlocks hQ hG hS (Nat.zero_le _) (Nat.zero_le _) ⟨_, rfl, (by first | (rw [if_pos (by omega)]; assumption) | rw [if_neg (by omega)]), rfl⟩ dX0_kept_18

set_option maxHeartbeats 4000000 in
theorem mX0_pair (l : Launch) (X : gX) (σ : gS) (b : Nat → Nat) (U : Nat → Int → Int) (J : Nat → Int) (R : Int → Option Nat) (hX : XW X σ b U J R) (hT : okT (U 20)) (w : Int) (c : Int) (a9 : Int) (h0 : -2147483648 ≤ w ∧ w ≤ 2147483647) (h1 : 0 ≤ c ∧ c ≤ 31) (h2 : -2147483648 ≤ a9 ∧ a9 ≤ 2147483647) : gMet l X yX0_pair cX0_pair 6 (some .int) 3 0 0 71 σ [.ref (b 0), .int (iI w), .int (iI c), .int (iI a9)] (oI (fun r σ' => (r = crsZ (U 20) w c a9 ∧ (0 ≤ r ∧ r ≤ 30)) ∧ σ = σ')) := by
  refine gMet.of (by decide) (Nat.le_of_ble_eq_true rfl) ?_
  intro pp ee ss mm args below meth cd Q H locs ls hargs hx hb hr hlocks hml hown hnm hts hK hG hS hQ hl
  have hown : ss.vm.findClass RX0 = some mm.cls := hown
  have hl : lv_has ls 6 [(0, .ref (b 0)), (1, .int (iI w)), (2, .int (iI c)), (3, .int (iI a9))] := hl
  refine lv_iload_n hx hb dX0_pair_0 rfl (lv_at hl 3 rfl) ?_
  refine g_iconst hx hb dX0_pair_1 ?_
  refine g_icmp_ne (tgt := 9) hx hb dX0_pair_2 (by decide) (by omega) (by omega) (fun cq1 => ?_) (fun cq1 => ?_)
  · refine g_iconst hx hb dX0_pair_9 ?_
    refine lv_istore (lv' := [(4, .int (iI 2)), (0, .ref (b 0)), (1, .int (iI w)), (2, .int (iI c)), (3, .int (iI a9))]) hx hb dX0_pair_10 hl (by decide) rfl (fun ls hl => ?_)
    refine lv_iload_n hx hb dX0_pair_12 rfl (lv_at hl 4 rfl) ?_
    refine g_if_ne (tgt := 20) hx hb dX0_pair_13 (by decide) (by omega) (fun cq2 => ?_) (fun cq2 => ?_)
    · refine g_iconst hx hb dX0_pair_20 ?_
      refine lv_istore (lv' := [(5, .int (iI 0)), (4, .int (iI 2)), (0, .ref (b 0)), (1, .int (iI w)), (2, .int (iI c)), (3, .int (iI a9))]) hx hb dX0_pair_21 hl (by decide) rfl (fun ls hl => ?_)
      refine lv_aload_n hx hb dX0_pair_23 rfl (lv_at hl 2 rfl) ?_
      refine g_iconst hx hb dX0_pair_24 ?_
      refine lv_iload_n hx hb dX0_pair_25 rfl (lv_at hl 3 rfl) ?_
      refine lv_iload hx hb dX0_pair_26 (lv_at hl 1 rfl) ?_
      refine lv_iload_n hx hb dX0_pair_28 rfl (lv_at hl 4 rfl) ?_
      refine g_callV (As := [.int (iI 0), .int (iI w), .int (iI 2), .int (iI c)]) (rest := []) 4 hx hb hml hown hts hK hG hS hl.1 (mX0_rowAt l X σ b U J R hX hT 0 w 2 c (by omega) (by omega) (by omega) (by omega)) hX.c0 rfl q366 q368 qs5 q69 q369 (by decide +kernel) rfl ⟨Nat.le_of_ble_eq_true rfl, Nat.le_of_ble_eq_true rfl⟩ ⟨Nat.le_of_ble_eq_true rfl, Nat.le_of_ble_eq_true rfl⟩ (Nat.le_of_ble_eq_true rfl) dX0_pair_29 (kI (fun r3 σr3 H locs hp hG hS => ?_))
      obtain ⟨⟨hr3, kr3⟩, rfl⟩ := hp
      refine lv_aload_n hx hb dX0_pair_32 rfl (lv_at hl 2 rfl) ?_
      refine g_iconst hx hb dX0_pair_33 ?_
      refine lv_iload_n hx hb dX0_pair_34 rfl (lv_at hl 3 rfl) ?_
      refine lv_iload hx hb dX0_pair_35 (lv_at hl 0 rfl) ?_
      refine lv_iload_n hx hb dX0_pair_37 rfl (lv_at hl 4 rfl) ?_
      refine g_callV (As := [.int (iI 1), .int (iI w), .int (iI 0), .int (iI c)]) (rest := [.int (iI r3)]) 4 hx hb hml hown hts hK hG hS hl.1 (mX0_rowAt l X σ b U J R hX hT 1 w 0 c (by omega) (by omega) (by omega) (by omega)) hX.c0 rfl q366 q368 qs5 q69 q369 (by decide +kernel) rfl ⟨Nat.le_of_ble_eq_true rfl, Nat.le_of_ble_eq_true rfl⟩ ⟨Nat.le_of_ble_eq_true rfl, Nat.le_of_ble_eq_true rfl⟩ (Nat.le_of_ble_eq_true rfl) dX0_pair_38 (kI (fun r4 σr4 H locs hp hG hS => ?_))
      obtain ⟨⟨hr4, kr4⟩, rfl⟩ := hp
      refine g_callS (As := [.int (iI r3), .int (iI r4)]) (rest := []) 2 hx hb hml hown hts hK hG hS hl.1 (mX0_times l X σ  r3 r4 (by omega) (by omega)) q376 q377 q69 q378 (by decide +kernel) rfl ⟨Nat.le_of_ble_eq_true rfl, Nat.le_of_ble_eq_true rfl⟩ ⟨Nat.le_of_ble_eq_true rfl, Nat.le_of_ble_eq_true rfl⟩ (Nat.le_of_ble_eq_true rfl) dX0_pair_41 (kI (fun r5 σr5 H locs hp hG hS => ?_))
      obtain ⟨⟨hr5, kr5⟩, rfl⟩ := hp
      refine lv_aload_n hx hb dX0_pair_44 rfl (lv_at hl 2 rfl) ?_
      refine g_iconst hx hb dX0_pair_45 ?_
      refine lv_iload_n hx hb dX0_pair_46 rfl (lv_at hl 3 rfl) ?_
      refine lv_iload hx hb dX0_pair_47 (lv_at hl 0 rfl) ?_
      refine lv_iload_n hx hb dX0_pair_49 rfl (lv_at hl 4 rfl) ?_
      refine g_callV (As := [.int (iI 0), .int (iI w), .int (iI 0), .int (iI c)]) (rest := [.int (iI r5)]) 4 hx hb hml hown hts hK hG hS hl.1 (mX0_rowAt l X σ b U J R hX hT 0 w 0 c (by omega) (by omega) (by omega) (by omega)) hX.c0 rfl q366 q368 qs5 q69 q369 (by decide +kernel) rfl ⟨Nat.le_of_ble_eq_true rfl, Nat.le_of_ble_eq_true rfl⟩ ⟨Nat.le_of_ble_eq_true rfl, Nat.le_of_ble_eq_true rfl⟩ (Nat.le_of_ble_eq_true rfl) dX0_pair_50 (kI (fun r6 σr6 H locs hp hG hS => ?_))
      obtain ⟨⟨hr6, kr6⟩, rfl⟩ := hp
      refine lv_aload_n hx hb dX0_pair_53 rfl (lv_at hl 2 rfl) ?_
      refine g_iconst hx hb dX0_pair_54 ?_
      refine lv_iload_n hx hb dX0_pair_55 rfl (lv_at hl 3 rfl) ?_
      refine lv_iload hx hb dX0_pair_56 (lv_at hl 1 rfl) ?_
      refine lv_iload_n hx hb dX0_pair_58 rfl (lv_at hl 4 rfl) ?_
      refine g_callV (As := [.int (iI 1), .int (iI w), .int (iI 2), .int (iI c)]) (rest := [.int (iI r6), .int (iI r5)]) 4 hx hb hml hown hts hK hG hS hl.1 (mX0_rowAt l X σ b U J R hX hT 1 w 2 c (by omega) (by omega) (by omega) (by omega)) hX.c0 rfl q366 q368 qs5 q69 q369 (by decide +kernel) rfl ⟨Nat.le_of_ble_eq_true rfl, Nat.le_of_ble_eq_true rfl⟩ ⟨Nat.le_of_ble_eq_true rfl, Nat.le_of_ble_eq_true rfl⟩ (Nat.le_of_ble_eq_true rfl) dX0_pair_59 (kI (fun r7 σr7 H locs hp hG hS => ?_))
      obtain ⟨⟨hr7, kr7⟩, rfl⟩ := hp
      refine g_callS (As := [.int (iI r6), .int (iI r7)]) (rest := [.int (iI r5)]) 2 hx hb hml hown hts hK hG hS hl.1 (mX0_times l X σ  r6 r7 (by omega) (by omega)) q376 q377 q69 q378 (by decide +kernel) rfl ⟨Nat.le_of_ble_eq_true rfl, Nat.le_of_ble_eq_true rfl⟩ ⟨Nat.le_of_ble_eq_true rfl, Nat.le_of_ble_eq_true rfl⟩ (Nat.le_of_ble_eq_true rfl) dX0_pair_62 (kI (fun r8 σr8 H locs hp hG hS => ?_))
      obtain ⟨⟨hr8, kr8⟩, rfl⟩ := hp
      refine g_callS (As := [.int (iI r5), .int (iI r8)]) (rest := []) 2 hx hb hml hown hts hK hG hS hl.1 (mX0_less l X σ  r5 r8 (by omega) (by omega)) q379 q380 q69 q381 (by decide +kernel) rfl ⟨Nat.le_of_ble_eq_true rfl, Nat.le_of_ble_eq_true rfl⟩ ⟨Nat.le_of_ble_eq_true rfl, Nat.le_of_ble_eq_true rfl⟩ (Nat.le_of_ble_eq_true rfl) dX0_pair_65 (kI (fun r9 σr9 H locs hp hG hS => ?_))
      obtain ⟨⟨hr9, kr9⟩, rfl⟩ := hp
      exact g_iret hx hb hr hlocks hQ hG hS (Nat.zero_le _) (Nat.zero_le _) ⟨_, rfl, ⟨(by
                have e1 : hiZ a9 = (if a9 = 2 then 1 else 2) := rfl
                have e2 : loZ a9 = (if a9 = 0 then 1 else 0) := rfl
                first | rw [if_pos (by assumption)] at e1 | rw [if_neg (by assumption)] at e1
                first | rw [if_pos (by omega)] at e2 | rw [if_neg (by omega)] at e2
                unfold crsZ
                rw [e1, e2]
                first | (simp only [*]; omega) | (exfalso; omega)), (by omega)⟩, rfl⟩ dX0_pair_68
    · refine g_iconst hx hb dX0_pair_16 ?_
      refine lv_goto (tgt := 21) hx hb dX0_pair_17 (by decide) ?_
      refine lv_istore (lv' := [(5, .int (iI 1)), (4, .int (iI 2)), (0, .ref (b 0)), (1, .int (iI w)), (2, .int (iI c)), (3, .int (iI a9))]) hx hb dX0_pair_21 hl (by decide) rfl (fun ls hl => ?_)
      refine lv_aload_n hx hb dX0_pair_23 rfl (lv_at hl 2 rfl) ?_
      refine g_iconst hx hb dX0_pair_24 ?_
      refine lv_iload_n hx hb dX0_pair_25 rfl (lv_at hl 3 rfl) ?_
      refine lv_iload hx hb dX0_pair_26 (lv_at hl 1 rfl) ?_
      refine lv_iload_n hx hb dX0_pair_28 rfl (lv_at hl 4 rfl) ?_
      refine g_callV (As := [.int (iI 0), .int (iI w), .int (iI 2), .int (iI c)]) (rest := []) 4 hx hb hml hown hts hK hG hS hl.1 (mX0_rowAt l X σ b U J R hX hT 0 w 2 c (by omega) (by omega) (by omega) (by omega)) hX.c0 rfl q366 q368 qs5 q69 q369 (by decide +kernel) rfl ⟨Nat.le_of_ble_eq_true rfl, Nat.le_of_ble_eq_true rfl⟩ ⟨Nat.le_of_ble_eq_true rfl, Nat.le_of_ble_eq_true rfl⟩ (Nat.le_of_ble_eq_true rfl) dX0_pair_29 (kI (fun r10 σr10 H locs hp hG hS => ?_))
      obtain ⟨⟨hr10, kr10⟩, rfl⟩ := hp
      refine lv_aload_n hx hb dX0_pair_32 rfl (lv_at hl 2 rfl) ?_
      refine g_iconst hx hb dX0_pair_33 ?_
      refine lv_iload_n hx hb dX0_pair_34 rfl (lv_at hl 3 rfl) ?_
      refine lv_iload hx hb dX0_pair_35 (lv_at hl 0 rfl) ?_
      refine lv_iload_n hx hb dX0_pair_37 rfl (lv_at hl 4 rfl) ?_
      refine g_callV (As := [.int (iI 1), .int (iI w), .int (iI 1), .int (iI c)]) (rest := [.int (iI r10)]) 4 hx hb hml hown hts hK hG hS hl.1 (mX0_rowAt l X σ b U J R hX hT 1 w 1 c (by omega) (by omega) (by omega) (by omega)) hX.c0 rfl q366 q368 qs5 q69 q369 (by decide +kernel) rfl ⟨Nat.le_of_ble_eq_true rfl, Nat.le_of_ble_eq_true rfl⟩ ⟨Nat.le_of_ble_eq_true rfl, Nat.le_of_ble_eq_true rfl⟩ (Nat.le_of_ble_eq_true rfl) dX0_pair_38 (kI (fun r11 σr11 H locs hp hG hS => ?_))
      obtain ⟨⟨hr11, kr11⟩, rfl⟩ := hp
      refine g_callS (As := [.int (iI r10), .int (iI r11)]) (rest := []) 2 hx hb hml hown hts hK hG hS hl.1 (mX0_times l X σ  r10 r11 (by omega) (by omega)) q376 q377 q69 q378 (by decide +kernel) rfl ⟨Nat.le_of_ble_eq_true rfl, Nat.le_of_ble_eq_true rfl⟩ ⟨Nat.le_of_ble_eq_true rfl, Nat.le_of_ble_eq_true rfl⟩ (Nat.le_of_ble_eq_true rfl) dX0_pair_41 (kI (fun r12 σr12 H locs hp hG hS => ?_))
      obtain ⟨⟨hr12, kr12⟩, rfl⟩ := hp
      refine lv_aload_n hx hb dX0_pair_44 rfl (lv_at hl 2 rfl) ?_
      refine g_iconst hx hb dX0_pair_45 ?_
      refine lv_iload_n hx hb dX0_pair_46 rfl (lv_at hl 3 rfl) ?_
      refine lv_iload hx hb dX0_pair_47 (lv_at hl 0 rfl) ?_
      refine lv_iload_n hx hb dX0_pair_49 rfl (lv_at hl 4 rfl) ?_
      refine g_callV (As := [.int (iI 0), .int (iI w), .int (iI 1), .int (iI c)]) (rest := [.int (iI r12)]) 4 hx hb hml hown hts hK hG hS hl.1 (mX0_rowAt l X σ b U J R hX hT 0 w 1 c (by omega) (by omega) (by omega) (by omega)) hX.c0 rfl q366 q368 qs5 q69 q369 (by decide +kernel) rfl ⟨Nat.le_of_ble_eq_true rfl, Nat.le_of_ble_eq_true rfl⟩ ⟨Nat.le_of_ble_eq_true rfl, Nat.le_of_ble_eq_true rfl⟩ (Nat.le_of_ble_eq_true rfl) dX0_pair_50 (kI (fun r13 σr13 H locs hp hG hS => ?_))
      obtain ⟨⟨hr13, kr13⟩, rfl⟩ := hp
      refine lv_aload_n hx hb dX0_pair_53 rfl (lv_at hl 2 rfl) ?_
      refine g_iconst hx hb dX0_pair_54 ?_
      refine lv_iload_n hx hb dX0_pair_55 rfl (lv_at hl 3 rfl) ?_
      refine lv_iload hx hb dX0_pair_56 (lv_at hl 1 rfl) ?_
      refine lv_iload_n hx hb dX0_pair_58 rfl (lv_at hl 4 rfl) ?_
      refine g_callV (As := [.int (iI 1), .int (iI w), .int (iI 2), .int (iI c)]) (rest := [.int (iI r13), .int (iI r12)]) 4 hx hb hml hown hts hK hG hS hl.1 (mX0_rowAt l X σ b U J R hX hT 1 w 2 c (by omega) (by omega) (by omega) (by omega)) hX.c0 rfl q366 q368 qs5 q69 q369 (by decide +kernel) rfl ⟨Nat.le_of_ble_eq_true rfl, Nat.le_of_ble_eq_true rfl⟩ ⟨Nat.le_of_ble_eq_true rfl, Nat.le_of_ble_eq_true rfl⟩ (Nat.le_of_ble_eq_true rfl) dX0_pair_59 (kI (fun r14 σr14 H locs hp hG hS => ?_))
      obtain ⟨⟨hr14, kr14⟩, rfl⟩ := hp
      refine g_callS (As := [.int (iI r13), .int (iI r14)]) (rest := [.int (iI r12)]) 2 hx hb hml hown hts hK hG hS hl.1 (mX0_times l X σ  r13 r14 (by omega) (by omega)) q376 q377 q69 q378 (by decide +kernel) rfl ⟨Nat.le_of_ble_eq_true rfl, Nat.le_of_ble_eq_true rfl⟩ ⟨Nat.le_of_ble_eq_true rfl, Nat.le_of_ble_eq_true rfl⟩ (Nat.le_of_ble_eq_true rfl) dX0_pair_62 (kI (fun r15 σr15 H locs hp hG hS => ?_))
      obtain ⟨⟨hr15, kr15⟩, rfl⟩ := hp
      refine g_callS (As := [.int (iI r12), .int (iI r15)]) (rest := []) 2 hx hb hml hown hts hK hG hS hl.1 (mX0_less l X σ  r12 r15 (by omega) (by omega)) q379 q380 q69 q381 (by decide +kernel) rfl ⟨Nat.le_of_ble_eq_true rfl, Nat.le_of_ble_eq_true rfl⟩ ⟨Nat.le_of_ble_eq_true rfl, Nat.le_of_ble_eq_true rfl⟩ (Nat.le_of_ble_eq_true rfl) dX0_pair_65 (kI (fun r16 σr16 H locs hp hG hS => ?_))
      obtain ⟨⟨hr16, kr16⟩, rfl⟩ := hp
      exact g_iret hx hb hr hlocks hQ hG hS (Nat.zero_le _) (Nat.zero_le _) ⟨_, rfl, ⟨(by
                have e1 : hiZ a9 = (if a9 = 2 then 1 else 2) := rfl
                have e2 : loZ a9 = (if a9 = 0 then 1 else 0) := rfl
                first | rw [if_pos (by assumption)] at e1 | rw [if_neg (by assumption)] at e1
                first | rw [if_pos (by omega)] at e2 | rw [if_neg (by omega)] at e2
                unfold crsZ
                rw [e1, e2]
                first | (simp only [*]; omega) | (exfalso; omega)), (by omega)⟩, rfl⟩ dX0_pair_68
  · refine g_iconst hx hb dX0_pair_5 ?_
    refine lv_goto (tgt := 10) hx hb dX0_pair_6 (by decide) ?_
    refine lv_istore (lv' := [(4, .int (iI 1)), (0, .ref (b 0)), (1, .int (iI w)), (2, .int (iI c)), (3, .int (iI a9))]) hx hb dX0_pair_10 hl (by decide) rfl (fun ls hl => ?_)
    refine lv_iload_n hx hb dX0_pair_12 rfl (lv_at hl 4 rfl) ?_
    refine g_if_ne (tgt := 20) hx hb dX0_pair_13 (by decide) (by omega) (fun cq17 => ?_) (fun cq17 => ?_)
    · refine g_iconst hx hb dX0_pair_20 ?_
      refine lv_istore (lv' := [(5, .int (iI 0)), (4, .int (iI 1)), (0, .ref (b 0)), (1, .int (iI w)), (2, .int (iI c)), (3, .int (iI a9))]) hx hb dX0_pair_21 hl (by decide) rfl (fun ls hl => ?_)
      refine lv_aload_n hx hb dX0_pair_23 rfl (lv_at hl 2 rfl) ?_
      refine g_iconst hx hb dX0_pair_24 ?_
      refine lv_iload_n hx hb dX0_pair_25 rfl (lv_at hl 3 rfl) ?_
      refine lv_iload hx hb dX0_pair_26 (lv_at hl 1 rfl) ?_
      refine lv_iload_n hx hb dX0_pair_28 rfl (lv_at hl 4 rfl) ?_
      refine g_callV (As := [.int (iI 0), .int (iI w), .int (iI 1), .int (iI c)]) (rest := []) 4 hx hb hml hown hts hK hG hS hl.1 (mX0_rowAt l X σ b U J R hX hT 0 w 1 c (by omega) (by omega) (by omega) (by omega)) hX.c0 rfl q366 q368 qs5 q69 q369 (by decide +kernel) rfl ⟨Nat.le_of_ble_eq_true rfl, Nat.le_of_ble_eq_true rfl⟩ ⟨Nat.le_of_ble_eq_true rfl, Nat.le_of_ble_eq_true rfl⟩ (Nat.le_of_ble_eq_true rfl) dX0_pair_29 (kI (fun r18 σr18 H locs hp hG hS => ?_))
      obtain ⟨⟨hr18, kr18⟩, rfl⟩ := hp
      refine lv_aload_n hx hb dX0_pair_32 rfl (lv_at hl 2 rfl) ?_
      refine g_iconst hx hb dX0_pair_33 ?_
      refine lv_iload_n hx hb dX0_pair_34 rfl (lv_at hl 3 rfl) ?_
      refine lv_iload hx hb dX0_pair_35 (lv_at hl 0 rfl) ?_
      refine lv_iload_n hx hb dX0_pair_37 rfl (lv_at hl 4 rfl) ?_
      refine g_callV (As := [.int (iI 1), .int (iI w), .int (iI 0), .int (iI c)]) (rest := [.int (iI r18)]) 4 hx hb hml hown hts hK hG hS hl.1 (mX0_rowAt l X σ b U J R hX hT 1 w 0 c (by omega) (by omega) (by omega) (by omega)) hX.c0 rfl q366 q368 qs5 q69 q369 (by decide +kernel) rfl ⟨Nat.le_of_ble_eq_true rfl, Nat.le_of_ble_eq_true rfl⟩ ⟨Nat.le_of_ble_eq_true rfl, Nat.le_of_ble_eq_true rfl⟩ (Nat.le_of_ble_eq_true rfl) dX0_pair_38 (kI (fun r19 σr19 H locs hp hG hS => ?_))
      obtain ⟨⟨hr19, kr19⟩, rfl⟩ := hp
      refine g_callS (As := [.int (iI r18), .int (iI r19)]) (rest := []) 2 hx hb hml hown hts hK hG hS hl.1 (mX0_times l X σ  r18 r19 (by omega) (by omega)) q376 q377 q69 q378 (by decide +kernel) rfl ⟨Nat.le_of_ble_eq_true rfl, Nat.le_of_ble_eq_true rfl⟩ ⟨Nat.le_of_ble_eq_true rfl, Nat.le_of_ble_eq_true rfl⟩ (Nat.le_of_ble_eq_true rfl) dX0_pair_41 (kI (fun r20 σr20 H locs hp hG hS => ?_))
      obtain ⟨⟨hr20, kr20⟩, rfl⟩ := hp
      refine lv_aload_n hx hb dX0_pair_44 rfl (lv_at hl 2 rfl) ?_
      refine g_iconst hx hb dX0_pair_45 ?_
      refine lv_iload_n hx hb dX0_pair_46 rfl (lv_at hl 3 rfl) ?_
      refine lv_iload hx hb dX0_pair_47 (lv_at hl 0 rfl) ?_
      refine lv_iload_n hx hb dX0_pair_49 rfl (lv_at hl 4 rfl) ?_
      refine g_callV (As := [.int (iI 0), .int (iI w), .int (iI 0), .int (iI c)]) (rest := [.int (iI r20)]) 4 hx hb hml hown hts hK hG hS hl.1 (mX0_rowAt l X σ b U J R hX hT 0 w 0 c (by omega) (by omega) (by omega) (by omega)) hX.c0 rfl q366 q368 qs5 q69 q369 (by decide +kernel) rfl ⟨Nat.le_of_ble_eq_true rfl, Nat.le_of_ble_eq_true rfl⟩ ⟨Nat.le_of_ble_eq_true rfl, Nat.le_of_ble_eq_true rfl⟩ (Nat.le_of_ble_eq_true rfl) dX0_pair_50 (kI (fun r21 σr21 H locs hp hG hS => ?_))
      obtain ⟨⟨hr21, kr21⟩, rfl⟩ := hp
      refine lv_aload_n hx hb dX0_pair_53 rfl (lv_at hl 2 rfl) ?_
      refine g_iconst hx hb dX0_pair_54 ?_
      refine lv_iload_n hx hb dX0_pair_55 rfl (lv_at hl 3 rfl) ?_
      refine lv_iload hx hb dX0_pair_56 (lv_at hl 1 rfl) ?_
      refine lv_iload_n hx hb dX0_pair_58 rfl (lv_at hl 4 rfl) ?_
      refine g_callV (As := [.int (iI 1), .int (iI w), .int (iI 1), .int (iI c)]) (rest := [.int (iI r21), .int (iI r20)]) 4 hx hb hml hown hts hK hG hS hl.1 (mX0_rowAt l X σ b U J R hX hT 1 w 1 c (by omega) (by omega) (by omega) (by omega)) hX.c0 rfl q366 q368 qs5 q69 q369 (by decide +kernel) rfl ⟨Nat.le_of_ble_eq_true rfl, Nat.le_of_ble_eq_true rfl⟩ ⟨Nat.le_of_ble_eq_true rfl, Nat.le_of_ble_eq_true rfl⟩ (Nat.le_of_ble_eq_true rfl) dX0_pair_59 (kI (fun r22 σr22 H locs hp hG hS => ?_))
      obtain ⟨⟨hr22, kr22⟩, rfl⟩ := hp
      refine g_callS (As := [.int (iI r21), .int (iI r22)]) (rest := [.int (iI r20)]) 2 hx hb hml hown hts hK hG hS hl.1 (mX0_times l X σ  r21 r22 (by omega) (by omega)) q376 q377 q69 q378 (by decide +kernel) rfl ⟨Nat.le_of_ble_eq_true rfl, Nat.le_of_ble_eq_true rfl⟩ ⟨Nat.le_of_ble_eq_true rfl, Nat.le_of_ble_eq_true rfl⟩ (Nat.le_of_ble_eq_true rfl) dX0_pair_62 (kI (fun r23 σr23 H locs hp hG hS => ?_))
      obtain ⟨⟨hr23, kr23⟩, rfl⟩ := hp
      refine g_callS (As := [.int (iI r20), .int (iI r23)]) (rest := []) 2 hx hb hml hown hts hK hG hS hl.1 (mX0_less l X σ  r20 r23 (by omega) (by omega)) q379 q380 q69 q381 (by decide +kernel) rfl ⟨Nat.le_of_ble_eq_true rfl, Nat.le_of_ble_eq_true rfl⟩ ⟨Nat.le_of_ble_eq_true rfl, Nat.le_of_ble_eq_true rfl⟩ (Nat.le_of_ble_eq_true rfl) dX0_pair_65 (kI (fun r24 σr24 H locs hp hG hS => ?_))
      obtain ⟨⟨hr24, kr24⟩, rfl⟩ := hp
      exact g_iret hx hb hr hlocks hQ hG hS (Nat.zero_le _) (Nat.zero_le _) ⟨_, rfl, ⟨(by
                have e1 : hiZ a9 = (if a9 = 2 then 1 else 2) := rfl
                have e2 : loZ a9 = (if a9 = 0 then 1 else 0) := rfl
                first | rw [if_pos (by assumption)] at e1 | rw [if_neg (by assumption)] at e1
                first | rw [if_pos (by omega)] at e2 | rw [if_neg (by omega)] at e2
                unfold crsZ
                rw [e1, e2]
                first | (simp only [*]; omega) | (exfalso; omega)), (by omega)⟩, rfl⟩ dX0_pair_68
    · refine g_iconst hx hb dX0_pair_16 ?_
      refine lv_goto (tgt := 21) hx hb dX0_pair_17 (by decide) ?_
      refine lv_istore (lv' := [(5, .int (iI 1)), (4, .int (iI 1)), (0, .ref (b 0)), (1, .int (iI w)), (2, .int (iI c)), (3, .int (iI a9))]) hx hb dX0_pair_21 hl (by decide) rfl (fun ls hl => ?_)
      refine lv_aload_n hx hb dX0_pair_23 rfl (lv_at hl 2 rfl) ?_
      refine g_iconst hx hb dX0_pair_24 ?_
      refine lv_iload_n hx hb dX0_pair_25 rfl (lv_at hl 3 rfl) ?_
      refine lv_iload hx hb dX0_pair_26 (lv_at hl 1 rfl) ?_
      refine lv_iload_n hx hb dX0_pair_28 rfl (lv_at hl 4 rfl) ?_
      refine g_callV (As := [.int (iI 0), .int (iI w), .int (iI 1), .int (iI c)]) (rest := []) 4 hx hb hml hown hts hK hG hS hl.1 (mX0_rowAt l X σ b U J R hX hT 0 w 1 c (by omega) (by omega) (by omega) (by omega)) hX.c0 rfl q366 q368 qs5 q69 q369 (by decide +kernel) rfl ⟨Nat.le_of_ble_eq_true rfl, Nat.le_of_ble_eq_true rfl⟩ ⟨Nat.le_of_ble_eq_true rfl, Nat.le_of_ble_eq_true rfl⟩ (Nat.le_of_ble_eq_true rfl) dX0_pair_29 (kI (fun r25 σr25 H locs hp hG hS => ?_))
      obtain ⟨⟨hr25, kr25⟩, rfl⟩ := hp
      refine lv_aload_n hx hb dX0_pair_32 rfl (lv_at hl 2 rfl) ?_
      refine g_iconst hx hb dX0_pair_33 ?_
      refine lv_iload_n hx hb dX0_pair_34 rfl (lv_at hl 3 rfl) ?_
      refine lv_iload hx hb dX0_pair_35 (lv_at hl 0 rfl) ?_
      refine lv_iload_n hx hb dX0_pair_37 rfl (lv_at hl 4 rfl) ?_
      refine g_callV (As := [.int (iI 1), .int (iI w), .int (iI 1), .int (iI c)]) (rest := [.int (iI r25)]) 4 hx hb hml hown hts hK hG hS hl.1 (mX0_rowAt l X σ b U J R hX hT 1 w 1 c (by omega) (by omega) (by omega) (by omega)) hX.c0 rfl q366 q368 qs5 q69 q369 (by decide +kernel) rfl ⟨Nat.le_of_ble_eq_true rfl, Nat.le_of_ble_eq_true rfl⟩ ⟨Nat.le_of_ble_eq_true rfl, Nat.le_of_ble_eq_true rfl⟩ (Nat.le_of_ble_eq_true rfl) dX0_pair_38 (kI (fun r26 σr26 H locs hp hG hS => ?_))
      obtain ⟨⟨hr26, kr26⟩, rfl⟩ := hp
      refine g_callS (As := [.int (iI r25), .int (iI r26)]) (rest := []) 2 hx hb hml hown hts hK hG hS hl.1 (mX0_times l X σ  r25 r26 (by omega) (by omega)) q376 q377 q69 q378 (by decide +kernel) rfl ⟨Nat.le_of_ble_eq_true rfl, Nat.le_of_ble_eq_true rfl⟩ ⟨Nat.le_of_ble_eq_true rfl, Nat.le_of_ble_eq_true rfl⟩ (Nat.le_of_ble_eq_true rfl) dX0_pair_41 (kI (fun r27 σr27 H locs hp hG hS => ?_))
      obtain ⟨⟨hr27, kr27⟩, rfl⟩ := hp
      refine lv_aload_n hx hb dX0_pair_44 rfl (lv_at hl 2 rfl) ?_
      refine g_iconst hx hb dX0_pair_45 ?_
      refine lv_iload_n hx hb dX0_pair_46 rfl (lv_at hl 3 rfl) ?_
      refine lv_iload hx hb dX0_pair_47 (lv_at hl 0 rfl) ?_
      refine lv_iload_n hx hb dX0_pair_49 rfl (lv_at hl 4 rfl) ?_
      refine g_callV (As := [.int (iI 0), .int (iI w), .int (iI 1), .int (iI c)]) (rest := [.int (iI r27)]) 4 hx hb hml hown hts hK hG hS hl.1 (mX0_rowAt l X σ b U J R hX hT 0 w 1 c (by omega) (by omega) (by omega) (by omega)) hX.c0 rfl q366 q368 qs5 q69 q369 (by decide +kernel) rfl ⟨Nat.le_of_ble_eq_true rfl, Nat.le_of_ble_eq_true rfl⟩ ⟨Nat.le_of_ble_eq_true rfl, Nat.le_of_ble_eq_true rfl⟩ (Nat.le_of_ble_eq_true rfl) dX0_pair_50 (kI (fun r28 σr28 H locs hp hG hS => ?_))
      obtain ⟨⟨hr28, kr28⟩, rfl⟩ := hp
      refine lv_aload_n hx hb dX0_pair_53 rfl (lv_at hl 2 rfl) ?_
      refine g_iconst hx hb dX0_pair_54 ?_
      refine lv_iload_n hx hb dX0_pair_55 rfl (lv_at hl 3 rfl) ?_
      refine lv_iload hx hb dX0_pair_56 (lv_at hl 1 rfl) ?_
      refine lv_iload_n hx hb dX0_pair_58 rfl (lv_at hl 4 rfl) ?_
      refine g_callV (As := [.int (iI 1), .int (iI w), .int (iI 1), .int (iI c)]) (rest := [.int (iI r28), .int (iI r27)]) 4 hx hb hml hown hts hK hG hS hl.1 (mX0_rowAt l X σ b U J R hX hT 1 w 1 c (by omega) (by omega) (by omega) (by omega)) hX.c0 rfl q366 q368 qs5 q69 q369 (by decide +kernel) rfl ⟨Nat.le_of_ble_eq_true rfl, Nat.le_of_ble_eq_true rfl⟩ ⟨Nat.le_of_ble_eq_true rfl, Nat.le_of_ble_eq_true rfl⟩ (Nat.le_of_ble_eq_true rfl) dX0_pair_59 (kI (fun r29 σr29 H locs hp hG hS => ?_))
      obtain ⟨⟨hr29, kr29⟩, rfl⟩ := hp
      refine g_callS (As := [.int (iI r28), .int (iI r29)]) (rest := [.int (iI r27)]) 2 hx hb hml hown hts hK hG hS hl.1 (mX0_times l X σ  r28 r29 (by omega) (by omega)) q376 q377 q69 q378 (by decide +kernel) rfl ⟨Nat.le_of_ble_eq_true rfl, Nat.le_of_ble_eq_true rfl⟩ ⟨Nat.le_of_ble_eq_true rfl, Nat.le_of_ble_eq_true rfl⟩ (Nat.le_of_ble_eq_true rfl) dX0_pair_62 (kI (fun r30 σr30 H locs hp hG hS => ?_))
      obtain ⟨⟨hr30, kr30⟩, rfl⟩ := hp
      refine g_callS (As := [.int (iI r27), .int (iI r30)]) (rest := []) 2 hx hb hml hown hts hK hG hS hl.1 (mX0_less l X σ  r27 r30 (by omega) (by omega)) q379 q380 q69 q381 (by decide +kernel) rfl ⟨Nat.le_of_ble_eq_true rfl, Nat.le_of_ble_eq_true rfl⟩ ⟨Nat.le_of_ble_eq_true rfl, Nat.le_of_ble_eq_true rfl⟩ (Nat.le_of_ble_eq_true rfl) dX0_pair_65 (kI (fun r31 σr31 H locs hp hG hS => ?_))
      obtain ⟨⟨hr31, kr31⟩, rfl⟩ := hp
      exact g_iret hx hb hr hlocks hQ hG hS (Nat.zero_le _) (Nat.zero_le _) ⟨_, rfl, ⟨(by
                have e1 : hiZ a9 = (if a9 = 2 then 1 else 2) := rfl
                have e2 : loZ a9 = (if a9 = 0 then 1 else 0) := rfl
                first | rw [if_pos (by assumption)] at e1 | rw [if_neg (by assumption)] at e1
                first | rw [if_pos (by omega)] at e2 | rw [if_neg (by omega)] at e2
                unfold crsZ
                rw [e1, e2]
                first | (simp only [*]; omega) | (exfalso; omega)), (by omega)⟩, rfl⟩ dX0_pair_68

set_option maxHeartbeats 4000000 in
theorem mX0_swapped (l : Launch) (X : gX) (σ : gS) (b : Nat → Nat) (U : Nat → Int → Int) (J : Nat → Int) (R : Int → Option Nat) (hX : XW X σ b U J R) (hT : okT (U 20)) (w : Int) (o9 : Int) (c : Int) (h0 : -2147483648 ≤ w ∧ w ≤ 2147483647) (h1 : 0 ≤ o9 ∧ o9 ≤ 31) (h2 : 0 ≤ c ∧ c ≤ 31) : gMet l X yX0_swapped cX0_swapped 10 (some .int) 4 0 0 96 σ [.ref (b 0), .int (iI w), .int (iI o9), .int (iI c)] (oI (fun r σ' => (r = othZ (U 20) w o9 c ∧ (r = -7 ∨ (0 ≤ r ∧ r ≤ 31))) ∧ σ = σ')) := by
  refine gMet.of (by decide) (Nat.le_of_ble_eq_true rfl) ?_
  intro pp ee ss mm args below meth cd Q H locs ls hargs hx hb hr hlocks hml hown hnm hts hK hG hS hQ hl
  have hown : ss.vm.findClass RX0 = some mm.cls := hown
  have hl : lv_has ls 10 [(0, .ref (b 0)), (1, .int (iI w)), (2, .int (iI o9)), (3, .int (iI c))] := hl
  refine lv_aload_n hx hb dX0_swapped_0 rfl (lv_at hl 0 rfl) ?_
  refine lv_iload_n hx hb dX0_swapped_1 rfl (lv_at hl 1 rfl) ?_
  refine lv_iload_n hx hb dX0_swapped_2 rfl (lv_at hl 3 rfl) ?_
  refine g_iconst hx hb dX0_swapped_3 ?_
  refine g_callV (As := [.int (iI w), .int (iI c), .int (iI 0)]) (rest := []) 3 hx hb hml hown hts hK hG hS hl.1 (mX0_pair l X σ b U J R hX hT w c 0 (by omega) (by omega) (by omega)) hX.c0 rfl q362 q364 qs4 q69 q365 (by decide +kernel) rfl ⟨Nat.le_of_ble_eq_true rfl, Nat.le_of_ble_eq_true rfl⟩ ⟨Nat.le_of_ble_eq_true rfl, Nat.le_of_ble_eq_true rfl⟩ (Nat.le_of_ble_eq_true rfl) dX0_swapped_4 (kI (fun r1 σr1 H locs hp hG hS => ?_))
  obtain ⟨⟨hr1, kr1⟩, rfl⟩ := hp
  refine lv_istore (lv' := [(4, .int (iI r1)), (0, .ref (b 0)), (1, .int (iI w)), (2, .int (iI o9)), (3, .int (iI c))]) hx hb dX0_swapped_7 hl (by decide) rfl (fun ls hl => ?_)
  refine lv_aload_n hx hb dX0_swapped_9 rfl (lv_at hl 1 rfl) ?_
  refine lv_iload_n hx hb dX0_swapped_10 rfl (lv_at hl 2 rfl) ?_
  refine lv_iload_n hx hb dX0_swapped_11 rfl (lv_at hl 4 rfl) ?_
  refine g_iconst hx hb dX0_swapped_12 ?_
  refine g_callV (As := [.int (iI w), .int (iI c), .int (iI 1)]) (rest := []) 3 hx hb hml hown hts hK hG hS hl.1 (mX0_pair l X σ b U J R hX hT w c 1 (by omega) (by omega) (by omega)) hX.c0 rfl q362 q364 qs4 q69 q365 (by decide +kernel) rfl ⟨Nat.le_of_ble_eq_true rfl, Nat.le_of_ble_eq_true rfl⟩ ⟨Nat.le_of_ble_eq_true rfl, Nat.le_of_ble_eq_true rfl⟩ (Nat.le_of_ble_eq_true rfl) dX0_swapped_13 (kI (fun r2 σr2 H locs hp hG hS => ?_))
  obtain ⟨⟨hr2, kr2⟩, rfl⟩ := hp
  refine lv_istore (lv' := [(5, .int (iI r2)), (4, .int (iI r1)), (0, .ref (b 0)), (1, .int (iI w)), (2, .int (iI o9)), (3, .int (iI c))]) hx hb dX0_swapped_16 hl (by decide) rfl (fun ls hl => ?_)
  refine lv_aload_n hx hb dX0_swapped_18 rfl (lv_at hl 2 rfl) ?_
  refine lv_iload_n hx hb dX0_swapped_19 rfl (lv_at hl 3 rfl) ?_
  refine lv_iload_n hx hb dX0_swapped_20 rfl (lv_at hl 5 rfl) ?_
  refine g_iconst hx hb dX0_swapped_21 ?_
  refine g_callV (As := [.int (iI w), .int (iI c), .int (iI 2)]) (rest := []) 3 hx hb hml hown hts hK hG hS hl.1 (mX0_pair l X σ b U J R hX hT w c 2 (by omega) (by omega) (by omega)) hX.c0 rfl q362 q364 qs4 q69 q365 (by decide +kernel) rfl ⟨Nat.le_of_ble_eq_true rfl, Nat.le_of_ble_eq_true rfl⟩ ⟨Nat.le_of_ble_eq_true rfl, Nat.le_of_ble_eq_true rfl⟩ (Nat.le_of_ble_eq_true rfl) dX0_swapped_22 (kI (fun r3 σr3 H locs hp hG hS => ?_))
  obtain ⟨⟨hr3, kr3⟩, rfl⟩ := hp
  refine lv_istore (lv' := [(6, .int (iI r3)), (5, .int (iI r2)), (4, .int (iI r1)), (0, .ref (b 0)), (1, .int (iI w)), (2, .int (iI o9)), (3, .int (iI c))]) hx hb dX0_swapped_25 hl (by decide) rfl (fun ls hl => ?_)
  refine lv_iload_n hx hb dX0_swapped_27 rfl (lv_at hl 5 rfl) ?_
  refine g_bipush hx hb dX0_swapped_28 (by decide) ?_
  refine g_icmp_ne (tgt := 38) hx hb dX0_swapped_30 (by decide) (by omega) (by omega) (fun cq4 => ?_) (fun cq4 => ?_)
  · refine lv_iload hx hb dX0_swapped_38 (lv_at hl 1 rfl) ?_
    refine lv_iload_n hx hb dX0_swapped_40 rfl (lv_at hl 5 rfl) ?_
    refine g_callS (As := [.int (iI r2), .int (iI o9)]) (rest := []) 2 hx hb hml hown hts hK hG hS hl.1 (mX0_times l X σ  r2 o9 (by omega) (by omega)) q376 q377 q69 q378 (by decide +kernel) rfl ⟨Nat.le_of_ble_eq_true rfl, Nat.le_of_ble_eq_true rfl⟩ ⟨Nat.le_of_ble_eq_true rfl, Nat.le_of_ble_eq_true rfl⟩ (Nat.le_of_ble_eq_true rfl) dX0_swapped_41 (kI (fun r5 σr5 H locs hp hG hS => ?_))
    obtain ⟨⟨hr5, kr5⟩, rfl⟩ := hp
    refine lv_iload hx hb dX0_swapped_44 (lv_at hl 0 rfl) ?_
    refine g_iadd hx hb dX0_swapped_46 ?_
    refine g_bipush hx hb dX0_swapped_47 (by decide) ?_
    refine g_irem hx hb dX0_swapped_49 (by omega) (by omega) ?_
    refine lv_istore (lv' := [(7, .int (iI ((r5 + r3) % 31))), (6, .int (iI r3)), (5, .int (iI r2)), (4, .int (iI r1)), (0, .ref (b 0)), (1, .int (iI w)), (2, .int (iI o9)), (3, .int (iI c))]) hx hb dX0_swapped_50 hl (by decide) rfl (fun ls hl => ?_)
    refine lv_iload_n hx hb dX0_swapped_52 rfl (lv_at hl 6 rfl) ?_
    refine g_bipush hx hb dX0_swapped_53 (by decide) ?_
    refine g_icmp_ne (tgt := 63) hx hb dX0_swapped_55 (by decide) (by omega) (by omega) (fun cq6 => ?_) (fun cq6 => by omega)
    refine lv_iload hx hb dX0_swapped_63 (lv_at hl 3 rfl) ?_
    refine lv_iload_n hx hb dX0_swapped_65 rfl (lv_at hl 6 rfl) ?_
    refine g_callS (As := [.int (iI r1), .int (iI o9)]) (rest := []) 2 hx hb hml hown hts hK hG hS hl.1 (mX0_times l X σ  r1 o9 (by omega) (by omega)) q376 q377 q69 q378 (by decide +kernel) rfl ⟨Nat.le_of_ble_eq_true rfl, Nat.le_of_ble_eq_true rfl⟩ ⟨Nat.le_of_ble_eq_true rfl, Nat.le_of_ble_eq_true rfl⟩ (Nat.le_of_ble_eq_true rfl) dX0_swapped_66 (kI (fun r7 σr7 H locs hp hG hS => ?_))
    obtain ⟨⟨hr7, kr7⟩, rfl⟩ := hp
    refine lv_iload hx hb dX0_swapped_69 (lv_at hl 2 rfl) ?_
    refine g_iadd hx hb dX0_swapped_71 ?_
    refine g_bipush hx hb dX0_swapped_72 (by decide) ?_
    refine g_irem hx hb dX0_swapped_74 (by omega) (by omega) ?_
    refine lv_istore (lv' := [(8, .int (iI ((r7 + r2) % 31))), (7, .int (iI ((r5 + r3) % 31))), (6, .int (iI r3)), (5, .int (iI r2)), (4, .int (iI r1)), (0, .ref (b 0)), (1, .int (iI w)), (2, .int (iI o9)), (3, .int (iI c))]) hx hb dX0_swapped_75 hl (by decide) rfl (fun ls hl => ?_)
    refine g_iconst hx hb dX0_swapped_77 ?_
    refine lv_iload hx hb dX0_swapped_78 (lv_at hl 1 rfl) ?_
    refine g_callS (As := [.int (iI 0), .int (iI ((r5 + r3) % 31))]) (rest := []) 2 hx hb hml hown hts hK hG hS hl.1 (mX0_less l X σ  0 ((r5 + r3) % 31) (by omega) (by omega)) q379 q380 q69 q381 (by decide +kernel) rfl ⟨Nat.le_of_ble_eq_true rfl, Nat.le_of_ble_eq_true rfl⟩ ⟨Nat.le_of_ble_eq_true rfl, Nat.le_of_ble_eq_true rfl⟩ (Nat.le_of_ble_eq_true rfl) dX0_swapped_80 (kI (fun r8 σr8 H locs hp hG hS => ?_))
    obtain ⟨⟨hr8, kr8⟩, rfl⟩ := hp
    refine lv_iload hx hb dX0_swapped_83 (lv_at hl 0 rfl) ?_
    refine g_callS (As := [.int (iI r8), .int (iI ((r7 + r2) % 31))]) (rest := []) 2 hx hb hml hown hts hK hG hS hl.1 (mX0_by l X σ  r8 ((r7 + r2) % 31) (by omega) (by omega)) q382 q383 q69 q384 (by decide +kernel) rfl ⟨Nat.le_of_ble_eq_true rfl, Nat.le_of_ble_eq_true rfl⟩ ⟨Nat.le_of_ble_eq_true rfl, Nat.le_of_ble_eq_true rfl⟩ (Nat.le_of_ble_eq_true rfl) dX0_swapped_85 (kI (fun r9 σr9 H locs hp hG hS => ?_))
    obtain ⟨⟨hr9, kr9⟩, rfl⟩ := hp
    refine lv_istore (lv' := [(9, .int (iI r9)), (8, .int (iI ((r7 + r2) % 31))), (7, .int (iI ((r5 + r3) % 31))), (6, .int (iI r3)), (5, .int (iI r2)), (4, .int (iI r1)), (0, .ref (b 0)), (1, .int (iI w)), (2, .int (iI o9)), (3, .int (iI c))]) hx hb dX0_swapped_88 hl (by decide) rfl (fun ls hl => ?_)
    refine lv_iload hx hb dX0_swapped_90 (lv_at hl 0 rfl) ?_
    refine g_bipush hx hb dX0_swapped_92 (by decide) ?_
    refine g_icmp_ne (tgt := 102) hx hb dX0_swapped_94 (by decide) (by omega) (by omega) (fun cq10 => ?_) (fun cq10 => ?_)
    · refine lv_iload hx hb dX0_swapped_102 (lv_at hl 0 rfl) ?_
      exact g_iret hx hb hr hlocks hQ hG hS (Nat.zero_le _) (Nat.zero_le _) ⟨_, rfl, ⟨(by
                have e1 : othB (U 20) w o9 c = r9 := by
                  unfold othB
                  first | rw [if_pos (by assumption)] | rw [if_neg (by assumption)]
                  rw [hr9, hr8]
                  all_goals (congr 1 <;> first | done | (simp only [*] at *; omega) | (simp only [*] at *; done))
                unfold othZ
                rw [e1]
                first | rw [if_pos (by omega)] | rw [if_neg (by omega)]), (by omega)⟩, rfl⟩ dX0_swapped_104
    · refine g_bipush hx hb dX0_swapped_97 (by decide) ?_
      refine lv_goto (tgt := 104) hx hb dX0_swapped_99 (by decide) ?_
      exact g_iret hx hb hr hlocks hQ hG hS (Nat.zero_le _) (Nat.zero_le _) ⟨_, rfl, ⟨(by
                have e1 : othB (U 20) w o9 c = r9 := by
                  unfold othB
                  first | rw [if_pos (by assumption)] | rw [if_neg (by assumption)]
                  rw [hr9, hr8]
                  all_goals (congr 1 <;> first | done | (simp only [*] at *; omega) | (simp only [*] at *; done))
                unfold othZ
                rw [e1]
                first | rw [if_pos (by omega)] | rw [if_neg (by omega)]), (by omega)⟩, rfl⟩ dX0_swapped_104
  · refine lv_iload hx hb dX0_swapped_33 (lv_at hl 1 rfl) ?_
    refine lv_goto (tgt := 50) hx hb dX0_swapped_35 (by decide) ?_
    refine lv_istore (lv' := [(7, .int (iI r2)), (6, .int (iI r3)), (5, .int (iI r2)), (4, .int (iI r1)), (0, .ref (b 0)), (1, .int (iI w)), (2, .int (iI o9)), (3, .int (iI c))]) hx hb dX0_swapped_50 hl (by decide) rfl (fun ls hl => ?_)
    refine lv_iload_n hx hb dX0_swapped_52 rfl (lv_at hl 6 rfl) ?_
    refine g_bipush hx hb dX0_swapped_53 (by decide) ?_
    refine g_icmp_ne (tgt := 63) hx hb dX0_swapped_55 (by decide) (by omega) (by omega) (fun cq11 => by omega) (fun cq11 => ?_)
    refine lv_iload hx hb dX0_swapped_58 (lv_at hl 3 rfl) ?_
    refine lv_goto (tgt := 75) hx hb dX0_swapped_60 (by decide) ?_
    refine lv_istore (lv' := [(8, .int (iI r1)), (7, .int (iI r2)), (6, .int (iI r3)), (5, .int (iI r2)), (4, .int (iI r1)), (0, .ref (b 0)), (1, .int (iI w)), (2, .int (iI o9)), (3, .int (iI c))]) hx hb dX0_swapped_75 hl (by decide) rfl (fun ls hl => ?_)
    refine g_iconst hx hb dX0_swapped_77 ?_
    refine lv_iload hx hb dX0_swapped_78 (lv_at hl 1 rfl) ?_
    refine g_callS (As := [.int (iI 0), .int (iI r2)]) (rest := []) 2 hx hb hml hown hts hK hG hS hl.1 (mX0_less l X σ  0 r2 (by omega) (by omega)) q379 q380 q69 q381 (by decide +kernel) rfl ⟨Nat.le_of_ble_eq_true rfl, Nat.le_of_ble_eq_true rfl⟩ ⟨Nat.le_of_ble_eq_true rfl, Nat.le_of_ble_eq_true rfl⟩ (Nat.le_of_ble_eq_true rfl) dX0_swapped_80 (kI (fun r12 σr12 H locs hp hG hS => ?_))
    obtain ⟨⟨hr12, kr12⟩, rfl⟩ := hp
    refine lv_iload hx hb dX0_swapped_83 (lv_at hl 0 rfl) ?_
    refine g_callS (As := [.int (iI r12), .int (iI r1)]) (rest := []) 2 hx hb hml hown hts hK hG hS hl.1 (mX0_by l X σ  r12 r1 (by omega) (by omega)) q382 q383 q69 q384 (by decide +kernel) rfl ⟨Nat.le_of_ble_eq_true rfl, Nat.le_of_ble_eq_true rfl⟩ ⟨Nat.le_of_ble_eq_true rfl, Nat.le_of_ble_eq_true rfl⟩ (Nat.le_of_ble_eq_true rfl) dX0_swapped_85 (kI (fun r13 σr13 H locs hp hG hS => ?_))
    obtain ⟨⟨hr13, kr13⟩, rfl⟩ := hp
    refine lv_istore (lv' := [(9, .int (iI r13)), (8, .int (iI r1)), (7, .int (iI r2)), (6, .int (iI r3)), (5, .int (iI r2)), (4, .int (iI r1)), (0, .ref (b 0)), (1, .int (iI w)), (2, .int (iI o9)), (3, .int (iI c))]) hx hb dX0_swapped_88 hl (by decide) rfl (fun ls hl => ?_)
    refine lv_iload hx hb dX0_swapped_90 (lv_at hl 0 rfl) ?_
    refine g_bipush hx hb dX0_swapped_92 (by decide) ?_
    refine g_icmp_ne (tgt := 102) hx hb dX0_swapped_94 (by decide) (by omega) (by omega) (fun cq14 => ?_) (fun cq14 => ?_)
    · refine lv_iload hx hb dX0_swapped_102 (lv_at hl 0 rfl) ?_
      exact g_iret hx hb hr hlocks hQ hG hS (Nat.zero_le _) (Nat.zero_le _) ⟨_, rfl, ⟨(by
                have e1 : othB (U 20) w o9 c = r13 := by
                  unfold othB
                  first | rw [if_pos (by assumption)] | rw [if_neg (by assumption)]
                  rw [hr13, hr12]
                  all_goals (congr 1 <;> first | done | (simp only [*] at *; omega) | (simp only [*] at *; done))
                unfold othZ
                rw [e1]
                first | rw [if_pos (by omega)] | rw [if_neg (by omega)]), (by omega)⟩, rfl⟩ dX0_swapped_104
    · refine g_bipush hx hb dX0_swapped_97 (by decide) ?_
      refine lv_goto (tgt := 104) hx hb dX0_swapped_99 (by decide) ?_
      exact g_iret hx hb hr hlocks hQ hG hS (Nat.zero_le _) (Nat.zero_le _) ⟨_, rfl, ⟨(by
                have e1 : othB (U 20) w o9 c = r13 := by
                  unfold othB
                  first | rw [if_pos (by assumption)] | rw [if_neg (by assumption)]
                  rw [hr13, hr12]
                  all_goals (congr 1 <;> first | done | (simp only [*] at *; omega) | (simp only [*] at *; done))
                unfold othZ
                rw [e1]
                first | rw [if_pos (by omega)] | rw [if_neg (by omega)]), (by omega)⟩, rfl⟩ dX0_swapped_104

set_option maxHeartbeats 4000000 in
theorem mX0_swap (l : Launch) (X : gX) (σ : gS) (b : Nat → Nat) (U : Nat → Int → Int) (J : Nat → Int) (R : Int → Option Nat) (hX : XW X σ b U J R) (hT : okT (U 20)) (w : Int) (x : Int) (y : Int) (h0 : -2147483648 ≤ w ∧ w ≤ 2147483647) (h1 : -2147483648 ≤ x ∧ x ≤ 2147483647) (h2 : -2147483648 ≤ y ∧ y ≤ 2147483647) : gMet l X yX0_swap cX0_swap 4 (some .int) 5 0 0 125 σ [.ref (b 0), .int (iI w), .int (iI x), .int (iI y)] (oI (fun r σ' => r = (if (0 ≤ w ∧ w ≤ 1) ∧ okSp x y then (if w = 0 then othZ (U 20) 0 x y else othZ (U 20) 1 y x) else -1) ∧ σ = σ')) := by
  refine gMet.of (by decide) (Nat.le_of_ble_eq_true rfl) ?_
  intro pp ee ss mm args below meth cd Q H locs ls hargs hx hb hr hlocks hml hown hnm hts hK hG hS hQ hl
  have hown : ss.vm.findClass RX0 = some mm.cls := hown
  have hl : lv_has ls 4 [(0, .ref (b 0)), (1, .int (iI w)), (2, .int (iI x)), (3, .int (iI y))] := hl
  refine lv_iload_n hx hb dX0_swap_0 rfl (lv_at hl 1 rfl) ?_
  refine g_callS (As := [.int (iI w)]) (rest := []) 1 hx hb hml hown hts hK hG hS hl.1 (mX0_isWhich l X σ  w (by omega)) q614 q615 q69 q616 (by decide +kernel) rfl ⟨Nat.le_of_ble_eq_true rfl, Nat.le_of_ble_eq_true rfl⟩ ⟨Nat.le_of_ble_eq_true rfl, Nat.le_of_ble_eq_true rfl⟩ (Nat.le_of_ble_eq_true rfl) dX0_swap_1 (kI (fun r1 σr1 H locs hp hG hS => ?_))
  obtain ⟨hr1, rfl⟩ := hp
  refine g_if_eq (tgt := 15) hx hb dX0_swap_4 (by decide) (by omega) (fun cq2 => ?_) (fun cq2 => ?_)
  · refine g_iconst hx hb dX0_swap_15 ?_
    exact g_iret hx hb hr hlocks hQ hG hS (Nat.zero_le _) (Nat.zero_le _) ⟨_, rfl, (by rw [if_neg (by omega)]), rfl⟩ dX0_swap_16
  · refine lv_iload_n hx hb dX0_swap_7 rfl (lv_at hl 2 rfl) ?_
    refine lv_iload_n hx hb dX0_swap_8 rfl (lv_at hl 3 rfl) ?_
    refine g_callS (As := [.int (iI x), .int (iI y)]) (rest := []) 2 hx hb hml hown hts hK hG hS hl.1 (mX0_isSpot l X σ  x y (by omega) (by omega)) q591 q592 q69 q593 (by decide +kernel) rfl ⟨Nat.le_of_ble_eq_true rfl, Nat.le_of_ble_eq_true rfl⟩ ⟨Nat.le_of_ble_eq_true rfl, Nat.le_of_ble_eq_true rfl⟩ (Nat.le_of_ble_eq_true rfl) dX0_swap_9 (kI (fun r3 σr3 H locs hp hG hS => ?_))
    obtain ⟨hr3, rfl⟩ := hp
    refine g_if_ne (tgt := 17) hx hb dX0_swap_12 (by decide) (by omega) (fun cq4 => ?_) (fun cq4 => ?_)
    · refine lv_iload_n hx hb dX0_swap_17 rfl (lv_at hl 1 rfl) ?_
      refine g_if_ne (tgt := 31) hx hb dX0_swap_18 (by decide) (by omega) (fun cq5 => ?_) (fun cq5 => ?_)
      · refine lv_aload_n hx hb dX0_swap_31 rfl (lv_at hl 0 rfl) ?_
        refine g_iconst hx hb dX0_swap_32 ?_
        refine lv_iload_n hx hb dX0_swap_33 rfl (lv_at hl 3 rfl) ?_
        refine lv_iload_n hx hb dX0_swap_34 rfl (lv_at hl 2 rfl) ?_
        refine g_callV (As := [.int (iI 1), .int (iI y), .int (iI x)]) (rest := []) 3 hx hb hml hown hts hK hG hS hl.1 (mX0_swapped l X σ b U J R hX hT 1 y x (by omega) (by omega) (by omega)) hX.c0 rfl q358 q360 qs3 q69 q361 (by decide +kernel) rfl ⟨Nat.le_of_ble_eq_true rfl, Nat.le_of_ble_eq_true rfl⟩ ⟨Nat.le_of_ble_eq_true rfl, Nat.le_of_ble_eq_true rfl⟩ (Nat.le_of_ble_eq_true rfl) dX0_swap_35 (kI (fun r6 σr6 H locs hp hG hS => ?_))
        obtain ⟨⟨hr6, kr6⟩, rfl⟩ := hp
        exact g_iret hx hb hr hlocks hQ hG hS (Nat.zero_le _) (Nat.zero_le _) ⟨_, rfl, (by rw [if_pos (by omega), if_neg (by omega), hr6]), rfl⟩ dX0_swap_38
      · refine lv_aload_n hx hb dX0_swap_21 rfl (lv_at hl 0 rfl) ?_
        refine g_iconst hx hb dX0_swap_22 ?_
        refine lv_iload_n hx hb dX0_swap_23 rfl (lv_at hl 2 rfl) ?_
        refine lv_iload_n hx hb dX0_swap_24 rfl (lv_at hl 3 rfl) ?_
        refine g_callV (As := [.int (iI 0), .int (iI x), .int (iI y)]) (rest := []) 3 hx hb hml hown hts hK hG hS hl.1 (mX0_swapped l X σ b U J R hX hT 0 x y (by omega) (by omega) (by omega)) hX.c0 rfl q358 q360 qs3 q69 q361 (by decide +kernel) rfl ⟨Nat.le_of_ble_eq_true rfl, Nat.le_of_ble_eq_true rfl⟩ ⟨Nat.le_of_ble_eq_true rfl, Nat.le_of_ble_eq_true rfl⟩ (Nat.le_of_ble_eq_true rfl) dX0_swap_25 (kI (fun r7 σr7 H locs hp hG hS => ?_))
        obtain ⟨⟨hr7, kr7⟩, rfl⟩ := hp
        refine lv_goto (tgt := 38) hx hb dX0_swap_28 (by decide) ?_
        exact g_iret hx hb hr hlocks hQ hG hS (Nat.zero_le _) (Nat.zero_le _) ⟨_, rfl, (by rw [if_pos (by omega), if_pos (by omega), hr7]), rfl⟩ dX0_swap_38
    · refine g_iconst hx hb dX0_swap_15 ?_
      exact g_iret hx hb hr hlocks hQ hG hS (Nat.zero_le _) (Nat.zero_le _) ⟨_, rfl, (by rw [if_neg (by omega)]), rfl⟩ dX0_swap_16

set_option maxHeartbeats 4000000 in
theorem mX0_row (l : Launch) (X : gX) (σ : gS) (b : Nat → Nat) (U : Nat → Int → Int) (J : Nat → Int) (R : Int → Option Nat) (hX : XW X σ b U J R) (hT : okT (U 20)) (w : Int) (c : Int) (a9 : Int) (h0 : -2147483648 ≤ w ∧ w ≤ 2147483647) (h1 : -2147483648 ≤ c ∧ c ≤ 2147483647) (h2 : -2147483648 ≤ a9 ∧ a9 ≤ 2147483647) : gMet l X yX0_row cX0_row 4 (some .int) 4 0 0 96 σ [.ref (b 0), .int (iI w), .int (iI c), .int (iI a9)] (oI (fun r σ' => r = (if (0 ≤ w ∧ w ≤ 1) ∧ (0 ≤ c ∧ c ≤ 31) ∧ (0 ≤ a9 ∧ a9 ≤ 2) then crsZ (U 20) w c a9 else -1) ∧ σ = σ')) := by
  refine gMet.of (by decide) (Nat.le_of_ble_eq_true rfl) ?_
  intro pp ee ss mm args below meth cd Q H locs ls hargs hx hb hr hlocks hml hown hnm hts hK hG hS hQ hl
  have hown : ss.vm.findClass RX0 = some mm.cls := hown
  have hl : lv_has ls 4 [(0, .ref (b 0)), (1, .int (iI w)), (2, .int (iI c)), (3, .int (iI a9))] := hl
  refine lv_iload_n hx hb dX0_row_0 rfl (lv_at hl 1 rfl) ?_
  refine g_callS (As := [.int (iI w)]) (rest := []) 1 hx hb hml hown hts hK hG hS hl.1 (mX0_isWhich l X σ  w (by omega)) q614 q615 q69 q616 (by decide +kernel) rfl ⟨Nat.le_of_ble_eq_true rfl, Nat.le_of_ble_eq_true rfl⟩ ⟨Nat.le_of_ble_eq_true rfl, Nat.le_of_ble_eq_true rfl⟩ (Nat.le_of_ble_eq_true rfl) dX0_row_1 (kI (fun r1 σr1 H locs hp hG hS => ?_))
  obtain ⟨hr1, rfl⟩ := hp
  refine g_if_eq (tgt := 36) hx hb dX0_row_4 (by decide) (by omega) (fun cq2 => ?_) (fun cq2 => ?_)
  · refine g_iconst hx hb dX0_row_36 ?_
    exact g_iret hx hb hr hlocks hQ hG hS (Nat.zero_le _) (Nat.zero_le _) ⟨_, rfl, (by first | (rw [if_pos (by omega)]; assumption) | rw [if_neg (by omega)]), rfl⟩ dX0_row_37
  · refine lv_iload_n hx hb dX0_row_7 rfl (lv_at hl 2 rfl) ?_
    refine g_callS (As := [.int (iI c)]) (rest := []) 1 hx hb hml hown hts hK hG hS hl.1 (mX0_isCoordinate l X σ  c (by omega)) q594 q595 q69 q596 (by decide +kernel) rfl ⟨Nat.le_of_ble_eq_true rfl, Nat.le_of_ble_eq_true rfl⟩ ⟨Nat.le_of_ble_eq_true rfl, Nat.le_of_ble_eq_true rfl⟩ (Nat.le_of_ble_eq_true rfl) dX0_row_8 (kI (fun r3 σr3 H locs hp hG hS => ?_))
    obtain ⟨hr3, rfl⟩ := hp
    refine g_if_eq (tgt := 36) hx hb dX0_row_11 (by decide) (by omega) (fun cq4 => ?_) (fun cq4 => ?_)
    · refine g_iconst hx hb dX0_row_36 ?_
      exact g_iret hx hb hr hlocks hQ hG hS (Nat.zero_le _) (Nat.zero_le _) ⟨_, rfl, (by first | (rw [if_pos (by omega)]; assumption) | rw [if_neg (by omega)]), rfl⟩ dX0_row_37
    · refine lv_iload_n hx hb dX0_row_14 rfl (lv_at hl 3 rfl) ?_
      refine g_i2l hx hb dX0_row_15 (by omega) ?_
      refine lv_lconst (v := lI 0) hx hb dX0_row_16 (by decide) ?_
      refine g_ldc2 hx hb (2) hown (hts _ q500) (by decide) dX0_row_17 ?_
      refine g_callS (As := [.long (lI a9), .long (lI 0), .long (lI (2))]) (rest := []) 3 hx hb hml hown hts hK hG hS hl.1 (mX0_isIn l X σ  a9 0 (2) (by omega) (by omega) (by omega)) q494 q495 q69 q496 (by decide +kernel) rfl ⟨Nat.le_of_ble_eq_true rfl, Nat.le_of_ble_eq_true rfl⟩ ⟨Nat.le_of_ble_eq_true rfl, Nat.le_of_ble_eq_true rfl⟩ (Nat.le_of_ble_eq_true rfl) dX0_row_20 (kI (fun r5 σr5 H locs hp hG hS => ?_))
      obtain ⟨hr5, rfl⟩ := hp
      refine g_if_eq (tgt := 36) hx hb dX0_row_23 (by decide) (by omega) (fun cq6 => ?_) (fun cq6 => ?_)
      · refine g_iconst hx hb dX0_row_36 ?_
        exact g_iret hx hb hr hlocks hQ hG hS (Nat.zero_le _) (Nat.zero_le _) ⟨_, rfl, (by first | (rw [if_pos (by omega)]; assumption) | rw [if_neg (by omega)]), rfl⟩ dX0_row_37
      · refine lv_aload_n hx hb dX0_row_26 rfl (lv_at hl 0 rfl) ?_
        refine lv_iload_n hx hb dX0_row_27 rfl (lv_at hl 1 rfl) ?_
        refine lv_iload_n hx hb dX0_row_28 rfl (lv_at hl 2 rfl) ?_
        refine lv_iload_n hx hb dX0_row_29 rfl (lv_at hl 3 rfl) ?_
        refine g_callV (As := [.int (iI w), .int (iI c), .int (iI a9)]) (rest := []) 3 hx hb hml hown hts hK hG hS hl.1 (mX0_pair l X σ b U J R hX hT w c a9 (by omega) (by omega) (by omega)) hX.c0 rfl q362 q364 qs4 q69 q365 (by decide +kernel) rfl ⟨Nat.le_of_ble_eq_true rfl, Nat.le_of_ble_eq_true rfl⟩ ⟨Nat.le_of_ble_eq_true rfl, Nat.le_of_ble_eq_true rfl⟩ (Nat.le_of_ble_eq_true rfl) dX0_row_30 (kI (fun r7 σr7 H locs hp hG hS => ?_))
        obtain ⟨⟨hr7, kr7⟩, rfl⟩ := hp
        refine lv_goto (tgt := 37) hx hb dX0_row_33 (by decide) ?_
        exact g_iret hx hb hr hlocks hQ hG hS (Nat.zero_le _) (Nat.zero_le _) ⟨_, rfl, (by first | (rw [if_pos (by omega)]; assumption) | rw [if_neg (by omega)]), rfl⟩ dX0_row_37

set_option maxHeartbeats 4000000 in
theorem mX0_pinched (l : Launch) (X : gX) (σ : gS) (b : Nat → Nat) (U : Nat → Int → Int) (J : Nat → Int) (R : Int → Option Nat) (hX : XW X σ b U J R) (hT : okT (U 20)) (w : Int) (h0 : -2147483648 ≤ w ∧ w ≤ 2147483647) : gMet l X yX0_pinched cX0_pinched 6 (some .long) 4 0 0 96 σ [.ref (b 0), .int (iI w)] (oL (fun r σ' => r = (if 0 ≤ w ∧ w ≤ 1 then pinA (U 20) w 32 else noL) ∧ σ = σ')) := by
  refine gMet.of (by decide) (Nat.le_of_ble_eq_true rfl) ?_
  intro pp ee ss mm args below meth cd Q H locs ls hargs hx hb hr hlocks hml hown hnm hts hK hG hS hQ hl
  have hown : ss.vm.findClass RX0 = some mm.cls := hown
  have hl : lv_has ls 6 [(0, .ref (b 0)), (1, .int (iI w))] := hl
  refine lv_iload_n hx hb dX0_pinched_0 rfl (lv_at hl 1 rfl) ?_
  refine g_callS (As := [.int (iI w)]) (rest := []) 1 hx hb hml hown hts hK hG hS hl.1 (mX0_isWhich l X σ  w (by omega)) q614 q615 q69 q616 (by decide +kernel) rfl ⟨Nat.le_of_ble_eq_true rfl, Nat.le_of_ble_eq_true rfl⟩ ⟨Nat.le_of_ble_eq_true rfl, Nat.le_of_ble_eq_true rfl⟩ (Nat.le_of_ble_eq_true rfl) dX0_pinched_1 (kI (fun r1 σr1 H locs hp hG hS => ?_))
  obtain ⟨hr1, rfl⟩ := hp
  refine g_if_ne (tgt := 11) hx hb dX0_pinched_4 (by decide) (by omega) (fun cq2 => ?_) (fun cq2 => ?_)
  · refine lv_lconst (v := lI 0) hx hb dX0_pinched_11 (by decide) ?_
    refine lv_lstore_n (lv' := [(2, .long (lI 0)), (0, .ref (b 0)), (1, .int (iI w))]) hx hb dX0_pinched_12 rfl hl (by decide) rfl (fun ls hl => ?_)
    refine g_iconst hx hb dX0_pinched_13 ?_
    refine lv_istore (lv' := [(4, .int (iI 0)), (2, .long (lI 0)), (0, .ref (b 0)), (1, .int (iI w))]) hx hb dX0_pinched_14 hl (by decide) rfl (fun ls hl => ?_)
    have loop_16 : ∀ (nF : Nat) (set9 : Int64) (c9 : Int) (k : Nat), (32 - k : Nat) < nF → (c9 = (k : Int)) → (k ≤ 32) → (set9 = pinA (U 20) w k) → ∀ (H : Heap) (locs : List Loc) (ls : Array Slot), gSat X σ H → va_S (gA X) ss.heap H locs → lv_has ls 6 [(4, .int (iI c9)), (2, .long set9), (0, .ref (b 0)), (1, .int (iI w))] → W pp l ee (gR 4 0 0 96) ss mm args below meth cd H locs 0 0 Q (F0 mm 16 ls []) := by
      intro nF
      induction nF with
      | zero => intro set9 c9 k hm; exact absurd hm (Nat.not_lt_zero _)
      | succ nF ih_16 =>
        intro set9 c9 k hm hi16_0 hi16_1 hi16_2 H locs ls hG hS hl
        refine lv_iload hx hb dX0_pinched_16 (lv_at hl 0 rfl) ?_
        refine g_bipush hx hb dX0_pinched_18 (by decide) ?_
        refine g_icmp_ge (tgt := 79) hx hb dX0_pinched_20 (by decide) (by omega) (by omega) (fun cq3 => ?_) (fun cq3 => ?_)
        · refine lv_lload_n hx hb dX0_pinched_79 rfl (lv_at hl 1 rfl) ?_
          exact g_lret hx hb hr hlocks hQ hG hS (Nat.zero_le _) (Nat.zero_le _) ⟨_, rfl, (by rw [if_pos (by omega), hi16_2, show k = 32 by omega]), rfl⟩ dX0_pinched_80
        · refine lv_aload_n hx hb dX0_pinched_23 rfl (lv_at hl 2 rfl) ?_
          refine lv_iload_n hx hb dX0_pinched_24 rfl (lv_at hl 3 rfl) ?_
          refine lv_iload hx hb dX0_pinched_25 (lv_at hl 0 rfl) ?_
          refine g_iconst hx hb dX0_pinched_27 ?_
          refine g_callV (As := [.int (iI w), .int (iI c9), .int (iI 1)]) (rest := []) 3 hx hb hml hown hts hK hG hS hl.1 (mX0_pair l X σ b U J R hX hT w c9 1 (by omega) (by omega) (by omega)) hX.c0 rfl q362 q364 qs4 q69 q365 (by decide +kernel) rfl ⟨Nat.le_of_ble_eq_true rfl, Nat.le_of_ble_eq_true rfl⟩ ⟨Nat.le_of_ble_eq_true rfl, Nat.le_of_ble_eq_true rfl⟩ (Nat.le_of_ble_eq_true rfl) dX0_pinched_28 (kI (fun r4 σr4 H locs hp hG hS => ?_))
          obtain ⟨⟨hr4, kr4⟩, rfl⟩ := hp
          refine lv_istore (lv' := [(5, .int (iI r4)), (4, .int (iI c9)), (2, .long set9), (0, .ref (b 0)), (1, .int (iI w))]) hx hb dX0_pinched_31 hl (by decide) rfl (fun ls hl => ?_)
          refine lv_lload_n hx hb dX0_pinched_33 rfl (lv_at hl 2 rfl) ?_
          refine lv_iload hx hb dX0_pinched_34 (lv_at hl 0 rfl) ?_
          refine lv_iload hx hb dX0_pinched_36 (lv_at hl 0 rfl) ?_
          refine g_callS (As := [.int (iI r4), .int (iI r4)]) (rest := [.long set9]) 2 hx hb hml hown hts hK hG hS hl.1 (mX0_times l X σ  r4 r4 (by omega) (by omega)) q376 q377 q69 q378 (by decide +kernel) rfl ⟨Nat.le_of_ble_eq_true rfl, Nat.le_of_ble_eq_true rfl⟩ ⟨Nat.le_of_ble_eq_true rfl, Nat.le_of_ble_eq_true rfl⟩ (Nat.le_of_ble_eq_true rfl) dX0_pinched_38 (kI (fun r5 σr5 H locs hp hG hS => ?_))
          obtain ⟨⟨hr5, kr5⟩, rfl⟩ := hp
          refine lv_aload_n hx hb dX0_pinched_41 rfl (lv_at hl 3 rfl) ?_
          refine lv_iload_n hx hb dX0_pinched_42 rfl (lv_at hl 4 rfl) ?_
          refine lv_iload hx hb dX0_pinched_43 (lv_at hl 1 rfl) ?_
          refine g_iconst hx hb dX0_pinched_45 ?_
          refine g_callV (As := [.int (iI w), .int (iI c9), .int (iI 0)]) (rest := [.int (iI r5), .long set9]) 3 hx hb hml hown hts hK hG hS hl.1 (mX0_pair l X σ b U J R hX hT w c9 0 (by omega) (by omega) (by omega)) hX.c0 rfl q362 q364 qs4 q69 q365 (by decide +kernel) rfl ⟨Nat.le_of_ble_eq_true rfl, Nat.le_of_ble_eq_true rfl⟩ ⟨Nat.le_of_ble_eq_true rfl, Nat.le_of_ble_eq_true rfl⟩ (Nat.le_of_ble_eq_true rfl) dX0_pinched_46 (kI (fun r6 σr6 H locs hp hG hS => ?_))
          obtain ⟨⟨hr6, kr6⟩, rfl⟩ := hp
          refine lv_aload_n hx hb dX0_pinched_49 rfl (lv_at hl 3 rfl) ?_
          refine lv_iload_n hx hb dX0_pinched_50 rfl (lv_at hl 4 rfl) ?_
          refine lv_iload hx hb dX0_pinched_51 (lv_at hl 1 rfl) ?_
          refine g_iconst hx hb dX0_pinched_53 ?_
          refine g_callV (As := [.int (iI w), .int (iI c9), .int (iI 2)]) (rest := [.int (iI r6), .int (iI r5), .long set9]) 3 hx hb hml hown hts hK hG hS hl.1 (mX0_pair l X σ b U J R hX hT w c9 2 (by omega) (by omega) (by omega)) hX.c0 rfl q362 q364 qs4 q69 q365 (by decide +kernel) rfl ⟨Nat.le_of_ble_eq_true rfl, Nat.le_of_ble_eq_true rfl⟩ ⟨Nat.le_of_ble_eq_true rfl, Nat.le_of_ble_eq_true rfl⟩ (Nat.le_of_ble_eq_true rfl) dX0_pinched_54 (kI (fun r7 σr7 H locs hp hG hS => ?_))
          obtain ⟨⟨hr7, kr7⟩, rfl⟩ := hp
          refine g_callS (As := [.int (iI r6), .int (iI r7)]) (rest := [.int (iI r5), .long set9]) 2 hx hb hml hown hts hK hG hS hl.1 (mX0_times l X σ  r6 r7 (by omega) (by omega)) q376 q377 q69 q378 (by decide +kernel) rfl ⟨Nat.le_of_ble_eq_true rfl, Nat.le_of_ble_eq_true rfl⟩ ⟨Nat.le_of_ble_eq_true rfl, Nat.le_of_ble_eq_true rfl⟩ (Nat.le_of_ble_eq_true rfl) dX0_pinched_57 (kI (fun r8 σr8 H locs hp hG hS => ?_))
          obtain ⟨⟨hr8, kr8⟩, rfl⟩ := hp
          refine g_icmp_ne (tgt := 70) hx hb dX0_pinched_60 (by decide) (by omega) (by omega) (fun cq9 => ?_) (fun cq9 => ?_)
          · refine lv_lconst (v := lI 0) hx hb dX0_pinched_70 (by decide) ?_
            refine lv_lor hx hb dX0_pinched_71 ?_
            refine lv_lstore_n (lv' := [(2, .long (set9 ||| (lI 0))), (5, .int (iI r4)), (4, .int (iI c9)), (0, .ref (b 0)), (1, .int (iI w))]) hx hb dX0_pinched_72 rfl hl (by decide) rfl (fun ls hl => ?_)
            refine g_iinc (lv' := [(4, .int (iI (c9 + 1))), (2, .long (set9 ||| (lI 0))), (5, .int (iI r4)), (0, .ref (b 0)), (1, .int (iI w))]) hx hb dX0_pinched_73 hl (k := 2) rfl (by decide) rfl (fun ls hl => ?_)
            refine lv_goto (tgt := 16) hx hb dX0_pinched_76 (by decide) ?_
            exact ih_16 (set9 ||| (lI 0)) (c9 + 1) (k + 1) (by omega) (by omega) (by omega) (by rw [hi16_2, pinA]; subst hi16_0; first | rw [if_pos (by simp only [*] at *; omega)] | rw [if_neg (by simp only [*] at *; omega)])  _ _ _ hG hS (lv_sub hl [0, 1, 3, 4] rfl)
          · refine lv_lconst (v := lI 1) hx hb dX0_pinched_63 (by decide) ?_
            refine lv_iload hx hb dX0_pinched_64 (lv_at hl 1 rfl) ?_
            refine lv_lshl (v := bitL c9) hx hb dX0_pinched_66 rfl ?_
            refine lv_goto (tgt := 71) hx hb dX0_pinched_67 (by decide) ?_
            refine lv_lor hx hb dX0_pinched_71 ?_
            refine lv_lstore_n (lv' := [(2, .long (set9 ||| (bitL c9))), (5, .int (iI r4)), (4, .int (iI c9)), (0, .ref (b 0)), (1, .int (iI w))]) hx hb dX0_pinched_72 rfl hl (by decide) rfl (fun ls hl => ?_)
            refine g_iinc (lv' := [(4, .int (iI (c9 + 1))), (2, .long (set9 ||| (bitL c9))), (5, .int (iI r4)), (0, .ref (b 0)), (1, .int (iI w))]) hx hb dX0_pinched_73 hl (k := 2) rfl (by decide) rfl (fun ls hl => ?_)
            refine lv_goto (tgt := 16) hx hb dX0_pinched_76 (by decide) ?_
            exact ih_16 (set9 ||| (bitL c9)) (c9 + 1) (k + 1) (by omega) (by omega) (by omega) (by rw [hi16_2, pinA]; subst hi16_0; first | rw [if_pos (by simp only [*] at *; omega)] | rw [if_neg (by simp only [*] at *; omega)])  _ _ _ hG hS (lv_sub hl [0, 1, 3, 4] rfl)
    exact loop_16 _ (lI 0) 0 0 (Nat.lt_succ_self _) (rfl) (by decide) (rfl)  _ _ _ hG hS (lv_sub hl [0, 1, 2, 3] rfl)
  · refine g_ldc2 hx hb (-9223372036854775808) hown (hts _ q625) (by decide) dX0_pinched_7 ?_
    exact g_lret hx hb hr hlocks hQ hG hS (Nat.zero_le _) (Nat.zero_le _) ⟨_, rfl, (by rw [if_neg (by omega)]; rfl), rfl⟩ dX0_pinched_10

set_option maxHeartbeats 4000000 in
theorem mX0_swapsX (l : Launch) (X : gX) (σ : gS) (b : Nat → Nat) (U : Nat → Int → Int) (J : Nat → Int) (R : Int → Option Nat) (hX : XW X σ b U J R) (hT : okT (U 20)) (sp : Int) (h0 : 0 ≤ sp ∧ sp ≤ 1023) : gMet l X yX0_swapsX cX0_swapsX 4 (some .int) 5 0 0 125 σ [.ref (b 0), .int (iI sp)] (oI (fun r σ' => (r = swpZ (U 20) sp 0 ∧ (r = -7 ∨ (0 ≤ r ∧ r ≤ 1023))) ∧ σ = σ')) := by
  refine gMet.of (by decide) (Nat.le_of_ble_eq_true rfl) ?_
  intro pp ee ss mm args below meth cd Q H locs ls hargs hx hb hr hlocks hml hown hnm hts hK hG hS hQ hl
  have hown : ss.vm.findClass RX0 = some mm.cls := hown
  have hl : lv_has ls 4 [(0, .ref (b 0)), (1, .int (iI sp))] := hl
  refine lv_iload_n hx hb dX0_swapsX_0 rfl (lv_at hl 1 rfl) ?_
  refine g_bipush hx hb dX0_swapsX_1 (by decide) ?_
  refine g_irem hx hb dX0_swapsX_3 (by omega) (by omega) ?_
  refine lv_istore_n (lv' := [(2, .int (iI (sp % 32))), (0, .ref (b 0)), (1, .int (iI sp))]) hx hb dX0_swapsX_4 rfl hl (by decide) rfl (fun ls hl => ?_)
  refine lv_aload_n hx hb dX0_swapsX_5 rfl (lv_at hl 1 rfl) ?_
  refine g_iconst hx hb dX0_swapsX_6 ?_
  refine lv_iload_n hx hb dX0_swapsX_7 rfl (lv_at hl 2 rfl) ?_
  refine g_bipush hx hb dX0_swapsX_8 (by decide) ?_
  refine g_idiv hx hb dX0_swapsX_10 (by omega) (by omega) ?_
  refine lv_iload_n hx hb dX0_swapsX_11 rfl (lv_at hl 0 rfl) ?_
  refine g_callV (As := [.int (iI 0), .int (iI (sp / 32)), .int (iI (sp % 32))]) (rest := []) 3 hx hb hml hown hts hK hG hS hl.1 (mX0_swapped l X σ b U J R hX hT 0 (sp / 32) (sp % 32) (by omega) (by omega) (by omega)) hX.c0 rfl q358 q360 qs3 q69 q361 (by decide +kernel) rfl ⟨Nat.le_of_ble_eq_true rfl, Nat.le_of_ble_eq_true rfl⟩ ⟨Nat.le_of_ble_eq_true rfl, Nat.le_of_ble_eq_true rfl⟩ (Nat.le_of_ble_eq_true rfl) dX0_swapsX_12 (kI (fun r1 σr1 H locs hp hG hS => ?_))
  obtain ⟨⟨hr1, kr1⟩, rfl⟩ := hp
  refine lv_istore_n (lv' := [(3, .int (iI r1)), (2, .int (iI (sp % 32))), (0, .ref (b 0)), (1, .int (iI sp))]) hx hb dX0_swapsX_15 rfl hl (by decide) rfl (fun ls hl => ?_)
  refine lv_iload_n hx hb dX0_swapsX_16 rfl (lv_at hl 0 rfl) ?_
  refine g_bipush hx hb dX0_swapsX_17 (by decide) ?_
  refine g_icmp_ne (tgt := 27) hx hb dX0_swapsX_19 (by decide) (by omega) (by omega) (fun cq2 => ?_) (fun cq2 => ?_)
  · refine lv_iload_n hx hb dX0_swapsX_27 rfl (lv_at hl 0 rfl) ?_
    refine lv_iload_n hx hb dX0_swapsX_28 rfl (lv_at hl 1 rfl) ?_
    refine g_callS (As := [.int (iI r1), .int (iI (sp % 32))]) (rest := []) 2 hx hb hml hown hts hK hG hS hl.1 (mX0_codeOf l X σ  r1 (sp % 32) (by omega) (by omega)) q387 q388 q69 q389 (by decide +kernel) rfl ⟨Nat.le_of_ble_eq_true rfl, Nat.le_of_ble_eq_true rfl⟩ ⟨Nat.le_of_ble_eq_true rfl, Nat.le_of_ble_eq_true rfl⟩ (Nat.le_of_ble_eq_true rfl) dX0_swapsX_29 (kI (fun r3 σr3 H locs hp hG hS => ?_))
    obtain ⟨hr3, rfl⟩ := hp
    exact g_iret hx hb hr hlocks hQ hG hS (Nat.zero_le _) (Nat.zero_le _) ⟨_, rfl, ⟨(by unfold swpZ; rw [if_pos rfl, ← hr1]; first | rw [if_pos (by omega)] | (rw [if_neg (by omega)]; omega)), (by omega)⟩, rfl⟩ dX0_swapsX_32
  · refine g_bipush hx hb dX0_swapsX_22 (by decide) ?_
    refine lv_goto (tgt := 32) hx hb dX0_swapsX_24 (by decide) ?_
    exact g_iret hx hb hr hlocks hQ hG hS (Nat.zero_le _) (Nat.zero_le _) ⟨_, rfl, ⟨(by unfold swpZ; rw [if_pos rfl, ← hr1]; first | rw [if_pos (by omega)] | (rw [if_neg (by omega)]; omega)), (by omega)⟩, rfl⟩ dX0_swapsX_32

set_option maxHeartbeats 4000000 in
theorem mX0_swapsY (l : Launch) (X : gX) (σ : gS) (b : Nat → Nat) (U : Nat → Int → Int) (J : Nat → Int) (R : Int → Option Nat) (hX : XW X σ b U J R) (hT : okT (U 20)) (sp : Int) (h0 : 0 ≤ sp ∧ sp ≤ 1023) : gMet l X yX0_swapsY cX0_swapsY 4 (some .int) 5 0 0 125 σ [.ref (b 0), .int (iI sp)] (oI (fun r σ' => (r = swpZ (U 20) sp 1 ∧ (r = -7 ∨ (0 ≤ r ∧ r ≤ 1023))) ∧ σ = σ')) := by
  refine gMet.of (by decide) (Nat.le_of_ble_eq_true rfl) ?_
  intro pp ee ss mm args below meth cd Q H locs ls hargs hx hb hr hlocks hml hown hnm hts hK hG hS hQ hl
  have hown : ss.vm.findClass RX0 = some mm.cls := hown
  have hl : lv_has ls 4 [(0, .ref (b 0)), (1, .int (iI sp))] := hl
  refine lv_iload_n hx hb dX0_swapsY_0 rfl (lv_at hl 1 rfl) ?_
  refine g_bipush hx hb dX0_swapsY_1 (by decide) ?_
  refine g_idiv hx hb dX0_swapsY_3 (by omega) (by omega) ?_
  refine lv_istore_n (lv' := [(2, .int (iI (sp / 32))), (0, .ref (b 0)), (1, .int (iI sp))]) hx hb dX0_swapsY_4 rfl hl (by decide) rfl (fun ls hl => ?_)
  refine lv_aload_n hx hb dX0_swapsY_5 rfl (lv_at hl 1 rfl) ?_
  refine g_iconst hx hb dX0_swapsY_6 ?_
  refine lv_iload_n hx hb dX0_swapsY_7 rfl (lv_at hl 2 rfl) ?_
  refine g_bipush hx hb dX0_swapsY_8 (by decide) ?_
  refine g_irem hx hb dX0_swapsY_10 (by omega) (by omega) ?_
  refine lv_iload_n hx hb dX0_swapsY_11 rfl (lv_at hl 0 rfl) ?_
  refine g_callV (As := [.int (iI 1), .int (iI (sp % 32)), .int (iI (sp / 32))]) (rest := []) 3 hx hb hml hown hts hK hG hS hl.1 (mX0_swapped l X σ b U J R hX hT 1 (sp % 32) (sp / 32) (by omega) (by omega) (by omega)) hX.c0 rfl q358 q360 qs3 q69 q361 (by decide +kernel) rfl ⟨Nat.le_of_ble_eq_true rfl, Nat.le_of_ble_eq_true rfl⟩ ⟨Nat.le_of_ble_eq_true rfl, Nat.le_of_ble_eq_true rfl⟩ (Nat.le_of_ble_eq_true rfl) dX0_swapsY_12 (kI (fun r1 σr1 H locs hp hG hS => ?_))
  obtain ⟨⟨hr1, kr1⟩, rfl⟩ := hp
  refine lv_istore_n (lv' := [(3, .int (iI r1)), (2, .int (iI (sp / 32))), (0, .ref (b 0)), (1, .int (iI sp))]) hx hb dX0_swapsY_15 rfl hl (by decide) rfl (fun ls hl => ?_)
  refine lv_iload_n hx hb dX0_swapsY_16 rfl (lv_at hl 0 rfl) ?_
  refine g_bipush hx hb dX0_swapsY_17 (by decide) ?_
  refine g_icmp_ne (tgt := 27) hx hb dX0_swapsY_19 (by decide) (by omega) (by omega) (fun cq2 => ?_) (fun cq2 => ?_)
  · refine lv_iload_n hx hb dX0_swapsY_27 rfl (lv_at hl 1 rfl) ?_
    refine lv_iload_n hx hb dX0_swapsY_28 rfl (lv_at hl 0 rfl) ?_
    refine g_callS (As := [.int (iI (sp / 32)), .int (iI r1)]) (rest := []) 2 hx hb hml hown hts hK hG hS hl.1 (mX0_codeOf l X σ  (sp / 32) r1 (by omega) (by omega)) q387 q388 q69 q389 (by decide +kernel) rfl ⟨Nat.le_of_ble_eq_true rfl, Nat.le_of_ble_eq_true rfl⟩ ⟨Nat.le_of_ble_eq_true rfl, Nat.le_of_ble_eq_true rfl⟩ (Nat.le_of_ble_eq_true rfl) dX0_swapsY_29 (kI (fun r3 σr3 H locs hp hG hS => ?_))
    obtain ⟨hr3, rfl⟩ := hp
    exact g_iret hx hb hr hlocks hQ hG hS (Nat.zero_le _) (Nat.zero_le _) ⟨_, rfl, ⟨(by unfold swpZ; rw [if_neg (by decide), ← hr1]; first | rw [if_pos (by omega)] | (rw [if_neg (by omega)]; omega)), (by omega)⟩, rfl⟩ dX0_swapsY_32
  · refine g_bipush hx hb dX0_swapsY_22 (by decide) ?_
    refine lv_goto (tgt := 32) hx hb dX0_swapsY_24 (by decide) ?_
    exact g_iret hx hb hr hlocks hQ hG hS (Nat.zero_le _) (Nat.zero_le _) ⟨_, rfl, ⟨(by unfold swpZ; rw [if_neg (by decide), ← hr1]; first | rw [if_pos (by omega)] | (rw [if_neg (by omega)]; omega)), (by omega)⟩, rfl⟩ dX0_swapsY_32
