theorem mx_iI {x y : Int} (hx : -2147483648 ≤ x ∧ x ≤ 2147483647) (hy : -2147483648 ≤ y ∧ y ≤ 2147483647) : ∃ r : Int, (if iI x < iI y then iI y else iI x) = iI r ∧ (y ≤ x ∧ r = x ∨ ¬ y ≤ x ∧ r = y) := by
  by_cases h : x < y
  · exact ⟨y, by rw [if_pos ((iI_lt hx hy).mpr h)], Or.inr ⟨by omega, rfl⟩⟩
  · exact ⟨x, by rw [if_neg (fun q => h ((iI_lt hx hy).mp q))], Or.inl ⟨by omega, rfl⟩⟩
theorem mn_iI {x y : Int} (hx : -2147483648 ≤ x ∧ x ≤ 2147483647) (hy : -2147483648 ≤ y ∧ y ≤ 2147483647) : ∃ r : Int, (if iI y < iI x then iI y else iI x) = iI r ∧ (x ≤ y ∧ r = x ∨ ¬ x ≤ y ∧ r = y) := by
  by_cases h : y < x
  · exact ⟨y, by rw [if_pos ((iI_lt hy hx).mpr h)], Or.inr ⟨by omega, rfl⟩⟩
  · exact ⟨x, by rw [if_neg (fun q => h ((iI_lt hy hx).mp q))], Or.inl ⟨by omega, rfl⟩⟩

theorem mJ16_newLength (l : Launch) (X : gX) (σ : gS)  (x9 : Int) (y9 : Int) (z9 : Int) (h0 : 0 ≤ x9 ∧ x9 ≤ 1000) (h1 : 0 ≤ y9 ∧ y9 ≤ 1000) (h2 : 0 ≤ z9 ∧ z9 ≤ 1000) (h3 : 0 < x9 + z9) : gMet l X yJ16_newLength cJ16_newLength 4 (some .int) 1 0 0 40 σ [.int (iI x9), .int (iI y9), .int (iI z9)] (oI (fun r σ' => (r = r ∧ ((z9 ≤ y9 ∧ r = x9 + y9) ∨ (¬ z9 ≤ y9 ∧ r = x9 + z9))) ∧ σ = σ')) := by
  refine gMet.of (by decide) (Nat.le_of_ble_eq_true rfl) ?_
  intro pp ee ss mm args below meth cd Q H locs ls hargs hx hb hr hlocks hml hown hnm hts hK hG hS hQ hl
  have hown : ss.vm.findClass RJ16 = some mm.cls := hown
  have hl : lv_has ls 4 [(0, .int (iI x9)), (1, .int (iI y9)), (2, .int (iI z9))] := hl
  refine lv_iload_n hx hb dJ16_newLength_0 rfl (lv_at hl 0 rfl) ?_
  refine lv_iload_n hx hb dJ16_newLength_1 rfl (lv_at hl 1 rfl) ?_
  refine lv_iload_n hx hb dJ16_newLength_2 rfl (lv_at hl 2 rfl) ?_
  refine va_mmax hx hb (hml.trans hl.1.symm) hown (hts _ q763) (hts _ q764) (hts _ q96) (hts _ q765) (Nat.le_of_ble_eq_true rfl) (Nat.le_of_ble_eq_true rfl) (Nat.le_of_ble_eq_true rfl) (Nat.le_of_ble_eq_true rfl) dJ16_newLength_3 ?_
  obtain ⟨mr1, emr1, hmr1⟩ := mx_iI (x := y9) (y := z9) (by omega) (by omega)
  rw [emr1]
  refine g_iadd hx hb dJ16_newLength_6 ?_
  refine lv_istore_n (lv' := [(3, .int (iI (x9 + mr1))), (0, .int (iI x9)), (1, .int (iI y9)), (2, .int (iI z9))]) hx hb dJ16_newLength_7 rfl hl (by decide) rfl (fun ls hl => ?_)
  refine g_iconst hx hb dJ16_newLength_8 ?_
  refine lv_iload_n hx hb dJ16_newLength_9 rfl (lv_at hl 0 rfl) ?_
  refine g_icmp_ge (tgt := 21) hx hb dJ16_newLength_10 (by decide) (by omega) (by omega) (fun cq2 => ?_) (fun cq2 => ?_)
  · exfalso; omega
  · refine lv_iload_n hx hb dJ16_newLength_13 rfl (lv_at hl 0 rfl) ?_
    refine g_ldc hx hb (2147483639) hown (hts _ q766) (by decide) dJ16_newLength_14 ?_
    refine g_icmp_gt (tgt := 21) hx hb dJ16_newLength_16 (by decide) (by omega) (by omega) (fun cq3 => ?_) (fun cq3 => ?_)
    · exfalso; omega
    · refine lv_iload_n hx hb dJ16_newLength_19 rfl (lv_at hl 0 rfl) ?_
      exact g_iret hx hb hr hlocks hQ hG hS (Nat.zero_le _) (Nat.zero_le _) ⟨_, rfl, ⟨(rfl), (by omega)⟩, rfl⟩ dJ16_newLength_20

theorem mJ20_canEncode (l : Launch) (X : gX) (σ : gS)  (x9 : Int) (h0 : 0 ≤ x9 ∧ x9 ≤ 255) : gMet l X yJ20_canEncode cJ20_canEncode 1 (some .boolean) 0 0 0 0 σ [.int (iI x9)] (oI (fun r σ' => r = 1 ∧ σ = σ')) := by
  refine gMet.of (by decide) (Nat.le_of_ble_eq_true rfl) ?_
  intro pp ee ss mm args below meth cd Q H locs ls hargs hx hb hr hlocks hml hown hnm hts hK hG hS hQ hl
  have hown : ss.vm.findClass RJ20 = some mm.cls := hown
  have hl : lv_has ls 1 [(0, .int (iI x9))] := hl
  refine lv_iload_n hx hb dJ20_canEncode_0 rfl (lv_at hl 0 rfl) ?_
  refine g_sipush hx hb dJ20_canEncode_1 (by decide) ?_
  refine g_icmp_gt (tgt := 11) hx hb dJ20_canEncode_4 (by decide) (by omega) (by omega) (fun cq1 => ?_) (fun cq1 => ?_)
  · refine g_iconst hx hb dJ20_canEncode_11 ?_
    exact g_zret hx hb hr hlocks hQ hG hS (Nat.zero_le _) (Nat.zero_le _) (gnz (by omega)) ⟨_, rfl, (by omega), rfl⟩ dJ20_canEncode_12
  · refine g_iconst hx hb dJ20_canEncode_7 ?_
    refine lv_goto (tgt := 12) hx hb dJ20_canEncode_8 (by decide) ?_
    exact g_zret hx hb hr hlocks hQ hG hS (Nat.zero_le _) (Nat.zero_le _) (gnz (by omega)) ⟨_, rfl, (by omega), rfl⟩ dJ20_canEncode_12

set_option maxHeartbeats 8000000 in
theorem mJ5_length (l : Launch) (X : gX) (σ : gS) (pa va : Nat) (ml n : Int) (hPA : σ pa = some (4, gO 14 [.ref va, .int (iI 0), .int (iI ml), .int (iI n)]))    : gMet l X yJ5_length cJ5_length 1 (some .int) 0 0 0 0 σ [.ref pa] (oI (fun r σ' => gKeep (fun t => t = 4) σ σ' ∧ (r = n ∧ σ = σ'))) := by
  refine gMet.of (by decide) (Nat.le_of_ble_eq_true rfl) ?_
  intro pp ee ss mm args below meth cd Q H locs ls hargs hx hb hr hlocks hml hown hnm hts hK hG hS hQ hl
  have hown : ss.vm.findClass RJ5 = some mm.cls := hown
  have hl : lv_has ls 1 [(0, .ref pa)] := hl
  have hkp : gKeep (fun t => t = 4) σ σ := gKeep.rf
  refine lv_aload_n hx hb dJ5_length_0 rfl (lv_at hl 0 rfl) ?_
  refine g_get (C := RJ6) (T := TJ6) (N := 4) (v := .int (iI n)) hx hb hts hown hK hG hPA rfl in_J6 3 (by decide) q343 rfl rfl dJ5_length_1 ?_
  exact g_iret hx hb hr hlocks hQ hG hS (Nat.zero_le _) (Nat.zero_le _) ⟨_, rfl, hkp, (⟨rfl, rfl⟩)⟩ dJ5_length_4

set_option maxHeartbeats 8000000 in
theorem mJ5_isLatin1 (l : Launch) (X : gX) (σ : gS) (pa va : Nat) (ml n : Int) (hPA : σ pa = some (4, gO 14 [.ref va, .int (iI 0), .int (iI ml), .int (iI n)]))    : gMet l X yJ5_isLatin1 cJ5_isLatin1 1 (some .boolean) 0 0 0 0 σ [.ref pa] (oI (fun r σ' => gKeep (fun t => t = 4) σ σ' ∧ (r = 1 ∧ σ = σ'))) := by
  refine gMet.of (by decide) (Nat.le_of_ble_eq_true rfl) ?_
  intro pp ee ss mm args below meth cd Q H locs ls hargs hx hb hr hlocks hml hown hnm hts hK hG hS hQ hl
  have hown : ss.vm.findClass RJ5 = some mm.cls := hown
  have hl : lv_has ls 1 [(0, .ref pa)] := hl
  have hkp : gKeep (fun t => t = 4) σ σ := gKeep.rf
  refine va_gets hx hb (gCS hK) hS hown (hts _ q252) (fun _ h => h) dJ5_isLatin1_0 ?_
  refine g_if_eq (tgt := 17) hx hb dJ5_isLatin1_3 (by decide) (by omega) (fun cq1 => absurd cq1 (by decide)) (fun cq1 => ?_)
  refine lv_aload_n hx hb dJ5_isLatin1_6 rfl (lv_at hl 0 rfl) ?_
  refine g_get (C := RJ6) (T := TJ6) (N := 4) (v := .int (iI 0)) hx hb hts hown hK hG hPA rfl in_J6 1 (by decide) q340 rfl rfl dJ5_isLatin1_7 ?_
  refine g_if_ne (tgt := 17) hx hb dJ5_isLatin1_10 (by decide) (by omega) (fun cq2 => absurd cq2 (by decide)) (fun cq2 => ?_)
  refine g_iconst hx hb dJ5_isLatin1_13 ?_
  refine lv_goto (tgt := 18) hx hb dJ5_isLatin1_14 (by decide) ?_
  exact g_zret hx hb hr hlocks hQ hG hS (Nat.zero_le _) (Nat.zero_le _) (gnz (by omega)) ⟨_, rfl, hkp, (⟨by omega, rfl⟩)⟩ dJ5_isLatin1_18

set_option maxHeartbeats 8000000 in
theorem mJ5_newCapacity (l : Launch) (X : gX) (σ : gS) (pa va : Nat) (ml n : Int) (hPA : σ pa = some (4, gO 14 [.ref va, .int (iI 0), .int (iI ml), .int (iI n)])) (N : Nat) (g : Int → Int) (hBY : σ va = some (25, gI (X.2.1 2) N g)) (k9 : Int)  (h0 : (N : Int) < k9 ∧ k9 ≤ 200) (h1 : 16 ≤ N ∧ N ≤ 200) : gMet l X yJ5_newCapacity cJ5_newCapacity 6 (some .int) 2 0 0 63 σ [.ref pa, .int (iI k9)] (oI (fun r σ' => gKeep (fun t => t = 4 ∨ t = 25) σ σ' ∧ (((k9 ≤ 2 * N + 2 ∧ r = 2 * N + 2) ∨ (¬ k9 ≤ 2 * N + 2 ∧ r = k9)) ∧ σ = σ'))) := by
  refine gMet.of (by decide) (Nat.le_of_ble_eq_true rfl) ?_
  intro pp ee ss mm args below meth cd Q H locs ls hargs hx hb hr hlocks hml hown hnm hts hK hG hS hQ hl
  have hown : ss.vm.findClass RJ5 = some mm.cls := hown
  have hl : lv_has ls 6 [(0, .ref pa), (1, .int (iI k9))] := hl
  have hkp : gKeep (fun t => t = 4 ∨ t = 25) σ σ := gKeep.rf
  refine lv_aload_n hx hb dJ5_newCapacity_0 rfl (lv_at hl 0 rfl) ?_
  refine g_get (C := RJ6) (T := TJ6) (N := 4) (v := .ref va) hx hb hts hown hK hG hPA rfl in_J6 0 (by decide) q339 rfl rfl dJ5_newCapacity_1 ?_
  refine g_alen (n := N) hx hb 2 hK hG hBY rfl rfl dJ5_newCapacity_4 ?_
  refine lv_istore_n (lv' := [(2, .int (iI (N : Int))), (0, .ref pa), (1, .int (iI k9))]) hx hb dJ5_newCapacity_5 rfl hl (by decide) rfl (fun ls hl => ?_)
  refine lv_iload_n hx hb dJ5_newCapacity_6 rfl (lv_at hl 2 rfl) ?_
  refine lv_aload_n hx hb dJ5_newCapacity_7 rfl (lv_at hl 1 rfl) ?_
  refine g_get (C := RJ6) (T := TJ6) (N := 4) (v := .int (iI 0)) hx hb hts hown hK hG hPA rfl in_J6 1 (by decide) q340 rfl rfl dJ5_newCapacity_8 ?_
  refine lv_ishl hx hb dJ5_newCapacity_11 ?_
  rw [iI_sl0]
  refine lv_istore_n (lv' := [(3, .int (iI k9)), (2, .int (iI (N : Int))), (0, .ref pa), (1, .int (iI k9))]) hx hb dJ5_newCapacity_12 rfl hl (by decide) rfl (fun ls hl => ?_)
  refine lv_iload_n hx hb dJ5_newCapacity_13 rfl (lv_at hl 0 rfl) ?_
  refine lv_iload_n hx hb dJ5_newCapacity_14 rfl (lv_at hl 1 rfl) ?_
  refine g_isub hx hb dJ5_newCapacity_15 ?_
  refine lv_istore (lv' := [(4, .int (iI (k9 - (N : Int)))), (3, .int (iI k9)), (2, .int (iI (N : Int))), (0, .ref pa), (1, .int (iI k9))]) hx hb dJ5_newCapacity_16 hl (by decide) rfl (fun ls hl => ?_)
  refine lv_iload_n hx hb dJ5_newCapacity_18 rfl (lv_at hl 2 rfl) ?_
  refine lv_iload hx hb dJ5_newCapacity_19 (lv_at hl 0 rfl) ?_
  refine lv_iload_n hx hb dJ5_newCapacity_21 rfl (lv_at hl 2 rfl) ?_
  refine g_iconst hx hb dJ5_newCapacity_22 ?_
  refine lv_aload_n hx hb dJ5_newCapacity_23 rfl (lv_at hl 3 rfl) ?_
  refine g_get (C := RJ6) (T := TJ6) (N := 4) (v := .int (iI 0)) hx hb hts hown hK hG hPA rfl in_J6 1 (by decide) q340 rfl rfl dJ5_newCapacity_24 ?_
  refine lv_ishl hx hb dJ5_newCapacity_27 ?_
  rw [iI_sl0]
  refine g_iadd hx hb dJ5_newCapacity_28 ?_
  refine g_callS (As := [.int (iI (N : Int)), .int (iI (k9 - (N : Int))), .int (iI ((N : Int) + 2))]) (rest := []) 3 hx hb hml hown hts hK hG hS hl.1 (mJ16_newLength l X σ  (N : Int) (k9 - (N : Int)) ((N : Int) + 2) (by omega) (by omega) (by omega) (by omega)) q1656 q761 q95 q762 (by decide +kernel) rfl ⟨Nat.le_of_ble_eq_true rfl, Nat.le_of_ble_eq_true rfl⟩ ⟨Nat.le_of_ble_eq_true rfl, Nat.le_of_ble_eq_true rfl⟩ (Nat.le_of_ble_eq_true rfl) dJ5_newCapacity_29 (kI (fun r1 σr1 H locs hp hG hS => ?_))
  obtain ⟨⟨hr1, kr1⟩, rfl⟩ := hp
  refine lv_istore (lv' := [(5, .int (iI r1)), (4, .int (iI (k9 - (N : Int)))), (3, .int (iI k9)), (2, .int (iI (N : Int))), (0, .ref pa), (1, .int (iI k9))]) hx hb dJ5_newCapacity_32 hl (by decide) rfl (fun ls hl => ?_)
  refine lv_iload hx hb dJ5_newCapacity_34 (lv_at hl 0 rfl) ?_
  refine g_ldc hx hb (2147483647) hown (hts _ q1657) (by decide) dJ5_newCapacity_36 ?_
  refine g_icmp_ne (tgt := 51) hx hb dJ5_newCapacity_38 (by decide) (by omega) (by omega) (fun cq2 => ?_) (fun cq2 => ?_)
  · refine lv_iload hx hb dJ5_newCapacity_51 (lv_at hl 0 rfl) ?_
    refine lv_aload_n hx hb dJ5_newCapacity_53 rfl (lv_at hl 4 rfl) ?_
    refine g_get (C := RJ6) (T := TJ6) (N := 4) (v := .int (iI 0)) hx hb hts hown hK hG hPA rfl in_J6 1 (by decide) q340 rfl rfl dJ5_newCapacity_54 ?_
    refine lv_ishr hx hb dJ5_newCapacity_57 ?_
    rw [iI_sh0]
    exact g_iret hx hb hr hlocks hQ hG hS (Nat.zero_le _) (Nat.zero_le _) ⟨_, rfl, hkp, (⟨by omega, rfl⟩)⟩ dJ5_newCapacity_58
  · exfalso; omega

