theorem mx_iI {x y : Int} (hx : -2147483648 ≤ x ∧ x ≤ 2147483647) (hy : -2147483648 ≤ y ∧ y ≤ 2147483647) : ∃ r : Int, (if iI x < iI y then iI y else iI x) = iI r ∧ (y ≤ x ∧ r = x ∨ ¬ y ≤ x ∧ r = y) := by
  by_cases h : x < y
  · exact ⟨y, by rw [if_pos ((iI_lt hx hy).mpr h)], Or.inr ⟨by omega, rfl⟩⟩
  · exact ⟨x, by rw [if_neg (fun q => h ((iI_lt hx hy).mp q))], Or.inl ⟨by omega, rfl⟩⟩
theorem mn_iI {x y : Int} (hx : -2147483648 ≤ x ∧ x ≤ 2147483647) (hy : -2147483648 ≤ y ∧ y ≤ 2147483647) : ∃ r : Int, (if iI y < iI x then iI y else iI x) = iI r ∧ (x ≤ y ∧ r = x ∨ ¬ x ≤ y ∧ r = y) := by
  by_cases h : y < x
  · exact ⟨y, by rw [if_pos ((iI_lt hy hx).mpr h)], Or.inr ⟨by omega, rfl⟩⟩
  · exact ⟨x, by rw [if_neg (fun q => h ((iI_lt hy hx).mp q))], Or.inl ⟨by omega, rfl⟩⟩

theorem mJ16_newLength (l : Launch) (X : gX) (σ : gS)  (x9 : Int) (y9 : Int) (z9 : Int) (h0 : 0 ≤ x9 ∧ x9 ≤ 1000) (h1 : 0 ≤ y9 ∧ y9 ≤ 1000) (h2 : 0 ≤ z9 ∧ z9 ≤ 1000) (h3 : 0 < x9 + z9) : gMet l X yJ16_newLength cJ16_newLength 4 (some .int) 1 0 0 40 σ [.int (iI x9), .int (iI y9), .int (iI z9)] (oI (fun r σ' => (r = r ∧ ((z9 ≤ y9 ∧ r = x9 + y9) ∨ (¬ z9 ≤ y9 ∧ r = x9 + z9))) ∧ σ = σ')) := by
  refine gMet.of (by decide) (Nat.le_of_ble_eq_true rfl) ?_
  intro pp ee ss mm args below meth cd Q H locs ls hargs hx hb hr hlocks hml hown hnm hts hK hG hS hQ hl
  have hown : ss.vm.findClass RJ16 = some mm.cls := hown
  have hl : lv_has ls 4 [(0, .int (iI x9)), (1, .int (iI y9)), (2, .int (iI z9))] := hl
  refine lv_iload_n hx hb dJ16_newLength_0 rfl (lv_at hl 0 rfl) ?_
  refine lv_iload_n hx hb dJ16_newLength_1 rfl (lv_at hl 1 rfl) ?_
  refine lv_iload_n hx hb dJ16_newLength_2 rfl (lv_at hl 2 rfl) ?_
  refine va_mmax hx hb (hml.trans hl.1.symm) hown (hts _ q763) (hts _ q764) (hts _ q96) (hts _ q765) (Nat.le_of_ble_eq_true rfl) (Nat.le_of_ble_eq_true rfl) (Nat.le_of_ble_eq_true rfl) (Nat.le_of_ble_eq_true rfl) dJ16_newLength_3 ?_
  obtain ⟨mr1, emr1, hmr1⟩ := mx_iI (x := y9) (y := z9) (by omega) (by omega)
  rw [emr1]
  refine g_iadd hx hb dJ16_newLength_6 ?_
  refine lv_istore_n (lv' := [(3, .int (iI (x9 + mr1))), (0, .int (iI x9)), (1, .int (iI y9)), (2, .int (iI z9))]) hx hb dJ16_newLength_7 rfl hl (by decide) rfl (fun ls hl => ?_)
  refine g_iconst hx hb dJ16_newLength_8 ?_
  refine lv_iload_n hx hb dJ16_newLength_9 rfl (lv_at hl 0 rfl) ?_
  refine g_icmp_ge (tgt := 21) hx hb dJ16_newLength_10 (by decide) (by omega) (by omega) (fun cq2 => ?_) (fun cq2 => ?_)
  · exfalso; omega
  · refine lv_iload_n hx hb dJ16_newLength_13 rfl (lv_at hl 0 rfl) ?_
    refine g_ldc hx hb (2147483639) hown (hts _ q766) (by decide) dJ16_newLength_14 ?_
    refine g_icmp_gt (tgt := 21) hx hb dJ16_newLength_16 (by decide) (by omega) (by omega) (fun cq3 => ?_) (fun cq3 => ?_)
    · exfalso; omega
    · refine lv_iload_n hx hb dJ16_newLength_19 rfl (lv_at hl 0 rfl) ?_
      exact g_iret hx hb hr hlocks hQ hG hS (Nat.zero_le _) (Nat.zero_le _) ⟨_, rfl, ⟨(rfl), (by omega)⟩, rfl⟩ dJ16_newLength_20

theorem mJ20_canEncode (l : Launch) (X : gX) (σ : gS)  (x9 : Int) (h0 : 0 ≤ x9 ∧ x9 ≤ 255) : gMet l X yJ20_canEncode cJ20_canEncode 1 (some .boolean) 0 0 0 0 σ [.int (iI x9)] (oI (fun r σ' => r = 1 ∧ σ = σ')) := by
  refine gMet.of (by decide) (Nat.le_of_ble_eq_true rfl) ?_
  intro pp ee ss mm args below meth cd Q H locs ls hargs hx hb hr hlocks hml hown hnm hts hK hG hS hQ hl
  have hown : ss.vm.findClass RJ20 = some mm.cls := hown
  have hl : lv_has ls 1 [(0, .int (iI x9))] := hl
  refine lv_iload_n hx hb dJ20_canEncode_0 rfl (lv_at hl 0 rfl) ?_
  refine g_sipush hx hb dJ20_canEncode_1 (by decide) ?_
  refine g_icmp_gt (tgt := 11) hx hb dJ20_canEncode_4 (by decide) (by omega) (by omega) (fun cq1 => ?_) (fun cq1 => ?_)
  · refine g_iconst hx hb dJ20_canEncode_11 ?_
    exact g_zret hx hb hr hlocks hQ hG hS (Nat.zero_le _) (Nat.zero_le _) (gnz (by omega)) ⟨_, rfl, (by omega), rfl⟩ dJ20_canEncode_12
  · refine g_iconst hx hb dJ20_canEncode_7 ?_
    refine lv_goto (tgt := 12) hx hb dJ20_canEncode_8 (by decide) ?_
    exact g_zret hx hb hr hlocks hQ hG hS (Nat.zero_le _) (Nat.zero_le _) (gnz (by omega)) ⟨_, rfl, (by omega), rfl⟩ dJ20_canEncode_12

set_option maxHeartbeats 8000000 in
theorem mJ5_length (l : Launch) (X : gX) (σ : gS) (pa va : Nat) (ml n : Int) (hPA : σ pa = some (4, gO 14 [.ref va, .int (iI 0), .int (iI ml), .int (iI n)]))    : gMet l X yJ5_length cJ5_length 1 (some .int) 0 0 0 0 σ [.ref pa] (oI (fun r σ' => gKeep (fun t => t = 4) σ σ' ∧ (r = n ∧ σ = σ'))) := by
  refine gMet.of (by decide) (Nat.le_of_ble_eq_true rfl) ?_
  intro pp ee ss mm args below meth cd Q H locs ls hargs hx hb hr hlocks hml hown hnm hts hK hG hS hQ hl
  have hown : ss.vm.findClass RJ5 = some mm.cls := hown
  have hl : lv_has ls 1 [(0, .ref pa)] := hl
  have hkp : gKeep (fun t => t = 4) σ σ := gKeep.rf
  refine lv_aload_n hx hb dJ5_length_0 rfl (lv_at hl 0 rfl) ?_
  refine g_get (C := RJ6) (T := TJ6) (N := 4) (v := .int (iI n)) hx hb hts hown hK hG hPA rfl in_J6 3 (by decide) q343 rfl rfl dJ5_length_1 ?_
  exact g_iret hx hb hr hlocks hQ hG hS (Nat.zero_le _) (Nat.zero_le _) ⟨_, rfl, hkp, (⟨rfl, rfl⟩)⟩ dJ5_length_4

set_option maxHeartbeats 8000000 in
theorem mJ5_isLatin1 (l : Launch) (X : gX) (σ : gS) (pa va : Nat) (ml n : Int) (hPA : σ pa = some (4, gO 14 [.ref va, .int (iI 0), .int (iI ml), .int (iI n)]))    : gMet l X yJ5_isLatin1 cJ5_isLatin1 1 (some .boolean) 0 0 0 0 σ [.ref pa] (oI (fun r σ' => gKeep (fun t => t = 4) σ σ' ∧ (r = 1 ∧ σ = σ'))) := by
  refine gMet.of (by decide) (Nat.le_of_ble_eq_true rfl) ?_
  intro pp ee ss mm args below meth cd Q H locs ls hargs hx hb hr hlocks hml hown hnm hts hK hG hS hQ hl
  have hown : ss.vm.findClass RJ5 = some mm.cls := hown
  have hl : lv_has ls 1 [(0, .ref pa)] := hl
  have hkp : gKeep (fun t => t = 4) σ σ := gKeep.rf
  refine va_gets hx hb (gCS hK) hS hown (hts _ q252) (fun _ h => h) dJ5_isLatin1_0 ?_
  refine g_if_eq (tgt := 17) hx hb dJ5_isLatin1_3 (by decide) (by omega) (fun cq1 => absurd cq1 (by decide)) (fun cq1 => ?_)
  refine lv_aload_n hx hb dJ5_isLatin1_6 rfl (lv_at hl 0 rfl) ?_
  refine g_get (C := RJ6) (T := TJ6) (N := 4) (v := .int (iI 0)) hx hb hts hown hK hG hPA rfl in_J6 1 (by decide) q340 rfl rfl dJ5_isLatin1_7 ?_
  refine g_if_ne (tgt := 17) hx hb dJ5_isLatin1_10 (by decide) (by omega) (fun cq2 => absurd cq2 (by decide)) (fun cq2 => ?_)
  refine g_iconst hx hb dJ5_isLatin1_13 ?_
  refine lv_goto (tgt := 18) hx hb dJ5_isLatin1_14 (by decide) ?_
  exact g_zret hx hb hr hlocks hQ hG hS (Nat.zero_le _) (Nat.zero_le _) (gnz (by omega)) ⟨_, rfl, hkp, (⟨by omega, rfl⟩)⟩ dJ5_isLatin1_18

