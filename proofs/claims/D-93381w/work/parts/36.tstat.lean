set_option maxHeartbeats 4000000 in
theorem mJ4_leftOf (l : Launch) (X : gX) (σ : gS) (tg mp n : Nat) (ad ps : Nat → Nat) (K : Nat → Nat) (Vv l_ r_ p_ : Nat → Option Nat) (C : Nat → Int) (rt es ks : Option Nat) (sz md : Int) (hTH : TH σ tg mp (tIn n ad ps) K Vv l_ r_ p_ C rt es ks sz md) (x : Option Nat) (hx9 : ∀ a, x = some a → tIn n ad ps a) : gMet l X yJ4_leftOf cJ4_leftOf 1 (some (.object "java/util/TreeMap$Entry")) 0 0 0 0 σ [va_rf x] (oA (fun v σ' => v = va_rf (x.bind l_) ∧ σ = σ')) := by
  refine gMet.of (by decide) (by cases x <;> exact Nat.le_of_ble_eq_true rfl) ?_
  intro pp ee ss mm args below meth cd Q H locs ls hargs hx hb hr hlocks hml hown hnm hts hK hG hS hQ hl
  have hown : ss.vm.findClass RJ4 = some mm.cls := hown
  have hl : lv_has ls 1 [(0, va_rf x)] := by cases x <;> exact hl
  have hkp : gKeep (fun t => t = tg) σ σ := gKeep.rf
  refine g_aload_nR hx hb dJ4_leftOf_0 rfl (lv_at hl 0 rfl) ?_
  refine g_ifnonnullR (tgt := 8) hx hb dJ4_leftOf_1 (by decide) (fun z1 ho2 => ?_) (fun ho2 => ?_)
  · have hl : lv_has ls 1 [(0, .ref z1)] := by first | exact hl | (rw [ho2] at hl; exact hl)
    have hD_z1 := hx9 z1 ho2
    refine lv_aload_n hx hb dJ4_leftOf_8 rfl (lv_at hl 0 rfl) ?_
    refine g_get (C := RJ25) (T := TJ25) (N := 6) (v := va_rf (l_ z1)) hx hb hts hown hK hG (hTH.2.1 _ hD_z1) rfl in_J25 2 (by decide) q1180 rfl rfl dJ4_leftOf_9 ?_
    exact g_aret hx hb hr (by first | exact Or.inl ⟨_, rfl⟩ | exact Or.inr ⟨_, rfl⟩) (by first | exact Or.inl rfl | exact Or.inr ⟨_, rfl⟩ | exact va_rf_or _) hlocks hQ hG hS (Nat.zero_le _) (Nat.zero_le _) ⟨_, rfl, (congrArg (fun q9 : Option Nat => va_rf (q9.bind l_)) ho2).symm, rfl⟩ dJ4_leftOf_12
  · have hl : lv_has ls 1 [(0, .null)] := by first | exact hl | (rw [ho2] at hl; exact hl)
    refine lv_null hx hb dJ4_leftOf_4 ?_
    refine lv_goto (tgt := 12) hx hb dJ4_leftOf_5 (by decide) ?_
    exact g_aret hx hb hr (by first | exact Or.inl ⟨_, rfl⟩ | exact Or.inr ⟨_, rfl⟩) (by first | exact Or.inl rfl | exact Or.inr ⟨_, rfl⟩ | exact va_rf_or _) hlocks hQ hG hS (Nat.zero_le _) (Nat.zero_le _) ⟨_, rfl, (congrArg (fun q9 : Option Nat => va_rf (q9.bind l_)) ho2).symm, rfl⟩ dJ4_leftOf_12

set_option maxHeartbeats 4000000 in
theorem mJ4_rightOf (l : Launch) (X : gX) (σ : gS) (tg mp n : Nat) (ad ps : Nat → Nat) (K : Nat → Nat) (Vv l_ r_ p_ : Nat → Option Nat) (C : Nat → Int) (rt es ks : Option Nat) (sz md : Int) (hTH : TH σ tg mp (tIn n ad ps) K Vv l_ r_ p_ C rt es ks sz md) (x : Option Nat) (hx9 : ∀ a, x = some a → tIn n ad ps a) : gMet l X yJ4_rightOf cJ4_rightOf 1 (some (.object "java/util/TreeMap$Entry")) 0 0 0 0 σ [va_rf x] (oA (fun v σ' => v = va_rf (x.bind r_) ∧ σ = σ')) := by
  refine gMet.of (by decide) (by cases x <;> exact Nat.le_of_ble_eq_true rfl) ?_
  intro pp ee ss mm args below meth cd Q H locs ls hargs hx hb hr hlocks hml hown hnm hts hK hG hS hQ hl
  have hown : ss.vm.findClass RJ4 = some mm.cls := hown
  have hl : lv_has ls 1 [(0, va_rf x)] := by cases x <;> exact hl
  have hkp : gKeep (fun t => t = tg) σ σ := gKeep.rf
  refine g_aload_nR hx hb dJ4_rightOf_0 rfl (lv_at hl 0 rfl) ?_
  refine g_ifnonnullR (tgt := 8) hx hb dJ4_rightOf_1 (by decide) (fun z1 ho2 => ?_) (fun ho2 => ?_)
  · have hl : lv_has ls 1 [(0, .ref z1)] := by first | exact hl | (rw [ho2] at hl; exact hl)
    have hD_z1 := hx9 z1 ho2
    refine lv_aload_n hx hb dJ4_rightOf_8 rfl (lv_at hl 0 rfl) ?_
    refine g_get (C := RJ25) (T := TJ25) (N := 6) (v := va_rf (r_ z1)) hx hb hts hown hK hG (hTH.2.1 _ hD_z1) rfl in_J25 3 (by decide) q1181 rfl rfl dJ4_rightOf_9 ?_
    exact g_aret hx hb hr (by first | exact Or.inl ⟨_, rfl⟩ | exact Or.inr ⟨_, rfl⟩) (by first | exact Or.inl rfl | exact Or.inr ⟨_, rfl⟩ | exact va_rf_or _) hlocks hQ hG hS (Nat.zero_le _) (Nat.zero_le _) ⟨_, rfl, (congrArg (fun q9 : Option Nat => va_rf (q9.bind r_)) ho2).symm, rfl⟩ dJ4_rightOf_12
  · have hl : lv_has ls 1 [(0, .null)] := by first | exact hl | (rw [ho2] at hl; exact hl)
    refine lv_null hx hb dJ4_rightOf_4 ?_
    refine lv_goto (tgt := 12) hx hb dJ4_rightOf_5 (by decide) ?_
    exact g_aret hx hb hr (by first | exact Or.inl ⟨_, rfl⟩ | exact Or.inr ⟨_, rfl⟩) (by first | exact Or.inl rfl | exact Or.inr ⟨_, rfl⟩ | exact va_rf_or _) hlocks hQ hG hS (Nat.zero_le _) (Nat.zero_le _) ⟨_, rfl, (congrArg (fun q9 : Option Nat => va_rf (q9.bind r_)) ho2).symm, rfl⟩ dJ4_rightOf_12

set_option maxHeartbeats 4000000 in
theorem mJ4_parentOf (l : Launch) (X : gX) (σ : gS) (tg mp n : Nat) (ad ps : Nat → Nat) (K : Nat → Nat) (Vv l_ r_ p_ : Nat → Option Nat) (C : Nat → Int) (rt es ks : Option Nat) (sz md : Int) (hTH : TH σ tg mp (tIn n ad ps) K Vv l_ r_ p_ C rt es ks sz md) (x : Option Nat) (hx9 : ∀ a, x = some a → tIn n ad ps a) : gMet l X yJ4_parentOf cJ4_parentOf 1 (some (.object "java/util/TreeMap$Entry")) 0 0 0 0 σ [va_rf x] (oA (fun v σ' => v = va_rf (x.bind p_) ∧ σ = σ')) := by
  refine gMet.of (by decide) (by cases x <;> exact Nat.le_of_ble_eq_true rfl) ?_
  intro pp ee ss mm args below meth cd Q H locs ls hargs hx hb hr hlocks hml hown hnm hts hK hG hS hQ hl
  have hown : ss.vm.findClass RJ4 = some mm.cls := hown
  have hl : lv_has ls 1 [(0, va_rf x)] := by cases x <;> exact hl
  have hkp : gKeep (fun t => t = tg) σ σ := gKeep.rf
  refine g_aload_nR hx hb dJ4_parentOf_0 rfl (lv_at hl 0 rfl) ?_
  refine g_ifnonnullR (tgt := 8) hx hb dJ4_parentOf_1 (by decide) (fun z1 ho2 => ?_) (fun ho2 => ?_)
  · have hl : lv_has ls 1 [(0, .ref z1)] := by first | exact hl | (rw [ho2] at hl; exact hl)
    have hD_z1 := hx9 z1 ho2
    refine lv_aload_n hx hb dJ4_parentOf_8 rfl (lv_at hl 0 rfl) ?_
    refine g_get (C := RJ25) (T := TJ25) (N := 6) (v := va_rf (p_ z1)) hx hb hts hown hK hG (hTH.2.1 _ hD_z1) rfl in_J25 4 (by decide) q1183 rfl rfl dJ4_parentOf_9 ?_
    exact g_aret hx hb hr (by first | exact Or.inl ⟨_, rfl⟩ | exact Or.inr ⟨_, rfl⟩) (by first | exact Or.inl rfl | exact Or.inr ⟨_, rfl⟩ | exact va_rf_or _) hlocks hQ hG hS (Nat.zero_le _) (Nat.zero_le _) ⟨_, rfl, (congrArg (fun q9 : Option Nat => va_rf (q9.bind p_)) ho2).symm, rfl⟩ dJ4_parentOf_12
  · have hl : lv_has ls 1 [(0, .null)] := by first | exact hl | (rw [ho2] at hl; exact hl)
    refine lv_null hx hb dJ4_parentOf_4 ?_
    refine lv_goto (tgt := 12) hx hb dJ4_parentOf_5 (by decide) ?_
    exact g_aret hx hb hr (by first | exact Or.inl ⟨_, rfl⟩ | exact Or.inr ⟨_, rfl⟩) (by first | exact Or.inl rfl | exact Or.inr ⟨_, rfl⟩ | exact va_rf_or _) hlocks hQ hG hS (Nat.zero_le _) (Nat.zero_le _) ⟨_, rfl, (congrArg (fun q9 : Option Nat => va_rf (q9.bind p_)) ho2).symm, rfl⟩ dJ4_parentOf_12

set_option maxHeartbeats 4000000 in
theorem mJ4_colorOf (l : Launch) (X : gX) (σ : gS) (tg mp n : Nat) (ad ps : Nat → Nat) (K : Nat → Nat) (Vv l_ r_ p_ : Nat → Option Nat) (C : Nat → Int) (rt es ks : Option Nat) (sz md : Int) (hTH : TH σ tg mp (tIn n ad ps) K Vv l_ r_ p_ C rt es ks sz md) (x : Option Nat) (hx9 : ∀ a, x = some a → tIn n ad ps a) : gMet l X yJ4_colorOf cJ4_colorOf 1 (some .boolean) 0 0 0 0 σ [va_rf x] (oI (fun r σ' => r = cO C x ∧ σ = σ')) := by
  refine gMet.of (by decide) (by cases x <;> exact Nat.le_of_ble_eq_true rfl) ?_
  intro pp ee ss mm args below meth cd Q H locs ls hargs hx hb hr hlocks hml hown hnm hts hK hG hS hQ hl
  have hown : ss.vm.findClass RJ4 = some mm.cls := hown
  have hl : lv_has ls 1 [(0, va_rf x)] := by cases x <;> exact hl
  have hkp : gKeep (fun t => t = tg) σ σ := gKeep.rf
  refine g_aload_nR hx hb dJ4_colorOf_0 rfl (lv_at hl 0 rfl) ?_
  refine g_ifnonnullR (tgt := 8) hx hb dJ4_colorOf_1 (by decide) (fun z1 ho2 => ?_) (fun ho2 => ?_)
  · have hl : lv_has ls 1 [(0, .ref z1)] := by first | exact hl | (rw [ho2] at hl; exact hl)
    have hD_z1 := hx9 z1 ho2
    refine lv_aload_n hx hb dJ4_colorOf_8 rfl (lv_at hl 0 rfl) ?_
    refine g_get (C := RJ25) (T := TJ25) (N := 6) (v := .int (iI (C z1))) hx hb hts hown hK hG (hTH.2.1 _ hD_z1) rfl in_J25 5 (by decide) q1185 rfl rfl dJ4_colorOf_9 ?_
    have hc3 := hTH.2.2 _ hD_z1
    exact g_zret hx hb hr hlocks hQ hG hS (Nat.zero_le _) (Nat.zero_le _) (gnz (by omega)) ⟨_, rfl, (by rw [ho2]; first | done | rfl), rfl⟩ dJ4_colorOf_12
  · have hl : lv_has ls 1 [(0, .null)] := by first | exact hl | (rw [ho2] at hl; exact hl)
    refine g_iconst hx hb dJ4_colorOf_4 ?_
    refine lv_goto (tgt := 12) hx hb dJ4_colorOf_5 (by decide) ?_
    exact g_zret hx hb hr hlocks hQ hG hS (Nat.zero_le _) (Nat.zero_le _) (gnz (by omega)) ⟨_, rfl, (by rw [ho2]; first | done | rfl), rfl⟩ dJ4_colorOf_12

set_option maxHeartbeats 4000000 in
theorem mJ4_setColor (l : Launch) (X : gX) (σ : gS) (tg mp n : Nat) (ad ps : Nat → Nat) (K : Nat → Nat) (Vv l_ r_ p_ : Nat → Option Nat) (C : Nat → Int) (rt es ks : Option Nat) (sz md : Int) (hTH : TH σ tg mp (tIn n ad ps) K Vv l_ r_ p_ C rt es ks sz md) (x : Option Nat) (hx9 : ∀ a, x = some a → tIn n ad ps a) (c9 : Int) (hc9 : c9 = 0 ∨ c9 = 1) : gMet l X yJ4_setColor cJ4_setColor 2 none 0 0 0 0 σ [va_rf x, .int (iI c9)] (oV (fun σ' => TH σ' tg mp (tIn n ad ps) K Vv l_ r_ p_ (cUp C x c9) rt es ks sz md ∧ gKeep (fun t => t = tg) σ σ')) := by
  refine gMet.of (by decide) (by cases x <;> exact Nat.le_of_ble_eq_true rfl) ?_
  intro pp ee ss mm args below meth cd Q H locs ls hargs hx hb hr hlocks hml hown hnm hts hK hG hS hQ hl
  have hown : ss.vm.findClass RJ4 = some mm.cls := hown
  have hl : lv_has ls 2 [(0, va_rf x), (1, .int (iI c9))] := by cases x <;> exact hl
  have hkp : gKeep (fun t => t = tg) σ σ := gKeep.rf
  refine g_aload_nR hx hb dJ4_setColor_0 rfl (lv_at hl 0 rfl) ?_
  refine g_ifnullR (tgt := 9) hx hb dJ4_setColor_1 (by decide) (fun ho2 => ?_) (fun z1 ho2 => ?_)
  · have hl : lv_has ls 2 [(0, .null), (1, .int (iI c9))] := by first | exact hl | (rw [ho2] at hl; exact hl)
    exact g_vret hx hb hr hlocks hQ hG hS (Nat.zero_le _) (Nat.zero_le _) ⟨rfl, by rw [ho2]; exact hTH, gKeep.rf⟩ dJ4_setColor_9
  · have hl : lv_has ls 2 [(0, .ref z1), (1, .int (iI c9))] := by first | exact hl | (rw [ho2] at hl; exact hl)
    have hD_z1 := hx9 z1 ho2
    refine lv_aload_n hx hb dJ4_setColor_4 rfl (lv_at hl 0 rfl) ?_
    refine lv_iload_n hx hb dJ4_setColor_5 rfl (lv_at hl 1 rfl) ?_
    refine g_put (C := RJ25) (T := TJ25) (N := 6) (ty0 := tyJ25) (v := .int (iI c9)) hx hb hts hown hK hG hS (hTH.2.1 _ hD_z1) rfl in_J25 tyJ25_ok nmJ25 5 (by decide) q1185 rfl (by decide) (gnz (by omega)) (gfz (by omega)) (Nat.le_of_ble_eq_true rfl) dJ4_setColor_6 (fun H locs hG hS => ?_)
    obtain ⟨cc_3, ecc_3⟩ : ∃ z : Nat → Int, z = va_up C z1 c9 := ⟨_, rfl⟩
    have hTH3 : TH (gup σ z1 (tg, gO 18 ((teF K Vv l_ r_ p_ C z1).set 5 (.int (iI c9))))) tg mp (tIn n ad ps) K Vv l_ r_ p_ cc_3 rt es ks sz md := by rw [ecc_3]; exact hTH.pC hD_z1 c9 (by omega)
    have hkp3 : gKeep (fun t => t = tg) σ (gup σ z1 (tg, gO 18 ((teF K Vv l_ r_ p_ C z1).set 5 (.int (iI c9))))) := hkp.tr (gKeep.up (hTH.2.1 _ hD_z1) rfl)
    generalize (gup σ z1 (tg, gO 18 ((teF K Vv l_ r_ p_ C z1).set 5 (.int (iI c9))))) = σ3 at hG hTH3 hkp3
    exact g_vret hx hb hr hlocks hQ hG hS (Nat.zero_le _) (Nat.zero_le _) ⟨rfl, by rw [ho2]; show TH σ3 tg mp (tIn n ad ps) K Vv l_ r_ p_ (va_up C z1 c9) rt es ks sz md; rw [← ecc_3]; exact hTH3, hkp3⟩ dJ4_setColor_9

