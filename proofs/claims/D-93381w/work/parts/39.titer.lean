theorem mJ3_init (l : Launch) (X : gX) (σ : gS) (z : Nat) : gMet l X yJ3_init cJ3_init 1 none 1 0 0 20 σ [.ref z] (oV (fun σ' => σ = σ')) := by
  refine gMet.of (by decide) (Nat.le_of_ble_eq_true rfl) ?_
  intro pp ee ss mm args below meth cd Q H locs ls hargs hx hb hr hlocks hml hown hnm hts hK hG hS hQ hl
  have hown : ss.vm.findClass RJ3 = some mm.cls := hown
  have hl : lv_has ls 1 [(0, .ref z)] := hl
  refine lv_aload_n hx hb dJ3_init_0 rfl (lv_at hl 0 rfl) ?_
  refine W.objInit hx hb hown (hts _ q144) (hts _ q123) (hts _ q124) rfl (by rw [hml]; exact hl.1) rfl dJ3_init_1 (Nat.le_of_ble_eq_true rfl) (Nat.le_of_ble_eq_true rfl) ?_
  refine W.eq (g2 := F0 mm 4 ls []) rfl ?_
  exact g_vret hx hb hr hlocks hQ hG hS (Nat.zero_le _) (Nat.zero_le _) ⟨rfl, rfl⟩ dJ3_init_4

theorem mJ0_init (l : Launch) (X : gX) (σ : gS) (z : Nat) : gMet l X yJ0_init cJ0_init 1 none 1 0 0 20 σ [.ref z] (oV (fun σ' => σ = σ')) := by
  refine gMet.of (by decide) (Nat.le_of_ble_eq_true rfl) ?_
  intro pp ee ss mm args below meth cd Q H locs ls hargs hx hb hr hlocks hml hown hnm hts hK hG hS hQ hl
  have hown : ss.vm.findClass RJ0 = some mm.cls := hown
  have hl : lv_has ls 1 [(0, .ref z)] := hl
  refine lv_aload_n hx hb dJ0_init_0 rfl (lv_at hl 0 rfl) ?_
  refine W.objInit hx hb hown (hts _ q181) (hts _ q123) (hts _ q124) rfl (by rw [hml]; exact hl.1) rfl dJ0_init_1 (Nat.le_of_ble_eq_true rfl) (Nat.le_of_ble_eq_true rfl) ?_
  refine W.eq (g2 := F0 mm 4 ls []) rfl ?_
  exact g_vret hx hb hr hlocks hQ hG hS (Nat.zero_le _) (Nat.zero_le _) ⟨rfl, rfl⟩ dJ0_init_4

theorem mJ1_init (l : Launch) (X : gX) (σ : gS) (z : Nat) : gMet l X yJ1_init cJ1_init 1 none 2 0 0 40 σ [.ref z] (oV (fun σ' => σ = σ')) := by
  refine gMet.of (by decide) (Nat.le_of_ble_eq_true rfl) ?_
  intro pp ee ss mm args below meth cd Q H locs ls hargs hx hb hr hlocks hml hown hnm hts hK hG hS hQ hl
  have hown : ss.vm.findClass RJ1 = some mm.cls := hown
  have hl : lv_has ls 1 [(0, .ref z)] := hl
  refine lv_aload_n hx hb dJ1_init_0 rfl (lv_at hl 0 rfl) ?_
  refine g_callI (As := []) (rest := []) 0 hx hb hml hown hts hK hG hS hl.1 (mJ0_init l X σ z) q178 q179 q71 q180 rfl (by decide +kernel) rfl ⟨Nat.le_of_ble_eq_true rfl, Nat.le_of_ble_eq_true rfl⟩ ⟨Nat.le_of_ble_eq_true rfl, Nat.le_of_ble_eq_true rfl⟩ (Nat.le_of_ble_eq_true rfl) dJ1_init_1 (kV (fun σr1 H locs hp hG hS => ?_))
  obtain rfl := hp
  exact g_vret hx hb hr hlocks hQ hG hS (Nat.zero_le _) (Nat.zero_le _) ⟨rfl, rfl⟩ dJ1_init_4

theorem mJ4_init (l : Launch) (X : gX) (σ : gS) (z tz : Nat)  (hz : σ z = some (tz, gO 13 [.null, .null, .null, .null, .int (iI 0), .int (iI 0), .null, .null, .null])) : gMet l X yJ4_init cJ4_init 1 none 2 0 0 40 σ [.ref z] (oV (fun σ' => σ' = gup σ z (tz, gO 13 [.null, .null, .null, .null, .int (iI 0), .int (iI 0), .null, .null, .null]))) := by
  refine gMet.of (by decide) (Nat.le_of_ble_eq_true rfl) ?_
  intro pp ee ss mm args below meth cd Q H locs ls hargs hx hb hr hlocks hml hown hnm hts hK hG hS hQ hl
  have hown : ss.vm.findClass RJ4 = some mm.cls := hown
  have hl : lv_has ls 1 [(0, .ref z)] := hl
  refine lv_aload_n hx hb dJ4_init_0 rfl (lv_at hl 0 rfl) ?_
  refine g_callI (As := []) (rest := []) 0 hx hb hml hown hts hK hG hS hl.1 (mJ3_init l X σ z) q141 q142 q74 q143 rfl (by decide +kernel) rfl ⟨Nat.le_of_ble_eq_true rfl, Nat.le_of_ble_eq_true rfl⟩ ⟨Nat.le_of_ble_eq_true rfl, Nat.le_of_ble_eq_true rfl⟩ (Nat.le_of_ble_eq_true rfl) dJ4_init_1 (kV (fun σr1 H locs hp hG hS => ?_))
  obtain rfl := hp
  refine lv_aload_n hx hb dJ4_init_4 rfl (lv_at hl 0 rfl) ?_
  refine g_iconst hx hb dJ4_init_5 ?_
  refine g_put (C := RJ4) (T := TJ4) (N := 9) (ty0 := tyJ4) (v := .int (iI 0)) hx hb hts hown hK hG hS hz rfl in_J4 tyJ4_ok nmJ4 4 (by decide) q147 rfl (by decide) rfl rfl (Nat.le_of_ble_eq_true rfl) dJ4_init_6 (fun H locs hG hS => ?_)
  have hs2 : (gup σ z (tz, gO 13 ([.null, .null, .null, .null, .int (iI 0), .int (iI 0), .null, .null, .null].set 4 (.int (iI 0))))) = gup σ z (tz, gO 13 [.null, .null, .null, .null, .int (iI 0), .int (iI 0), .null, .null, .null]) := by rfl
  have hL2 : (gup σ z (tz, gO 13 ([.null, .null, .null, .null, .int (iI 0), .int (iI 0), .null, .null, .null].set 4 (.int (iI 0))))) z = some (tz, gO 13 [.null, .null, .null, .null, .int (iI 0), .int (iI 0), .null, .null, .null]) := gup_s
  generalize (gup σ z (tz, gO 13 ([.null, .null, .null, .null, .int (iI 0), .int (iI 0), .null, .null, .null].set 4 (.int (iI 0))))) = σ2 at hG hs2 hL2
  refine lv_aload_n hx hb dJ4_init_9 rfl (lv_at hl 0 rfl) ?_
  refine g_iconst hx hb dJ4_init_10 ?_
  refine g_put (C := RJ4) (T := TJ4) (N := 9) (ty0 := tyJ4) (v := .int (iI 0)) hx hb hts hown hK hG hS hL2 rfl in_J4 tyJ4_ok nmJ4 5 (by decide) q148 rfl (by decide) rfl rfl (Nat.le_of_ble_eq_true rfl) dJ4_init_11 (fun H locs hG hS => ?_)
  have hs3 : (gup σ2 z (tz, gO 13 ([.null, .null, .null, .null, .int (iI 0), .int (iI 0), .null, .null, .null].set 5 (.int (iI 0))))) = gup σ z (tz, gO 13 [.null, .null, .null, .null, .int (iI 0), .int (iI 0), .null, .null, .null]) := by rw [hs2, gup_gup]; rfl
  have hL3 : (gup σ2 z (tz, gO 13 ([.null, .null, .null, .null, .int (iI 0), .int (iI 0), .null, .null, .null].set 5 (.int (iI 0))))) z = some (tz, gO 13 [.null, .null, .null, .null, .int (iI 0), .int (iI 0), .null, .null, .null]) := gup_s
  generalize (gup σ2 z (tz, gO 13 ([.null, .null, .null, .null, .int (iI 0), .int (iI 0), .null, .null, .null].set 5 (.int (iI 0))))) = σ3 at hG hs3 hL3
  refine lv_aload_n hx hb dJ4_init_14 rfl (lv_at hl 0 rfl) ?_
  refine lv_null hx hb dJ4_init_15 ?_
  refine g_putF (C := RJ4) (T := TJ4) (N := 9) (ty0 := tyJ4) (v := .null) hx hb hts hown hK hG hS hL3 rfl in_J4 tyJ4_ok nmJ4 2 (by decide) q145 rfl (by decide) hnm rfl rfl rfl (Nat.le_of_ble_eq_true rfl) dJ4_init_16 (fun H locs hG hS => ?_)
  have hs4 : (gup σ3 z (tz, gO 13 ([.null, .null, .null, .null, .int (iI 0), .int (iI 0), .null, .null, .null].set 2 (.null)))) = gup σ z (tz, gO 13 [.null, .null, .null, .null, .int (iI 0), .int (iI 0), .null, .null, .null]) := by rw [hs3, gup_gup]; rfl
  have hL4 : (gup σ3 z (tz, gO 13 ([.null, .null, .null, .null, .int (iI 0), .int (iI 0), .null, .null, .null].set 2 (.null)))) z = some (tz, gO 13 [.null, .null, .null, .null, .int (iI 0), .int (iI 0), .null, .null, .null]) := gup_s
  generalize (gup σ3 z (tz, gO 13 ([.null, .null, .null, .null, .int (iI 0), .int (iI 0), .null, .null, .null].set 2 (.null)))) = σ4 at hG hs4 hL4
  exact g_vret hx hb hr hlocks hQ hG hS (Nat.zero_le _) (Nat.zero_le _) ⟨rfl, hs4⟩ dJ4_init_19

set_option maxHeartbeats 4000000 in
theorem mJ4_clear (l : Launch) (X : gX) (σ : gS) (tg mp n : Nat) (ad ps : Nat → Nat) (K : Nat → Nat) (Vv l_ r_ p_ : Nat → Option Nat) (C : Nat → Int) (rt es ks : Option Nat) (sz md : Int) (hTH : TH σ tg mp (tIn n ad ps) K Vv l_ r_ p_ C rt es ks sz md)  : gMet l X yJ4_clear cJ4_clear 1 none 0 0 0 0 σ [.ref mp] (oV (fun σ' => TH σ' tg mp (tIn n ad ps) K Vv l_ r_ p_ C none es ks 0 (md + 1) ∧ gKeep (fun t => t = tg) σ σ')) := by
  refine gMet.of (by decide) (Nat.le_of_ble_eq_true rfl) ?_
  intro pp ee ss mm args below meth cd Q H locs ls hargs hx hb hr hlocks hml hown hnm hts hK hG hS hQ hl
  have hown : ss.vm.findClass RJ4 = some mm.cls := hown
  have hl : lv_has ls 1 [(0, .ref mp)] := hl
  have hkp : gKeep (fun t => t = tg) σ σ := gKeep.rf
  refine lv_aload_n hx hb dJ4_clear_0 rfl (lv_at hl 0 rfl) ?_
  refine lv_dup hx hb dJ4_clear_1 rfl ?_
  refine g_get (C := RJ4) (T := TJ4) (N := 9) (v := .int (iI md)) hx hb hts hown hK hG hTH.1 rfl in_J4 5 (by decide) q148 rfl rfl dJ4_clear_2 ?_
  refine g_iconst hx hb dJ4_clear_5 ?_
  refine g_iadd hx hb dJ4_clear_6 ?_
  refine g_put (C := RJ4) (T := TJ4) (N := 9) (ty0 := tyJ4) (v := .int (iI (md + 1))) hx hb hts hown hK hG hS hTH.1 rfl in_J4 tyJ4_ok nmJ4 5 (by decide) q148 rfl (by decide) rfl rfl (Nat.le_of_ble_eq_true rfl) dJ4_clear_7 (fun H locs hG hS => ?_)
  have hTH1 : TH (gup σ mp (tg, gO 13 ((tmF rt es ks sz md).set 5 (.int (iI (md + 1)))))) tg mp (tIn n ad ps) K Vv l_ r_ p_ C rt es ks sz (md + 1) := hTH.map rfl
  have hkp1 : gKeep (fun t => t = tg) σ (gup σ mp (tg, gO 13 ((tmF rt es ks sz md).set 5 (.int (iI (md + 1)))))) := hkp.tr (gKeep.up hTH.1 rfl)
  generalize (gup σ mp (tg, gO 13 ((tmF rt es ks sz md).set 5 (.int (iI (md + 1)))))) = σ1 at hG hTH1 hkp1
  refine lv_aload_n hx hb dJ4_clear_10 rfl (lv_at hl 0 rfl) ?_
  refine g_iconst hx hb dJ4_clear_11 ?_
  refine g_put (C := RJ4) (T := TJ4) (N := 9) (ty0 := tyJ4) (v := .int (iI 0)) hx hb hts hown hK hG hS hTH1.1 rfl in_J4 tyJ4_ok nmJ4 4 (by decide) q147 rfl (by decide) rfl rfl (Nat.le_of_ble_eq_true rfl) dJ4_clear_12 (fun H locs hG hS => ?_)
  have hTH2 : TH (gup σ1 mp (tg, gO 13 ((tmF rt es ks sz (md + 1)).set 4 (.int (iI 0))))) tg mp (tIn n ad ps) K Vv l_ r_ p_ C rt es ks 0 (md + 1) := hTH1.map rfl
  have hkp2 : gKeep (fun t => t = tg) σ (gup σ1 mp (tg, gO 13 ((tmF rt es ks sz (md + 1)).set 4 (.int (iI 0))))) := hkp1.tr (gKeep.up hTH1.1 rfl)
  generalize (gup σ1 mp (tg, gO 13 ((tmF rt es ks sz (md + 1)).set 4 (.int (iI 0))))) = σ2 at hG hTH2 hkp2
  refine lv_aload_n hx hb dJ4_clear_15 rfl (lv_at hl 0 rfl) ?_
  refine lv_null hx hb dJ4_clear_16 ?_
  refine g_put (C := RJ4) (T := TJ4) (N := 9) (ty0 := tyJ4) (v := .null) hx hb hts hown hK hG hS hTH2.1 rfl in_J4 tyJ4_ok nmJ4 3 (by decide) q146 rfl (by decide) rfl rfl (Nat.le_of_ble_eq_true rfl) dJ4_clear_17 (fun H locs hG hS => ?_)
  have hTH3 : TH (gup σ2 mp (tg, gO 13 ((tmF rt es ks 0 (md + 1)).set 3 (.null)))) tg mp (tIn n ad ps) K Vv l_ r_ p_ C none es ks 0 (md + 1) := hTH2.map rfl
  have hkp3 : gKeep (fun t => t = tg) σ (gup σ2 mp (tg, gO 13 ((tmF rt es ks 0 (md + 1)).set 3 (.null)))) := hkp2.tr (gKeep.up hTH2.1 rfl)
  generalize (gup σ2 mp (tg, gO 13 ((tmF rt es ks 0 (md + 1)).set 3 (.null)))) = σ3 at hG hTH3 hkp3
  exact g_vret hx hb hr hlocks hQ hG hS (Nat.zero_le _) (Nat.zero_le _) ⟨rfl, hTH3, hkp3⟩ dJ4_clear_20

set_option maxHeartbeats 4000000 in
theorem mJ4_remove (l : Launch) (X : gX) (σ : gS) (tg mp n : Nat) (ad ps : Nat → Nat) (K : Nat → Nat) (Vv l_ r_ p_ : Nat → Option Nat) (C : Nat → Int) (rt es ks : Option Nat) (sz md : Int) (hTH : TH σ tg mp (tIn n ad ps) K Vv l_ r_ p_ C rt es ks sz md) (lo hi : Nat → Nat) (hok : tOk n ad ps l_ r_ p_ lo hi rt) (kt : Nat) (hkt : ¬ kt = tg) (kc : Nat → Int) (hKc : ∀ a, tIn n ad ps a → σ (K a) = some (kt, gO 11 [.int (iI (kc a))]) ∧ 0 ≤ kc a ∧ kc a ≤ 2000) (hko : kOk n ad kc) (κ t9 : Nat) (k9 : Int) (hκ : σ κ = some (t9, gO 11 [.int (iI k9)])) (hκt : ¬ t9 = tg) (hk9 : 0 ≤ k9 ∧ k9 ≤ 2000) : gMet l X yJ4_remove cJ4_remove 4 (some (.object "java/lang/Object")) 4 0 0 87 σ [.ref mp, .ref κ] (oA (fun v σ' => (∃ a, tIn n ad ps a ∧ kc a = k9 ∧ v = va_rf (Vv a) ∧ ∃ (ad2 ps2 : Nat → Nat) (K2 : Nat → Nat) (V2 l2 r2 p2 : Nat → Option Nat) (C2 : Nat → Int) (rt2 : Option Nat) (lo2 hi2 : Nat → Nat), TH σ' tg mp (tIn (n - 1) ad2 ps2) K2 V2 l2 r2 p2 C2 rt2 es ks (sz - 1) (md + 1) ∧ tOk (n - 1) ad2 ps2 l2 r2 p2 lo2 hi2 rt2 ∧ gKeep (fun t => t = tg) σ σ' ∧ ∀ i, i < n - 1 → K2 (ad2 i) = K (tAx (ps a) ad i) ∧ V2 (ad2 i) = Vv (tAx (ps a) ad i)) ∨ v = .null ∧ (∀ a, tIn n ad ps a → kc a ≠ k9) ∧ σ = σ')) := by
  refine gMet.of (by decide) (Nat.le_of_ble_eq_true rfl) ?_
  intro pp ee ss mm args below meth cd Q H locs ls hargs hx hb hr hlocks hml hown hnm hts hK hG hS hQ hl
  have hown : ss.vm.findClass RJ4 = some mm.cls := hown
  have hl : lv_has ls 4 [(0, .ref mp), (1, .ref κ)] := hl
  have hkp : gKeep (fun t => t = tg) σ σ := gKeep.rf
  refine lv_aload_n hx hb dJ4_remove_0 rfl (lv_at hl 0 rfl) ?_
  refine lv_aload_n hx hb dJ4_remove_1 rfl (lv_at hl 1 rfl) ?_
  refine g_callV (As := [.ref κ]) (rest := []) 1 hx hb hml hown hts hK hG hS hl.1 (mJ4_getEntry_X11 l X σ tg mp n ad ps K Vv l_ r_ p_ C rt es ks sz md hTH lo hi hok kt hkt kc hKc hko κ _ k9 (hkp _ _ _ hκ hκt) hκt (by omega)) hTH.1 rfl q1125 q1126 q1127 q75 q1128 (by decide +kernel) rfl ⟨Nat.le_of_ble_eq_true rfl, Nat.le_of_ble_eq_true rfl⟩ ⟨Nat.le_of_ble_eq_true rfl, Nat.le_of_ble_eq_true rfl⟩ (Nat.le_of_ble_eq_true rfl) dJ4_remove_2 (kA (fun r1 σr1 H locs hp hG hS => ?_))
  obtain ⟨⟨og1, rfl, hg1, gg1⟩, rfl⟩ := hp
  refine g_astore_nR (lv' := [(2, va_rf og1), (0, .ref mp), (1, .ref κ)]) hx hb dJ4_remove_5 rfl hl (by decide) rfl (fun ls hl => ?_)
  refine g_aload_nR hx hb dJ4_remove_6 rfl (lv_at hl 0 rfl) ?_
  refine g_ifnonnullR (tgt := 12) hx hb dJ4_remove_7 (by decide) (fun z2 ho3 => ?_) (fun ho3 => ?_)
  · have hl : lv_has ls 4 [(2, .ref z2), (0, .ref mp), (1, .ref κ)] := by first | exact hl | (rw [ho3] at hl; exact hl)
    have hD_z2 := (hg1 z2 ho3).1
    refine lv_aload_n hx hb dJ4_remove_12 rfl (lv_at hl 0 rfl) ?_
    refine g_get (C := RJ25) (T := TJ25) (N := 6) (v := va_rf (Vv z2)) hx hb hts hown hK hG (hTH.2.1 _ hD_z2) rfl in_J25 1 (by decide) q1179 rfl rfl dJ4_remove_13 ?_
    refine g_astore_nR (lv' := [(3, va_rf (Vv z2)), (2, .ref z2), (0, .ref mp), (1, .ref κ)]) hx hb dJ4_remove_16 rfl hl (by decide) rfl (fun ls hl => ?_)
    refine lv_aload_n hx hb dJ4_remove_17 rfl (lv_at hl 2 rfl) ?_
    refine lv_aload_n hx hb dJ4_remove_18 rfl (lv_at hl 1 rfl) ?_
    refine g_callV (As := [.ref z2]) (rest := []) 1 hx hb hml hown hts hK hG hS hl.1 (mJ4_deleteEntry l X σ tg mp n ad ps K Vv l_ r_ p_ C rt es ks sz md hTH lo hi hok z2 hD_z2) hTH.1 rfl q1546 q1548 qs40 q75 q1549 (by decide +kernel) rfl ⟨Nat.le_of_ble_eq_true rfl, Nat.le_of_ble_eq_true rfl⟩ ⟨Nat.le_of_ble_eq_true rfl, Nat.le_of_ble_eq_true rfl⟩ (Nat.le_of_ble_eq_true rfl) dJ4_remove_19 (kV (fun σr4 H locs hp hG hS => ?_))
    refine g_aload_nR hx hb dJ4_remove_22 rfl (lv_at hl 0 rfl) ?_
    exact g_aret hx hb hr (by first | exact Or.inl ⟨_, rfl⟩ | exact Or.inr ⟨_, rfl⟩) (by first | exact Or.inl rfl | exact Or.inr ⟨_, rfl⟩ | assumption | exact va_rf_or _) hlocks hQ hG hS (Nat.zero_le _) (Nat.zero_le _) ⟨_, rfl, Or.inl ⟨z2, hD_z2, (hg1 z2 ho3).2, rfl, hp⟩⟩ dJ4_remove_23
  · have hl : lv_has ls 4 [(2, .null), (0, .ref mp), (1, .ref κ)] := by first | exact hl | (rw [ho3] at hl; exact hl)
    refine lv_null hx hb dJ4_remove_10 ?_
    exact g_aret hx hb hr (by first | exact Or.inl ⟨_, rfl⟩ | exact Or.inr ⟨_, rfl⟩) (by first | exact Or.inl rfl | exact Or.inr ⟨_, rfl⟩ | assumption | exact va_rf_or _) hlocks hQ hG hS (Nat.zero_le _) (Nat.zero_le _) ⟨_, rfl, Or.inr ⟨rfl, gg1 ho3, rfl⟩⟩ dJ4_remove_11

theorem mJ27_init_k (l : Launch) (X : gX) (σ : gS) (z tz : Nat) (tg mp n : Nat) (ad ps : Nat → Nat) (K : Nat → Nat) (Vv l_ r_ p_ : Nat → Option Nat) (C : Nat → Int) (rt es ks : Option Nat) (sz md : Int) (hTH : TH σ tg mp (tIn n ad ps) K Vv l_ r_ p_ C rt es ks sz md) (htz : ¬ tg = tz) (q9 : Option Nat) (hz : σ z = some (tz, gO 21 [.null, .null, .int (iI 0), .null])) : gMet l X yJ27_init cJ27_init 3 none 1 0 0 20 σ [.ref z, .ref mp, va_rf q9] (oV (fun σ' => σ' = gup σ z (tz, gO 21 [va_rf q9, .null, .int (iI md), .ref mp]))) := by
  refine gMet.of (by decide) (by cases q9 <;> exact Nat.le_of_ble_eq_true rfl) ?_
  intro pp ee ss mm args below meth cd Q H locs ls hargs hx hb hr hlocks hml hown hnm hts hK hG hS hQ hl
  have hown : ss.vm.findClass RJ27 = some mm.cls := hown
  have hl : lv_has ls 3 [(0, .ref z), (1, .ref mp), (2, va_rf q9)] := by cases q9 <;> exact hl
  refine lv_aload_n hx hb dJ27_init_0 rfl (lv_at hl 0 rfl) ?_
  refine lv_aload_n hx hb dJ27_init_1 rfl (lv_at hl 1 rfl) ?_
  refine g_putF (C := RJ29) (T := TJ29) (N := 4) (ty0 := tyJ29) (v := .ref mp) hx hb hts hown hK hG hS hz rfl in_J29 tyJ29_ok nmJ29 3 (by decide) q1277 rfl (by decide) hnm rfl rfl rfl (Nat.le_of_ble_eq_true rfl) dJ27_init_2 (fun H locs hG hS => ?_)
  have hs1 : (gup σ z (tz, gO 21 ([.null, .null, .int (iI 0), .null].set 3 (.ref mp)))) = gup σ z (tz, gO 21 [.null, .null, .int (iI 0), .ref mp]) := by rfl
  have hL1 : (gup σ z (tz, gO 21 ([.null, .null, .int (iI 0), .null].set 3 (.ref mp)))) z = some (tz, gO 21 [.null, .null, .int (iI 0), .ref mp]) := gup_s
  generalize (gup σ z (tz, gO 21 ([.null, .null, .int (iI 0), .null].set 3 (.ref mp)))) = σ1 at hG hs1 hL1
  have hTH1 : TH σ1 tg mp (tIn n ad ps) K Vv l_ r_ p_ C rt es ks sz md := by rw [hs1]; exact hTH.keep (tg' := fun t => t = tz) (gKeep.up hz rfl) htz
  refine lv_aload_n hx hb dJ27_init_5 rfl (lv_at hl 0 rfl) ?_
  refine W.objInit hx hb hown (hts _ q1273) (hts _ q123) (hts _ q124) rfl (by rw [hml]; exact hl.1) rfl dJ27_init_6 (Nat.le_of_ble_eq_true rfl) (Nat.le_of_ble_eq_true rfl) ?_
  refine W.eq (g2 := F0 mm 9 ls []) rfl ?_
  refine lv_aload_n hx hb dJ27_init_9 rfl (lv_at hl 0 rfl) ?_
  refine lv_aload_n hx hb dJ27_init_10 rfl (lv_at hl 1 rfl) ?_
  refine g_getN (C := RJ4) (T := TJ4) (N := 9) (v := .int (iI md)) hx hb hts hown hK hG hTH1.1 rfl in_J4 5 (by decide) q149 rfl rfl dJ27_init_11 ?_
  refine g_put (C := RJ29) (T := TJ29) (N := 4) (ty0 := tyJ29) (v := .int (iI md)) hx hb hts hown hK hG hS hL1 rfl in_J29 tyJ29_ok nmJ29 2 (by decide) q1276 rfl (by decide) rfl rfl (Nat.le_of_ble_eq_true rfl) dJ27_init_14 (fun H locs hG hS => ?_)
  have hs2 : (gup σ1 z (tz, gO 21 ([.null, .null, .int (iI 0), .ref mp].set 2 (.int (iI md))))) = gup σ z (tz, gO 21 [.null, .null, .int (iI md), .ref mp]) := by rw [hs1, gup_gup]; rfl
  have hL2 : (gup σ1 z (tz, gO 21 ([.null, .null, .int (iI 0), .ref mp].set 2 (.int (iI md))))) z = some (tz, gO 21 [.null, .null, .int (iI md), .ref mp]) := gup_s
  generalize (gup σ1 z (tz, gO 21 ([.null, .null, .int (iI 0), .ref mp].set 2 (.int (iI md))))) = σ2 at hG hs2 hL2
  have hTH2 : TH σ2 tg mp (tIn n ad ps) K Vv l_ r_ p_ C rt es ks sz md := by rw [hs2]; exact hTH.keep (tg' := fun t => t = tz) (gKeep.up hz rfl) htz
  refine lv_aload_n hx hb dJ27_init_17 rfl (lv_at hl 0 rfl) ?_
  refine lv_null hx hb dJ27_init_18 ?_
  refine g_put (C := RJ29) (T := TJ29) (N := 4) (ty0 := tyJ29) (v := .null) hx hb hts hown hK hG hS hL2 rfl in_J29 tyJ29_ok nmJ29 1 (by decide) q1275 rfl (by decide) rfl rfl (Nat.le_of_ble_eq_true rfl) dJ27_init_19 (fun H locs hG hS => ?_)
  have hs3 : (gup σ2 z (tz, gO 21 ([.null, .null, .int (iI md), .ref mp].set 1 (.null)))) = gup σ z (tz, gO 21 [.null, .null, .int (iI md), .ref mp]) := by rw [hs2, gup_gup]; rfl
  have hL3 : (gup σ2 z (tz, gO 21 ([.null, .null, .int (iI md), .ref mp].set 1 (.null)))) z = some (tz, gO 21 [.null, .null, .int (iI md), .ref mp]) := gup_s
  generalize (gup σ2 z (tz, gO 21 ([.null, .null, .int (iI md), .ref mp].set 1 (.null)))) = σ3 at hG hs3 hL3
  have hTH3 : TH σ3 tg mp (tIn n ad ps) K Vv l_ r_ p_ C rt es ks sz md := by rw [hs3]; exact hTH.keep (tg' := fun t => t = tz) (gKeep.up hz rfl) htz
  refine lv_aload_n hx hb dJ27_init_22 rfl (lv_at hl 0 rfl) ?_
  refine g_aload_nR hx hb dJ27_init_23 rfl (lv_at hl 2 rfl) ?_
  refine g_put (C := RJ29) (T := TJ29) (N := 4) (ty0 := tyJ29) (v := va_rf q9) hx hb hts hown hK hG hS hL3 rfl in_J29 tyJ29_ok nmJ29 0 (by decide) q1274 rfl (by decide) (nrf _) (frf _) (Nat.le_of_ble_eq_true rfl) dJ27_init_24 (fun H locs hG hS => ?_)
  have hs4 : (gup σ3 z (tz, gO 21 ([.null, .null, .int (iI md), .ref mp].set 0 (va_rf q9)))) = gup σ z (tz, gO 21 [va_rf q9, .null, .int (iI md), .ref mp]) := by rw [hs3, gup_gup]; rfl
  have hL4 : (gup σ3 z (tz, gO 21 ([.null, .null, .int (iI md), .ref mp].set 0 (va_rf q9)))) z = some (tz, gO 21 [va_rf q9, .null, .int (iI md), .ref mp]) := gup_s
  generalize (gup σ3 z (tz, gO 21 ([.null, .null, .int (iI md), .ref mp].set 0 (va_rf q9)))) = σ4 at hG hs4 hL4
  have hTH4 : TH σ4 tg mp (tIn n ad ps) K Vv l_ r_ p_ C rt es ks sz md := by rw [hs4]; exact hTH.keep (tg' := fun t => t = tz) (gKeep.up hz rfl) htz
  exact g_vret hx hb hr hlocks hQ hG hS (Nat.zero_le _) (Nat.zero_le _) ⟨rfl, hs4⟩ dJ27_init_27

theorem mJ29_init_k (l : Launch) (X : gX) (σ : gS) (z tz : Nat) (tg mp n : Nat) (ad ps : Nat → Nat) (K : Nat → Nat) (Vv l_ r_ p_ : Nat → Option Nat) (C : Nat → Int) (rt es ks : Option Nat) (sz md : Int) (hTH : TH σ tg mp (tIn n ad ps) K Vv l_ r_ p_ C rt es ks sz md) (htz : ¬ tg = tz) (q9 : Option Nat) (hz : σ z = some (tz, gO 21 [.null, .null, .int (iI 0), .null])) : gMet l X yJ29_init cJ29_init 3 none 2 0 0 42 σ [.ref z, .ref mp, va_rf q9] (oV (fun σ' => σ' = gup σ z (tz, gO 21 [va_rf q9, .null, .int (iI md), .ref mp]))) := by
  refine gMet.of (by decide) (by cases q9 <;> exact Nat.le_of_ble_eq_true rfl) ?_
  intro pp ee ss mm args below meth cd Q H locs ls hargs hx hb hr hlocks hml hown hnm hts hK hG hS hQ hl
  have hown : ss.vm.findClass RJ29 = some mm.cls := hown
  have hl : lv_has ls 3 [(0, .ref z), (1, .ref mp), (2, va_rf q9)] := by cases q9 <;> exact hl
  refine lv_aload_n hx hb dJ29_init_0 rfl (lv_at hl 0 rfl) ?_
  refine lv_aload_n hx hb dJ29_init_1 rfl (lv_at hl 1 rfl) ?_
  refine g_aload_nR hx hb dJ29_init_2 rfl (lv_at hl 2 rfl) ?_
  refine g_callI (As := [.ref mp, va_rf q9]) (rest := []) 2 hx hb hml hown hts hK hG hS hl.1 (mJ27_init_k l X σ z _ tg mp n ad ps K Vv l_ r_ p_ C rt es ks sz md hTH htz q9 hz) q1304 q1271 q110 q1272 rfl (by decide +kernel) rfl ⟨Nat.le_of_ble_eq_true rfl, Nat.le_of_ble_eq_true rfl⟩ ⟨Nat.le_of_ble_eq_true rfl, Nat.le_of_ble_eq_true rfl⟩ (Nat.le_of_ble_eq_true rfl) dJ29_init_3 (kV (fun σr1 H locs hp hG hS => ?_))
  have hp : σr1 = (gup σ z (tz, gO 21 [va_rf q9, .null, .int (iI md), .ref mp])) := hp
  have hL2 : σr1 z = some (tz, gO 21 [va_rf q9, .null, .int (iI md), .ref mp]) := by rw [hp]; exact gup_s
  exact g_vret hx hb hr hlocks hQ hG hS (Nat.zero_le _) (Nat.zero_le _) ⟨rfl, hp⟩ dJ29_init_6

set_option maxHeartbeats 4000000 in
theorem mJ27_hasNext_k (l : Launch) (X : gX) (σ : gS) (it ti mp : Nat) (md : Int) (nx ls9 : Option Nat) (hit : σ it = some (ti, gO 21 [va_rf nx, va_rf ls9, .int (iI md), .ref mp])) : gMet l X yJ27_hasNext cJ27_hasNext 1 (some .boolean) 0 0 0 0 σ [.ref it] (oI (fun r σ' => (r = 1 ∧ (∃ z, nx = some z) ∨ r = 0 ∧ nx = none) ∧ σ = σ')) := by
  refine gMet.of (by decide) (Nat.le_of_ble_eq_true rfl) ?_
  intro pp ee ss mm args below meth cd Q H locs ls hargs hx hb hr hlocks hml hown hnm hts hK hG hS hQ hl
  have hown : ss.vm.findClass RJ27 = some mm.cls := hown
  have hl : lv_has ls 1 [(0, .ref it)] := hl
  refine lv_aload_n hx hb dJ27_hasNext_0 rfl (lv_at hl 0 rfl) ?_
  refine g_get (C := RJ29) (T := TJ29) (N := 4) (v := va_rf nx) hx hb hts hown hK hG hit rfl in_J29 0 (by decide) q1274 rfl rfl dJ27_hasNext_1 ?_
  refine g_ifnullR (tgt := 11) hx hb dJ27_hasNext_4 (by decide) (fun ho2 => ?_) (fun z1 ho2 => ?_)
  · refine g_iconst hx hb dJ27_hasNext_11 ?_
    exact g_zret hx hb hr hlocks hQ hG hS (Nat.zero_le _) (Nat.zero_le _) (gnz (by omega)) ⟨_, rfl, Or.inr ⟨rfl, ho2⟩, rfl⟩ dJ27_hasNext_12
  · refine g_iconst hx hb dJ27_hasNext_7 ?_
    refine lv_goto (tgt := 12) hx hb dJ27_hasNext_8 (by decide) ?_
    exact g_zret hx hb hr hlocks hQ hG hS (Nat.zero_le _) (Nat.zero_le _) (gnz (by omega)) ⟨_, rfl, Or.inl ⟨rfl, z1, ho2⟩, rfl⟩ dJ27_hasNext_12

set_option maxHeartbeats 4000000 in
theorem mJ27_nextEntry_k (l : Launch) (X : gX) (σ : gS) (tg mp n : Nat) (ad ps : Nat → Nat) (K : Nat → Nat) (Vv l_ r_ p_ : Nat → Option Nat) (C : Nat → Int) (rt es ks : Option Nat) (sz md : Int) (hTH : TH σ tg mp (tIn n ad ps) K Vv l_ r_ p_ C rt es ks sz md) (lo hi : Nat → Nat) (hok : tOk n ad ps l_ r_ p_ lo hi rt) (a : Nat) (hDa : tIn n ad ps a) (it ti : Nat) (ls9 : Option Nat) (hit : σ it = some (ti, gO 21 [.ref a, va_rf ls9, .int (iI md), .ref mp])) : gMet l X yJ27_nextEntry cJ27_nextEntry 2 (some (.object "java/util/TreeMap$Entry")) 1 0 0 22 σ [.ref it] (oA (fun v σ' => v = .ref a ∧ σ' = (gup σ it (ti, gO 21 [va_rf (if ps a + 1 < n then some (ad (ps a + 1)) else none), .ref a, .int (iI md), .ref mp])))) := by
  refine gMet.of (by decide) (Nat.le_of_ble_eq_true rfl) ?_
  intro pp ee ss mm args below meth cd Q H locs ls hargs hx hb hr hlocks hml hown hnm hts hK hG hS hQ hl
  have hown : ss.vm.findClass RJ27 = some mm.cls := hown
  have hl : lv_has ls 2 [(0, .ref it)] := hl
  have hkp : gKeep (fun t => t = tg) σ σ := gKeep.rf
  refine lv_aload_n hx hb dJ27_nextEntry_0 rfl (lv_at hl 0 rfl) ?_
  refine g_get (C := RJ29) (T := TJ29) (N := 4) (v := .ref a) hx hb hts hown hK hG hit rfl in_J29 0 (by decide) q1274 rfl rfl dJ27_nextEntry_1 ?_
  refine lv_astore_n (lv' := [(1, .ref a), (0, .ref it)]) hx hb dJ27_nextEntry_4 rfl hl (by decide) rfl (fun ls hl => ?_)
  refine lv_aload_n hx hb dJ27_nextEntry_5 rfl (lv_at hl 0 rfl) ?_
  refine lv_ifnonnull (tgt := 17) hx hb dJ27_nextEntry_6 (by decide) ?_
  refine lv_aload_n hx hb dJ27_nextEntry_17 rfl (lv_at hl 1 rfl) ?_
  refine g_get (C := RJ29) (T := TJ29) (N := 4) (v := .ref mp) hx hb hts hown hK hG hit rfl in_J29 3 (by decide) q1277 rfl rfl dJ27_nextEntry_18 ?_
  refine g_getN (C := RJ4) (T := TJ4) (N := 9) (v := .int (iI md)) hx hb hts hown hK hG hTH.1 rfl in_J4 5 (by decide) q149 rfl rfl dJ27_nextEntry_21 ?_
  refine lv_aload_n hx hb dJ27_nextEntry_24 rfl (lv_at hl 1 rfl) ?_
  refine g_get (C := RJ29) (T := TJ29) (N := 4) (v := .int (iI md)) hx hb hts hown hK hG hit rfl in_J29 2 (by decide) q1276 rfl rfl dJ27_nextEntry_25 ?_
  refine g_icmp_eqS (tgt := 39) hx hb dJ27_nextEntry_28 (by decide) ?_
  refine lv_aload_n hx hb dJ27_nextEntry_39 rfl (lv_at hl 1 rfl) ?_
  refine lv_aload_n hx hb dJ27_nextEntry_40 rfl (lv_at hl 0 rfl) ?_
  refine g_callS (As := [.ref a]) (rest := [.ref it]) 1 hx hb hml hown hts hK hG hS hl.1 (mJ4_successor l X σ tg mp n ad ps K Vv l_ r_ p_ C rt es ks sz md hTH lo hi hok a hDa) q1380 q1381 q75 q1382 (by decide +kernel) rfl ⟨Nat.le_of_ble_eq_true rfl, Nat.le_of_ble_eq_true rfl⟩ ⟨Nat.le_of_ble_eq_true rfl, Nat.le_of_ble_eq_true rfl⟩ (Nat.le_of_ble_eq_true rfl) dJ27_nextEntry_41 (kA (fun r1 σr1 H locs hp hG hS => ?_))
  obtain ⟨rfl, hsuc, rfl⟩ := hp
  refine g_put (C := RJ29) (T := TJ29) (N := 4) (ty0 := tyJ29) (v := va_rf (if ps a + 1 < n then some (ad (ps a + 1)) else none)) hx hb hts hown hK hG hS hit rfl in_J29 tyJ29_ok nmJ29 0 (by decide) q1274 rfl (by decide) (nrf _) (frf _) (Nat.le_of_ble_eq_true rfl) dJ27_nextEntry_44 (fun H locs hG hS => ?_)
  have hs2 : (gup σ it (ti, gO 21 ([.ref a, va_rf ls9, .int (iI md), .ref mp].set 0 (va_rf (if ps a + 1 < n then some (ad (ps a + 1)) else none))))) = gup σ it (ti, gO 21 [va_rf (if ps a + 1 < n then some (ad (ps a + 1)) else none), va_rf ls9, .int (iI md), .ref mp]) := by rfl
  have hL2 : (gup σ it (ti, gO 21 ([.ref a, va_rf ls9, .int (iI md), .ref mp].set 0 (va_rf (if ps a + 1 < n then some (ad (ps a + 1)) else none))))) it = some (ti, gO 21 [va_rf (if ps a + 1 < n then some (ad (ps a + 1)) else none), va_rf ls9, .int (iI md), .ref mp]) := gup_s
  generalize (gup σ it (ti, gO 21 ([.ref a, va_rf ls9, .int (iI md), .ref mp].set 0 (va_rf (if ps a + 1 < n then some (ad (ps a + 1)) else none))))) = σ2 at hG hs2 hL2
  refine lv_aload_n hx hb dJ27_nextEntry_47 rfl (lv_at hl 1 rfl) ?_
  refine lv_aload_n hx hb dJ27_nextEntry_48 rfl (lv_at hl 0 rfl) ?_
  refine g_put (C := RJ29) (T := TJ29) (N := 4) (ty0 := tyJ29) (v := .ref a) hx hb hts hown hK hG hS hL2 rfl in_J29 tyJ29_ok nmJ29 1 (by decide) q1275 rfl (by decide) rfl rfl (Nat.le_of_ble_eq_true rfl) dJ27_nextEntry_49 (fun H locs hG hS => ?_)
  have hs3 : (gup σ2 it (ti, gO 21 ([va_rf (if ps a + 1 < n then some (ad (ps a + 1)) else none), va_rf ls9, .int (iI md), .ref mp].set 1 (.ref a)))) = gup σ it (ti, gO 21 [va_rf (if ps a + 1 < n then some (ad (ps a + 1)) else none), .ref a, .int (iI md), .ref mp]) := by rw [hs2, gup_gup]; rfl
  have hL3 : (gup σ2 it (ti, gO 21 ([va_rf (if ps a + 1 < n then some (ad (ps a + 1)) else none), va_rf ls9, .int (iI md), .ref mp].set 1 (.ref a)))) it = some (ti, gO 21 [va_rf (if ps a + 1 < n then some (ad (ps a + 1)) else none), .ref a, .int (iI md), .ref mp]) := gup_s
  generalize (gup σ2 it (ti, gO 21 ([va_rf (if ps a + 1 < n then some (ad (ps a + 1)) else none), va_rf ls9, .int (iI md), .ref mp].set 1 (.ref a)))) = σ3 at hG hs3 hL3
  refine lv_aload_n hx hb dJ27_nextEntry_52 rfl (lv_at hl 0 rfl) ?_
  exact g_aret hx hb hr (by first | exact Or.inl ⟨_, rfl⟩ | exact Or.inr ⟨_, rfl⟩) (by first | exact Or.inl rfl | exact Or.inr ⟨_, rfl⟩ | assumption | exact va_rf_or _) hlocks hQ hG hS (Nat.zero_le _) (Nat.zero_le _) ⟨_, rfl, rfl, hs3⟩ dJ27_nextEntry_53

set_option maxHeartbeats 4000000 in
theorem mJ29_next (l : Launch) (X : gX) (σ : gS) (tg mp n : Nat) (ad ps : Nat → Nat) (K : Nat → Nat) (Vv l_ r_ p_ : Nat → Option Nat) (C : Nat → Int) (rt es ks : Option Nat) (sz md : Int) (hTH : TH σ tg mp (tIn n ad ps) K Vv l_ r_ p_ C rt es ks sz md) (lo hi : Nat → Nat) (hok : tOk n ad ps l_ r_ p_ lo hi rt) (a : Nat) (hDa : tIn n ad ps a) (it ti : Nat) (ls9 : Option Nat) (hit : σ it = some (ti, gO 21 [.ref a, va_rf ls9, .int (iI md), .ref mp])) (htz : ¬ tg = ti) : gMet l X yJ29_next cJ29_next 1 (some (.object "java/lang/Object")) 2 0 0 43 σ [.ref it] (oA (fun v σ' => v = .ref (K a) ∧ σ' = (gup σ it (ti, gO 21 [va_rf (if ps a + 1 < n then some (ad (ps a + 1)) else none), .ref a, .int (iI md), .ref mp])))) := by
  refine gMet.of (by decide) (Nat.le_of_ble_eq_true rfl) ?_
  intro pp ee ss mm args below meth cd Q H locs ls hargs hx hb hr hlocks hml hown hnm hts hK hG hS hQ hl
  have hown : ss.vm.findClass RJ29 = some mm.cls := hown
  have hl : lv_has ls 1 [(0, .ref it)] := hl
  have hkp : gKeep (fun t => t = tg) σ σ := gKeep.rf
  refine lv_aload_n hx hb dJ29_next_0 rfl (lv_at hl 0 rfl) ?_
  refine g_callU (As := []) (rest := []) 0 hx hb hml hown hts hK hG hS hl.1 (mJ27_nextEntry_k l X σ tg mp n ad ps K Vv l_ r_ p_ C rt es ks sz md hTH lo hi hok a hDa it ti ls9 hit) hit rfl q1388 q1389 q1390 q1378 q110 q1378 q1379 rfl (by decide +kernel) rfl ⟨Nat.le_of_ble_eq_true rfl, Nat.le_of_ble_eq_true rfl⟩ ⟨Nat.le_of_ble_eq_true rfl, Nat.le_of_ble_eq_true rfl⟩ (Nat.le_of_ble_eq_true rfl) dJ29_next_1 (kA (fun r1 σr1 H locs hp hG hS => ?_))
  obtain ⟨rfl, hs9⟩ := hp
  have hTH9 : TH σr1 tg mp (tIn n ad ps) K Vv l_ r_ p_ C rt es ks sz md := by rw [hs9]; exact hTH.keep (tg' := fun t => t = ti) (gKeep.up hit rfl) htz
  refine g_get (C := RJ25) (T := TJ25) (N := 6) (v := .ref (K a)) hx hb hts hown hK hG (hTH9.2.1 _ hDa) rfl in_J25 0 (by decide) q1176 rfl rfl dJ29_next_4 ?_
  exact g_aret hx hb hr (by first | exact Or.inl ⟨_, rfl⟩ | exact Or.inr ⟨_, rfl⟩) (by first | exact Or.inl rfl | exact Or.inr ⟨_, rfl⟩ | assumption | exact va_rf_or _) hlocks hQ hG hS (Nat.zero_le _) (Nat.zero_le _) ⟨_, rfl, rfl, hs9⟩ dJ29_next_7

set_option maxHeartbeats 4000000 in
theorem mJ4_keyIterator (l : Launch) (X : gX) (σ : gS) (tg mp n : Nat) (ad ps : Nat → Nat) (K : Nat → Nat) (Vv l_ r_ p_ : Nat → Option Nat) (C : Nat → Int) (rt es ks : Option Nat) (sz md : Int) (hTH : TH σ tg mp (tIn n ad ps) K Vv l_ r_ p_ C rt es ks sz md) (lo hi : Nat → Nat) (hok : tOk n ad ps l_ r_ p_ lo hi rt) (htz : ¬ tg = 15) : gMet l X yJ4_keyIterator cJ4_keyIterator 1 (some (.object "java/util/Iterator")) 3 1 4 64 σ [.ref mp] (oA (fun v σ' => ∃ z, v = .ref z ∧ σ z = none ∧ σ' = gup σ z (15, gO 21 [va_rf (if 0 < n then some (ad (0)) else none), .null, .int (iI md), .ref mp]))) := by
  refine gMet.of (by decide) (Nat.le_of_ble_eq_true rfl) ?_
  intro pp ee ss mm args below meth cd Q H locs ls hargs hx hb hr hlocks hml hown hnm hts hK hG hS hQ hl
  have hown : ss.vm.findClass RJ4 = some mm.cls := hown
  have hl : lv_has ls 1 [(0, .ref mp)] := hl
  have hkp : gKeep (fun t => t = tg) σ σ := gKeep.rf
  refine g_new (ci := 21) (C := RJ29) (T := TJ29) (N := 4) (ty := tyJ29) (fs := [.null, .null, .int (iI 0), .null]) hx hb 15 hts hown hK hG hS rfl in_J29 tyJ29_ok q1298 q1299 q112 (fun j hj => match j, hj with | 0, _ => rfl | 1, _ => rfl | 2, _ => rfl | 3, _ => rfl | k9 + 4, h => absurd h (by omega)) (Nat.le_of_ble_eq_true rfl) (Nat.le_of_ble_eq_true rfl) dJ4_keyIterator_0 (fun nw1 H hznw1 hG hS => ?_)
  have hLnw1 : (gup σ nw1 (15, gO 21 [.null, .null, .int (iI 0), .null])) nw1 = some (15, gO 21 [.null, .null, .int (iI 0), .null]) := gup_s
  have hTH2 : TH (gup σ nw1 (15, gO 21 [.null, .null, .int (iI 0), .null])) tg mp (tIn n ad ps) K Vv l_ r_ p_ C rt es ks sz md := hTH.keep (tg' := fun _ => False) (gKeep.new hznw1) (fun h => h)
  have hkp2 : gKeep (fun t => t = tg) σ (gup σ nw1 (15, gO 21 [.null, .null, .int (iI 0), .null])) := hkp.tr (gKeep.new hznw1)
  generalize hgen2 : (gup σ nw1 (15, gO 21 [.null, .null, .int (iI 0), .null])) = σ2 at hG hLnw1 hTH2 hkp2
  refine lv_dup hx hb dJ4_keyIterator_3 rfl ?_
  refine lv_aload_n hx hb dJ4_keyIterator_4 rfl (lv_at hl 0 rfl) ?_
  refine lv_aload_n hx hb dJ4_keyIterator_5 rfl (lv_at hl 0 rfl) ?_
  refine g_callV (As := []) (rest := [.ref mp, .ref nw1, .ref nw1]) 0 hx hb hml hown hts hK hG hS hl.1 (mJ4_getFirstEntry l X σ2 tg mp n ad ps K Vv l_ r_ p_ C rt es ks sz md hTH2 lo hi hok) hTH2.1 rfl q1300 q1264 q1265 q75 q1266 (by decide +kernel) rfl ⟨Nat.le_of_ble_eq_true rfl, Nat.le_of_ble_eq_true rfl⟩ ⟨Nat.le_of_ble_eq_true rfl, Nat.le_of_ble_eq_true rfl⟩ (Nat.le_of_ble_eq_true rfl) dJ4_keyIterator_6 (kA (fun r3 σr3 H locs hp hG hS => ?_))
  obtain ⟨rfl, rfl⟩ := hp
  refine g_callI (As := [.ref mp, va_rf (if 0 < n then some (ad 0) else none)]) (rest := [.ref nw1]) 2 hx hb hml hown hts hK hG hS hl.1 (mJ29_init_k l X σ2 nw1 _ tg mp n ad ps K Vv l_ r_ p_ C rt es ks sz md hTH2 htz (if 0 < n then some (ad 0) else none) hLnw1) q1301 q1302 q112 q1303 rfl (by decide +kernel) rfl ⟨Nat.le_of_ble_eq_true rfl, Nat.le_of_ble_eq_true rfl⟩ ⟨Nat.le_of_ble_eq_true rfl, Nat.le_of_ble_eq_true rfl⟩ (Nat.le_of_ble_eq_true rfl) dJ4_keyIterator_9 (kV (fun σr4 H locs hp hG hS => ?_))
  have hp : σr4 = (gup σ2 nw1 (15, gO 21 [va_rf (if 0 < n then some (ad 0) else none), .null, .int (iI md), .ref mp])) := hp
  have hL5 : σr4 nw1 = some (15, gO 21 [va_rf (if 0 < n then some (ad 0) else none), .null, .int (iI md), .ref mp]) := by rw [hp]; exact gup_s
  have hp5 : σr4 = (gup σ nw1 (15, gO 21 [va_rf (if 0 < n then some (ad 0) else none), .null, .int (iI md), .ref mp])) := by rw [hp, ← hgen2, gup_gup]
  have hTH5 : TH σr4 tg mp (tIn n ad ps) K Vv l_ r_ p_ C rt es ks sz md := by rw [hp5]; exact hTH.keep (tg' := fun _ => False) (gKeep.new hznw1) (fun h => h)
  have hkp5 : gKeep (fun t => t = tg) σ σr4 := by rw [hp5]; exact hkp.tr (gKeep.new hznw1)
  exact g_aret hx hb hr (by first | exact Or.inl ⟨_, rfl⟩ | exact Or.inr ⟨_, rfl⟩) (by first | exact Or.inl rfl | exact Or.inr ⟨_, rfl⟩ | assumption | exact va_rf_or _) hlocks hQ hG hS (Nat.le_of_ble_eq_true rfl) (Nat.le_of_ble_eq_true rfl) ⟨_, rfl, nw1, rfl, hznw1, hp5⟩ dJ4_keyIterator_12

theorem mJ30_init (l : Launch) (X : gX) (σ : gS) (z tz : Nat) (q9 : Nat) (hz : σ z = some (tz, gO 22 [.null])) : gMet l X yJ30_init cJ30_init 2 none 3 0 0 60 σ [.ref z, .ref q9] (oV (fun σ' => σ' = gup σ z (tz, gO 22 [.ref q9]))) := by
  refine gMet.of (by decide) (Nat.le_of_ble_eq_true rfl) ?_
  intro pp ee ss mm args below meth cd Q H locs ls hargs hx hb hr hlocks hml hown hnm hts hK hG hS hQ hl
  have hown : ss.vm.findClass RJ30 = some mm.cls := hown
  have hl : lv_has ls 2 [(0, .ref z), (1, .ref q9)] := hl
  refine lv_aload_n hx hb dJ30_init_0 rfl (lv_at hl 0 rfl) ?_
  refine g_callI (As := []) (rest := []) 0 hx hb hml hown hts hK hG hS hl.1 (mJ1_init l X σ z) q1335 q176 q72 q177 rfl (by decide +kernel) rfl ⟨Nat.le_of_ble_eq_true rfl, Nat.le_of_ble_eq_true rfl⟩ ⟨Nat.le_of_ble_eq_true rfl, Nat.le_of_ble_eq_true rfl⟩ (Nat.le_of_ble_eq_true rfl) dJ30_init_1 (kV (fun σr1 H locs hp hG hS => ?_))
  obtain rfl := hp
  refine lv_aload_n hx hb dJ30_init_4 rfl (lv_at hl 0 rfl) ?_
  refine lv_aload_n hx hb dJ30_init_5 rfl (lv_at hl 1 rfl) ?_
  refine g_putF (C := RJ30) (T := TJ30) (N := 1) (ty0 := tyJ30) (v := .ref q9) hx hb hts hown hK hG hS hz rfl in_J30 tyJ30_ok nmJ30 0 (by decide) q1336 rfl (by decide) hnm rfl rfl rfl (Nat.le_of_ble_eq_true rfl) dJ30_init_6 (fun H locs hG hS => ?_)
  have hs2 : (gup σ z (tz, gO 22 ([.null].set 0 (.ref q9)))) = gup σ z (tz, gO 22 [.ref q9]) := by rfl
  have hL2 : (gup σ z (tz, gO 22 ([.null].set 0 (.ref q9)))) z = some (tz, gO 22 [.ref q9]) := gup_s
  generalize (gup σ z (tz, gO 22 ([.null].set 0 (.ref q9)))) = σ2 at hG hs2 hL2
  exact g_vret hx hb hr hlocks hQ hG hS (Nat.zero_le _) (Nat.zero_le _) ⟨rfl, hs2⟩ dJ30_init_9

set_option maxHeartbeats 4000000 in
theorem mJ4_navigableKeySet (l : Launch) (X : gX) (σ : gS) (tg mp n : Nat) (ad ps : Nat → Nat) (K : Nat → Nat) (Vv l_ r_ p_ : Nat → Option Nat) (C : Nat → Int) (rt es ks : Option Nat) (sz md : Int) (hTH : TH σ tg mp (tIn n ad ps) K Vv l_ r_ p_ C rt es ks sz md) (htz : ¬ tg = 16) : gMet l X yJ4_navigableKeySet cJ4_navigableKeySet 2 (some (.object "java/util/NavigableSet")) 4 1 1 81 σ [.ref mp] (oA (fun v σ' => ∃ z, v = .ref z ∧ ((ks = some z ∧ σ = σ') ∨ (ks = none ∧ σ z = none ∧ TH σ' tg mp (tIn n ad ps) K Vv l_ r_ p_ C rt es (some z) sz md ∧ σ' z = some (16, gO 22 [.ref mp]) ∧ gKeep (fun t => t = tg) σ σ')))) := by
  refine gMet.of (by decide) (Nat.le_of_ble_eq_true rfl) ?_
  intro pp ee ss mm args below meth cd Q H locs ls hargs hx hb hr hlocks hml hown hnm hts hK hG hS hQ hl
  have hown : ss.vm.findClass RJ4 = some mm.cls := hown
  have hl : lv_has ls 2 [(0, .ref mp)] := hl
  have hkp : gKeep (fun t => t = tg) σ σ := gKeep.rf
  refine lv_aload_n hx hb dJ4_navigableKeySet_0 rfl (lv_at hl 0 rfl) ?_
  refine g_get (C := RJ4) (T := TJ4) (N := 9) (v := va_rf ks) hx hb hts hown hK hG hTH.1 rfl in_J4 7 (by decide) q151 rfl rfl dJ4_navigableKeySet_1 ?_
  refine g_astore_nR (lv' := [(1, va_rf ks), (0, .ref mp)]) hx hb dJ4_navigableKeySet_4 rfl hl (by decide) rfl (fun ls hl => ?_)
  refine g_aload_nR hx hb dJ4_navigableKeySet_5 rfl (lv_at hl 0 rfl) ?_
  refine g_ifnullR (tgt := 13) hx hb dJ4_navigableKeySet_6 (by decide) (fun ho2 => ?_) (fun z1 ho2 => ?_)
  · have hl : lv_has ls 2 [(1, .null), (0, .ref mp)] := by first | exact hl | (rw [ho2] at hl; exact hl)
    refine lv_aload_n hx hb dJ4_navigableKeySet_13 rfl (lv_at hl 1 rfl) ?_
    refine g_new (ci := 22) (C := RJ30) (T := TJ30) (N := 1) (ty := tyJ30) (fs := [.null]) hx hb 16 hts hown hK hG hS rfl in_J30 tyJ30_ok q1330 q1331 q113 (fun j hj => match j, hj with | 0, _ => rfl | k9 + 1, h => absurd h (by omega)) (Nat.le_of_ble_eq_true rfl) (Nat.le_of_ble_eq_true rfl) dJ4_navigableKeySet_14 (fun nw3 H hznw3 hG hS => ?_)
    have hLnw3 : (gup σ nw3 (16, gO 22 [.null])) nw3 = some (16, gO 22 [.null]) := gup_s
    have hTH4 : TH (gup σ nw3 (16, gO 22 [.null])) tg mp (tIn n ad ps) K Vv l_ r_ p_ C rt es ks sz md := hTH.keep (tg' := fun _ => False) (gKeep.new hznw3) (fun h => h)
    have hkp4 : gKeep (fun t => t = tg) σ (gup σ nw3 (16, gO 22 [.null])) := hkp.tr (gKeep.new hznw3)
    generalize hgen4 : (gup σ nw3 (16, gO 22 [.null])) = σ4 at hG hLnw3 hTH4 hkp4
    refine lv_dup hx hb dJ4_navigableKeySet_17 rfl ?_
    refine lv_aload_n hx hb dJ4_navigableKeySet_18 rfl (lv_at hl 1 rfl) ?_
    refine g_callI (As := [.ref mp]) (rest := [.ref nw3, .ref mp]) 1 hx hb hml hown hts hK hG hS hl.1 (mJ30_init l X σ4 nw3 _ mp hLnw3) q1332 q1333 q113 q1334 rfl (by decide +kernel) rfl ⟨Nat.le_of_ble_eq_true rfl, Nat.le_of_ble_eq_true rfl⟩ ⟨Nat.le_of_ble_eq_true rfl, Nat.le_of_ble_eq_true rfl⟩ (Nat.le_of_ble_eq_true rfl) dJ4_navigableKeySet_19 (kV (fun σr5 H locs hp hG hS => ?_))
    have hp : σr5 = (gup σ4 nw3 (16, gO 22 [.ref mp])) := hp
    have hL6 : σr5 nw3 = some (16, gO 22 [.ref mp]) := by rw [hp]; exact gup_s
    have hp6 : σr5 = (gup σ nw3 (16, gO 22 [.ref mp])) := by rw [hp, ← hgen4, gup_gup]
    have hTH6 : TH σr5 tg mp (tIn n ad ps) K Vv l_ r_ p_ C rt es ks sz md := by rw [hp6]; exact hTH.keep (tg' := fun _ => False) (gKeep.new hznw3) (fun h => h)
    have hkp6 : gKeep (fun t => t = tg) σ σr5 := by rw [hp6]; exact hkp.tr (gKeep.new hznw3)
    refine lv_dup_x1 hx hb dJ4_navigableKeySet_22 rfl rfl ?_
    refine g_put (C := RJ4) (T := TJ4) (N := 9) (ty0 := tyJ4) (v := .ref nw3) hx hb hts hown hK hG hS hTH6.1 rfl in_J4 tyJ4_ok nmJ4 7 (by decide) q151 rfl (by decide) rfl rfl (Nat.le_of_ble_eq_true rfl) dJ4_navigableKeySet_23 (fun H locs hG hS => ?_)
    have hTH7 : TH (gup σr5 mp (tg, gO 13 ((tmF rt es ks sz md).set 7 (.ref nw3)))) tg mp (tIn n ad ps) K Vv l_ r_ p_ C rt es (some nw3) sz md := hTH6.map rfl
    have hkp7 : gKeep (fun t => t = tg) σ (gup σr5 mp (tg, gO 13 ((tmF rt es ks sz md).set 7 (.ref nw3)))) := hkp6.tr (gKeep.up hTH6.1 rfl)
    have hL6 := (gKeep.up hTH6.1 rfl : gKeep (fun t => t = tg) σr5 (gup σr5 mp (tg, gO 13 ((tmF rt es ks sz md).set 7 (.ref nw3))))) _ _ _ hL6 (fun e => htz e.symm)
    generalize (gup σr5 mp (tg, gO 13 ((tmF rt es ks sz md).set 7 (.ref nw3)))) = σ7 at hG hTH7 hkp7 hL6
    exact g_aret hx hb hr (by first | exact Or.inl ⟨_, rfl⟩ | exact Or.inr ⟨_, rfl⟩) (by first | exact Or.inl rfl | exact Or.inr ⟨_, rfl⟩ | assumption | exact va_rf_or _) hlocks hQ hG hS (Nat.le_of_ble_eq_true rfl) (Nat.le_of_ble_eq_true rfl) ⟨_, rfl, nw3, rfl, Or.inr ⟨ho2, hznw3, hTH7, hL6, hkp7⟩⟩ dJ4_navigableKeySet_26
  · have hl : lv_has ls 2 [(1, .ref z1), (0, .ref mp)] := by first | exact hl | (rw [ho2] at hl; exact hl)
    refine lv_aload_n hx hb dJ4_navigableKeySet_9 rfl (lv_at hl 0 rfl) ?_
    refine lv_goto (tgt := 26) hx hb dJ4_navigableKeySet_10 (by decide) ?_
    exact g_aret hx hb hr (by first | exact Or.inl ⟨_, rfl⟩ | exact Or.inr ⟨_, rfl⟩) (by first | exact Or.inl rfl | exact Or.inr ⟨_, rfl⟩ | assumption | exact va_rf_or _) hlocks hQ hG hS (Nat.zero_le _) (Nat.zero_le _) ⟨_, rfl, z1, rfl, Or.inl ⟨ho2, rfl⟩⟩ dJ4_navigableKeySet_26

theorem mJ27_init_e (l : Launch) (X : gX) (σ : gS) (z tz : Nat) (tg mp n : Nat) (ad ps : Nat → Nat) (K : Nat → Nat) (Vv l_ r_ p_ : Nat → Option Nat) (C : Nat → Int) (rt es ks : Option Nat) (sz md : Int) (hTH : TH σ tg mp (tIn n ad ps) K Vv l_ r_ p_ C rt es ks sz md) (htz : ¬ tg = tz) (q9 : Option Nat) (hz : σ z = some (tz, gO 20 [.null, .null, .int (iI 0), .null])) : gMet l X yJ27_init cJ27_init 3 none 1 0 0 20 σ [.ref z, .ref mp, va_rf q9] (oV (fun σ' => σ' = gup σ z (tz, gO 20 [va_rf q9, .null, .int (iI md), .ref mp]))) := by
  refine gMet.of (by decide) (by cases q9 <;> exact Nat.le_of_ble_eq_true rfl) ?_
  intro pp ee ss mm args below meth cd Q H locs ls hargs hx hb hr hlocks hml hown hnm hts hK hG hS hQ hl
  have hown : ss.vm.findClass RJ27 = some mm.cls := hown
  have hl : lv_has ls 3 [(0, .ref z), (1, .ref mp), (2, va_rf q9)] := by cases q9 <;> exact hl
  refine lv_aload_n hx hb dJ27_init_0 rfl (lv_at hl 0 rfl) ?_
  refine lv_aload_n hx hb dJ27_init_1 rfl (lv_at hl 1 rfl) ?_
  refine g_putF (C := RJ28) (T := TJ28) (N := 4) (ty0 := tyJ28) (v := .ref mp) hx hb hts hown hK hG hS hz rfl in_J28 tyJ28_ok nmJ28 3 (by decide) q1277 rfl (by decide) hnm rfl rfl rfl (Nat.le_of_ble_eq_true rfl) dJ27_init_2 (fun H locs hG hS => ?_)
  have hs1 : (gup σ z (tz, gO 20 ([.null, .null, .int (iI 0), .null].set 3 (.ref mp)))) = gup σ z (tz, gO 20 [.null, .null, .int (iI 0), .ref mp]) := by rfl
  have hL1 : (gup σ z (tz, gO 20 ([.null, .null, .int (iI 0), .null].set 3 (.ref mp)))) z = some (tz, gO 20 [.null, .null, .int (iI 0), .ref mp]) := gup_s
  generalize (gup σ z (tz, gO 20 ([.null, .null, .int (iI 0), .null].set 3 (.ref mp)))) = σ1 at hG hs1 hL1
  have hTH1 : TH σ1 tg mp (tIn n ad ps) K Vv l_ r_ p_ C rt es ks sz md := by rw [hs1]; exact hTH.keep (tg' := fun t => t = tz) (gKeep.up hz rfl) htz
  refine lv_aload_n hx hb dJ27_init_5 rfl (lv_at hl 0 rfl) ?_
  refine W.objInit hx hb hown (hts _ q1273) (hts _ q123) (hts _ q124) rfl (by rw [hml]; exact hl.1) rfl dJ27_init_6 (Nat.le_of_ble_eq_true rfl) (Nat.le_of_ble_eq_true rfl) ?_
  refine W.eq (g2 := F0 mm 9 ls []) rfl ?_
  refine lv_aload_n hx hb dJ27_init_9 rfl (lv_at hl 0 rfl) ?_
  refine lv_aload_n hx hb dJ27_init_10 rfl (lv_at hl 1 rfl) ?_
  refine g_getN (C := RJ4) (T := TJ4) (N := 9) (v := .int (iI md)) hx hb hts hown hK hG hTH1.1 rfl in_J4 5 (by decide) q149 rfl rfl dJ27_init_11 ?_
  refine g_put (C := RJ28) (T := TJ28) (N := 4) (ty0 := tyJ28) (v := .int (iI md)) hx hb hts hown hK hG hS hL1 rfl in_J28 tyJ28_ok nmJ28 2 (by decide) q1276 rfl (by decide) rfl rfl (Nat.le_of_ble_eq_true rfl) dJ27_init_14 (fun H locs hG hS => ?_)
  have hs2 : (gup σ1 z (tz, gO 20 ([.null, .null, .int (iI 0), .ref mp].set 2 (.int (iI md))))) = gup σ z (tz, gO 20 [.null, .null, .int (iI md), .ref mp]) := by rw [hs1, gup_gup]; rfl
  have hL2 : (gup σ1 z (tz, gO 20 ([.null, .null, .int (iI 0), .ref mp].set 2 (.int (iI md))))) z = some (tz, gO 20 [.null, .null, .int (iI md), .ref mp]) := gup_s
  generalize (gup σ1 z (tz, gO 20 ([.null, .null, .int (iI 0), .ref mp].set 2 (.int (iI md))))) = σ2 at hG hs2 hL2
  have hTH2 : TH σ2 tg mp (tIn n ad ps) K Vv l_ r_ p_ C rt es ks sz md := by rw [hs2]; exact hTH.keep (tg' := fun t => t = tz) (gKeep.up hz rfl) htz
  refine lv_aload_n hx hb dJ27_init_17 rfl (lv_at hl 0 rfl) ?_
  refine lv_null hx hb dJ27_init_18 ?_
  refine g_put (C := RJ28) (T := TJ28) (N := 4) (ty0 := tyJ28) (v := .null) hx hb hts hown hK hG hS hL2 rfl in_J28 tyJ28_ok nmJ28 1 (by decide) q1275 rfl (by decide) rfl rfl (Nat.le_of_ble_eq_true rfl) dJ27_init_19 (fun H locs hG hS => ?_)
  have hs3 : (gup σ2 z (tz, gO 20 ([.null, .null, .int (iI md), .ref mp].set 1 (.null)))) = gup σ z (tz, gO 20 [.null, .null, .int (iI md), .ref mp]) := by rw [hs2, gup_gup]; rfl
  have hL3 : (gup σ2 z (tz, gO 20 ([.null, .null, .int (iI md), .ref mp].set 1 (.null)))) z = some (tz, gO 20 [.null, .null, .int (iI md), .ref mp]) := gup_s
  generalize (gup σ2 z (tz, gO 20 ([.null, .null, .int (iI md), .ref mp].set 1 (.null)))) = σ3 at hG hs3 hL3
  have hTH3 : TH σ3 tg mp (tIn n ad ps) K Vv l_ r_ p_ C rt es ks sz md := by rw [hs3]; exact hTH.keep (tg' := fun t => t = tz) (gKeep.up hz rfl) htz
  refine lv_aload_n hx hb dJ27_init_22 rfl (lv_at hl 0 rfl) ?_
  refine g_aload_nR hx hb dJ27_init_23 rfl (lv_at hl 2 rfl) ?_
  refine g_put (C := RJ28) (T := TJ28) (N := 4) (ty0 := tyJ28) (v := va_rf q9) hx hb hts hown hK hG hS hL3 rfl in_J28 tyJ28_ok nmJ28 0 (by decide) q1274 rfl (by decide) (nrf _) (frf _) (Nat.le_of_ble_eq_true rfl) dJ27_init_24 (fun H locs hG hS => ?_)
  have hs4 : (gup σ3 z (tz, gO 20 ([.null, .null, .int (iI md), .ref mp].set 0 (va_rf q9)))) = gup σ z (tz, gO 20 [va_rf q9, .null, .int (iI md), .ref mp]) := by rw [hs3, gup_gup]; rfl
  have hL4 : (gup σ3 z (tz, gO 20 ([.null, .null, .int (iI md), .ref mp].set 0 (va_rf q9)))) z = some (tz, gO 20 [va_rf q9, .null, .int (iI md), .ref mp]) := gup_s
  generalize (gup σ3 z (tz, gO 20 ([.null, .null, .int (iI md), .ref mp].set 0 (va_rf q9)))) = σ4 at hG hs4 hL4
  have hTH4 : TH σ4 tg mp (tIn n ad ps) K Vv l_ r_ p_ C rt es ks sz md := by rw [hs4]; exact hTH.keep (tg' := fun t => t = tz) (gKeep.up hz rfl) htz
  exact g_vret hx hb hr hlocks hQ hG hS (Nat.zero_le _) (Nat.zero_le _) ⟨rfl, hs4⟩ dJ27_init_27

theorem mJ28_init_e (l : Launch) (X : gX) (σ : gS) (z tz : Nat) (tg mp n : Nat) (ad ps : Nat → Nat) (K : Nat → Nat) (Vv l_ r_ p_ : Nat → Option Nat) (C : Nat → Int) (rt es ks : Option Nat) (sz md : Int) (hTH : TH σ tg mp (tIn n ad ps) K Vv l_ r_ p_ C rt es ks sz md) (htz : ¬ tg = tz) (q9 : Option Nat) (hz : σ z = some (tz, gO 20 [.null, .null, .int (iI 0), .null])) : gMet l X yJ28_init cJ28_init 3 none 2 0 0 42 σ [.ref z, .ref mp, va_rf q9] (oV (fun σ' => σ' = gup σ z (tz, gO 20 [va_rf q9, .null, .int (iI md), .ref mp]))) := by
  refine gMet.of (by decide) (by cases q9 <;> exact Nat.le_of_ble_eq_true rfl) ?_
  intro pp ee ss mm args below meth cd Q H locs ls hargs hx hb hr hlocks hml hown hnm hts hK hG hS hQ hl
  have hown : ss.vm.findClass RJ28 = some mm.cls := hown
  have hl : lv_has ls 3 [(0, .ref z), (1, .ref mp), (2, va_rf q9)] := by cases q9 <;> exact hl
  refine lv_aload_n hx hb dJ28_init_0 rfl (lv_at hl 0 rfl) ?_
  refine lv_aload_n hx hb dJ28_init_1 rfl (lv_at hl 1 rfl) ?_
  refine g_aload_nR hx hb dJ28_init_2 rfl (lv_at hl 2 rfl) ?_
  refine g_callI (As := [.ref mp, va_rf q9]) (rest := []) 2 hx hb hml hown hts hK hG hS hl.1 (mJ27_init_e l X σ z _ tg mp n ad ps K Vv l_ r_ p_ C rt es ks sz md hTH htz q9 hz) q1270 q1271 q110 q1272 rfl (by decide +kernel) rfl ⟨Nat.le_of_ble_eq_true rfl, Nat.le_of_ble_eq_true rfl⟩ ⟨Nat.le_of_ble_eq_true rfl, Nat.le_of_ble_eq_true rfl⟩ (Nat.le_of_ble_eq_true rfl) dJ28_init_3 (kV (fun σr1 H locs hp hG hS => ?_))
  have hp : σr1 = (gup σ z (tz, gO 20 [va_rf q9, .null, .int (iI md), .ref mp])) := hp
  have hL2 : σr1 z = some (tz, gO 20 [va_rf q9, .null, .int (iI md), .ref mp]) := by rw [hp]; exact gup_s
  exact g_vret hx hb hr hlocks hQ hG hS (Nat.zero_le _) (Nat.zero_le _) ⟨rfl, hp⟩ dJ28_init_6

set_option maxHeartbeats 4000000 in
theorem mJ27_hasNext_e (l : Launch) (X : gX) (σ : gS) (it ti mp : Nat) (md : Int) (nx ls9 : Option Nat) (hit : σ it = some (ti, gO 20 [va_rf nx, va_rf ls9, .int (iI md), .ref mp])) : gMet l X yJ27_hasNext cJ27_hasNext 1 (some .boolean) 0 0 0 0 σ [.ref it] (oI (fun r σ' => (r = 1 ∧ (∃ z, nx = some z) ∨ r = 0 ∧ nx = none) ∧ σ = σ')) := by
  refine gMet.of (by decide) (Nat.le_of_ble_eq_true rfl) ?_
  intro pp ee ss mm args below meth cd Q H locs ls hargs hx hb hr hlocks hml hown hnm hts hK hG hS hQ hl
  have hown : ss.vm.findClass RJ27 = some mm.cls := hown
  have hl : lv_has ls 1 [(0, .ref it)] := hl
  refine lv_aload_n hx hb dJ27_hasNext_0 rfl (lv_at hl 0 rfl) ?_
  refine g_get (C := RJ28) (T := TJ28) (N := 4) (v := va_rf nx) hx hb hts hown hK hG hit rfl in_J28 0 (by decide) q1274 rfl rfl dJ27_hasNext_1 ?_
  refine g_ifnullR (tgt := 11) hx hb dJ27_hasNext_4 (by decide) (fun ho2 => ?_) (fun z1 ho2 => ?_)
  · refine g_iconst hx hb dJ27_hasNext_11 ?_
    exact g_zret hx hb hr hlocks hQ hG hS (Nat.zero_le _) (Nat.zero_le _) (gnz (by omega)) ⟨_, rfl, Or.inr ⟨rfl, ho2⟩, rfl⟩ dJ27_hasNext_12
  · refine g_iconst hx hb dJ27_hasNext_7 ?_
    refine lv_goto (tgt := 12) hx hb dJ27_hasNext_8 (by decide) ?_
    exact g_zret hx hb hr hlocks hQ hG hS (Nat.zero_le _) (Nat.zero_le _) (gnz (by omega)) ⟨_, rfl, Or.inl ⟨rfl, z1, ho2⟩, rfl⟩ dJ27_hasNext_12

set_option maxHeartbeats 4000000 in
theorem mJ27_nextEntry_e (l : Launch) (X : gX) (σ : gS) (tg mp n : Nat) (ad ps : Nat → Nat) (K : Nat → Nat) (Vv l_ r_ p_ : Nat → Option Nat) (C : Nat → Int) (rt es ks : Option Nat) (sz md : Int) (hTH : TH σ tg mp (tIn n ad ps) K Vv l_ r_ p_ C rt es ks sz md) (lo hi : Nat → Nat) (hok : tOk n ad ps l_ r_ p_ lo hi rt) (a : Nat) (hDa : tIn n ad ps a) (it ti : Nat) (ls9 : Option Nat) (hit : σ it = some (ti, gO 20 [.ref a, va_rf ls9, .int (iI md), .ref mp])) : gMet l X yJ27_nextEntry cJ27_nextEntry 2 (some (.object "java/util/TreeMap$Entry")) 1 0 0 22 σ [.ref it] (oA (fun v σ' => v = .ref a ∧ σ' = (gup σ it (ti, gO 20 [va_rf (if ps a + 1 < n then some (ad (ps a + 1)) else none), .ref a, .int (iI md), .ref mp])))) := by
  refine gMet.of (by decide) (Nat.le_of_ble_eq_true rfl) ?_
  intro pp ee ss mm args below meth cd Q H locs ls hargs hx hb hr hlocks hml hown hnm hts hK hG hS hQ hl
  have hown : ss.vm.findClass RJ27 = some mm.cls := hown
  have hl : lv_has ls 2 [(0, .ref it)] := hl
  have hkp : gKeep (fun t => t = tg) σ σ := gKeep.rf
  refine lv_aload_n hx hb dJ27_nextEntry_0 rfl (lv_at hl 0 rfl) ?_
  refine g_get (C := RJ28) (T := TJ28) (N := 4) (v := .ref a) hx hb hts hown hK hG hit rfl in_J28 0 (by decide) q1274 rfl rfl dJ27_nextEntry_1 ?_
  refine lv_astore_n (lv' := [(1, .ref a), (0, .ref it)]) hx hb dJ27_nextEntry_4 rfl hl (by decide) rfl (fun ls hl => ?_)
  refine lv_aload_n hx hb dJ27_nextEntry_5 rfl (lv_at hl 0 rfl) ?_
  refine lv_ifnonnull (tgt := 17) hx hb dJ27_nextEntry_6 (by decide) ?_
  refine lv_aload_n hx hb dJ27_nextEntry_17 rfl (lv_at hl 1 rfl) ?_
  refine g_get (C := RJ28) (T := TJ28) (N := 4) (v := .ref mp) hx hb hts hown hK hG hit rfl in_J28 3 (by decide) q1277 rfl rfl dJ27_nextEntry_18 ?_
  refine g_getN (C := RJ4) (T := TJ4) (N := 9) (v := .int (iI md)) hx hb hts hown hK hG hTH.1 rfl in_J4 5 (by decide) q149 rfl rfl dJ27_nextEntry_21 ?_
  refine lv_aload_n hx hb dJ27_nextEntry_24 rfl (lv_at hl 1 rfl) ?_
  refine g_get (C := RJ28) (T := TJ28) (N := 4) (v := .int (iI md)) hx hb hts hown hK hG hit rfl in_J28 2 (by decide) q1276 rfl rfl dJ27_nextEntry_25 ?_
  refine g_icmp_eqS (tgt := 39) hx hb dJ27_nextEntry_28 (by decide) ?_
  refine lv_aload_n hx hb dJ27_nextEntry_39 rfl (lv_at hl 1 rfl) ?_
  refine lv_aload_n hx hb dJ27_nextEntry_40 rfl (lv_at hl 0 rfl) ?_
  refine g_callS (As := [.ref a]) (rest := [.ref it]) 1 hx hb hml hown hts hK hG hS hl.1 (mJ4_successor l X σ tg mp n ad ps K Vv l_ r_ p_ C rt es ks sz md hTH lo hi hok a hDa) q1380 q1381 q75 q1382 (by decide +kernel) rfl ⟨Nat.le_of_ble_eq_true rfl, Nat.le_of_ble_eq_true rfl⟩ ⟨Nat.le_of_ble_eq_true rfl, Nat.le_of_ble_eq_true rfl⟩ (Nat.le_of_ble_eq_true rfl) dJ27_nextEntry_41 (kA (fun r1 σr1 H locs hp hG hS => ?_))
  obtain ⟨rfl, hsuc, rfl⟩ := hp
  refine g_put (C := RJ28) (T := TJ28) (N := 4) (ty0 := tyJ28) (v := va_rf (if ps a + 1 < n then some (ad (ps a + 1)) else none)) hx hb hts hown hK hG hS hit rfl in_J28 tyJ28_ok nmJ28 0 (by decide) q1274 rfl (by decide) (nrf _) (frf _) (Nat.le_of_ble_eq_true rfl) dJ27_nextEntry_44 (fun H locs hG hS => ?_)
  have hs2 : (gup σ it (ti, gO 20 ([.ref a, va_rf ls9, .int (iI md), .ref mp].set 0 (va_rf (if ps a + 1 < n then some (ad (ps a + 1)) else none))))) = gup σ it (ti, gO 20 [va_rf (if ps a + 1 < n then some (ad (ps a + 1)) else none), va_rf ls9, .int (iI md), .ref mp]) := by rfl
  have hL2 : (gup σ it (ti, gO 20 ([.ref a, va_rf ls9, .int (iI md), .ref mp].set 0 (va_rf (if ps a + 1 < n then some (ad (ps a + 1)) else none))))) it = some (ti, gO 20 [va_rf (if ps a + 1 < n then some (ad (ps a + 1)) else none), va_rf ls9, .int (iI md), .ref mp]) := gup_s
  generalize (gup σ it (ti, gO 20 ([.ref a, va_rf ls9, .int (iI md), .ref mp].set 0 (va_rf (if ps a + 1 < n then some (ad (ps a + 1)) else none))))) = σ2 at hG hs2 hL2
  refine lv_aload_n hx hb dJ27_nextEntry_47 rfl (lv_at hl 1 rfl) ?_
  refine lv_aload_n hx hb dJ27_nextEntry_48 rfl (lv_at hl 0 rfl) ?_
  refine g_put (C := RJ28) (T := TJ28) (N := 4) (ty0 := tyJ28) (v := .ref a) hx hb hts hown hK hG hS hL2 rfl in_J28 tyJ28_ok nmJ28 1 (by decide) q1275 rfl (by decide) rfl rfl (Nat.le_of_ble_eq_true rfl) dJ27_nextEntry_49 (fun H locs hG hS => ?_)
  have hs3 : (gup σ2 it (ti, gO 20 ([va_rf (if ps a + 1 < n then some (ad (ps a + 1)) else none), va_rf ls9, .int (iI md), .ref mp].set 1 (.ref a)))) = gup σ it (ti, gO 20 [va_rf (if ps a + 1 < n then some (ad (ps a + 1)) else none), .ref a, .int (iI md), .ref mp]) := by rw [hs2, gup_gup]; rfl
  have hL3 : (gup σ2 it (ti, gO 20 ([va_rf (if ps a + 1 < n then some (ad (ps a + 1)) else none), va_rf ls9, .int (iI md), .ref mp].set 1 (.ref a)))) it = some (ti, gO 20 [va_rf (if ps a + 1 < n then some (ad (ps a + 1)) else none), .ref a, .int (iI md), .ref mp]) := gup_s
  generalize (gup σ2 it (ti, gO 20 ([va_rf (if ps a + 1 < n then some (ad (ps a + 1)) else none), va_rf ls9, .int (iI md), .ref mp].set 1 (.ref a)))) = σ3 at hG hs3 hL3
  refine lv_aload_n hx hb dJ27_nextEntry_52 rfl (lv_at hl 0 rfl) ?_
  exact g_aret hx hb hr (by first | exact Or.inl ⟨_, rfl⟩ | exact Or.inr ⟨_, rfl⟩) (by first | exact Or.inl rfl | exact Or.inr ⟨_, rfl⟩ | assumption | exact va_rf_or _) hlocks hQ hG hS (Nat.zero_le _) (Nat.zero_le _) ⟨_, rfl, rfl, hs3⟩ dJ27_nextEntry_53

set_option maxHeartbeats 4000000 in
theorem mJ28_next_2 (l : Launch) (X : gX) (σ : gS) (tg mp n : Nat) (ad ps : Nat → Nat) (K : Nat → Nat) (Vv l_ r_ p_ : Nat → Option Nat) (C : Nat → Int) (rt es ks : Option Nat) (sz md : Int) (hTH : TH σ tg mp (tIn n ad ps) K Vv l_ r_ p_ C rt es ks sz md) (lo hi : Nat → Nat) (hok : tOk n ad ps l_ r_ p_ lo hi rt) (a : Nat) (hDa : tIn n ad ps a) (it ti : Nat) (ls9 : Option Nat) (hit : σ it = some (ti, gO 20 [.ref a, va_rf ls9, .int (iI md), .ref mp])) : gMet l X yJ28_next_2 cJ28_next_2 1 (some (.object "java/util/Map$Entry")) 2 0 0 43 σ [.ref it] (oA (fun v σ' => v = .ref a ∧ σ' = (gup σ it (ti, gO 20 [va_rf (if ps a + 1 < n then some (ad (ps a + 1)) else none), .ref a, .int (iI md), .ref mp])))) := by
  refine gMet.of (by decide) (Nat.le_of_ble_eq_true rfl) ?_
  intro pp ee ss mm args below meth cd Q H locs ls hargs hx hb hr hlocks hml hown hnm hts hK hG hS hQ hl
  have hown : ss.vm.findClass RJ28 = some mm.cls := hown
  have hl : lv_has ls 1 [(0, .ref it)] := hl
  have hkp : gKeep (fun t => t = tg) σ σ := gKeep.rf
  refine lv_aload_n hx hb dJ28_next_2_0 rfl (lv_at hl 0 rfl) ?_
  refine g_callU (As := []) (rest := []) 0 hx hb hml hown hts hK hG hS hl.1 (mJ27_nextEntry_e l X σ tg mp n ad ps K Vv l_ r_ p_ C rt es ks sz md hTH lo hi hok a hDa it ti ls9 hit) hit rfl q1374 q1375 q1377 q1378 q110 q1378 q1379 rfl (by decide +kernel) rfl ⟨Nat.le_of_ble_eq_true rfl, Nat.le_of_ble_eq_true rfl⟩ ⟨Nat.le_of_ble_eq_true rfl, Nat.le_of_ble_eq_true rfl⟩ (Nat.le_of_ble_eq_true rfl) dJ28_next_2_1 (kA (fun r1 σr1 H locs hp hG hS => ?_))
  obtain ⟨rfl, hs9⟩ := hp
  exact g_aret hx hb hr (by first | exact Or.inl ⟨_, rfl⟩ | exact Or.inr ⟨_, rfl⟩) (by first | exact Or.inl rfl | exact Or.inr ⟨_, rfl⟩ | assumption | exact va_rf_or _) hlocks hQ hG hS (Nat.zero_le _) (Nat.zero_le _) ⟨_, rfl, rfl, hs9⟩ dJ28_next_2_4

set_option maxHeartbeats 4000000 in
theorem mJ28_next (l : Launch) (X : gX) (σ : gS) (tg mp n : Nat) (ad ps : Nat → Nat) (K : Nat → Nat) (Vv l_ r_ p_ : Nat → Option Nat) (C : Nat → Int) (rt es ks : Option Nat) (sz md : Int) (hTH : TH σ tg mp (tIn n ad ps) K Vv l_ r_ p_ C rt es ks sz md) (lo hi : Nat → Nat) (hok : tOk n ad ps l_ r_ p_ lo hi rt) (a : Nat) (hDa : tIn n ad ps a) (it ti : Nat) (ls9 : Option Nat) (hit : σ it = some (ti, gO 20 [.ref a, va_rf ls9, .int (iI md), .ref mp])) : gMet l X yJ28_next cJ28_next 1 (some (.object "java/lang/Object")) 3 0 0 63 σ [.ref it] (oA (fun v σ' => v = .ref a ∧ σ' = (gup σ it (ti, gO 20 [va_rf (if ps a + 1 < n then some (ad (ps a + 1)) else none), .ref a, .int (iI md), .ref mp])))) := by
  refine gMet.of (by decide) (Nat.le_of_ble_eq_true rfl) ?_
  intro pp ee ss mm args below meth cd Q H locs ls hargs hx hb hr hlocks hml hown hnm hts hK hG hS hQ hl
  have hown : ss.vm.findClass RJ28 = some mm.cls := hown
  have hl : lv_has ls 1 [(0, .ref it)] := hl
  have hkp : gKeep (fun t => t = tg) σ σ := gKeep.rf
  refine lv_aload_n hx hb dJ28_next_0 rfl (lv_at hl 0 rfl) ?_
  refine g_callV (As := []) (rest := []) 0 hx hb hml hown hts hK hG hS hl.1 (mJ28_next_2 l X σ tg mp n ad ps K Vv l_ r_ p_ C rt es ks sz md hTH lo hi hok a hDa it ti ls9 hit) hit rfl q1370 q1371 q1372 q111 q1373 (by decide +kernel) rfl ⟨Nat.le_of_ble_eq_true rfl, Nat.le_of_ble_eq_true rfl⟩ ⟨Nat.le_of_ble_eq_true rfl, Nat.le_of_ble_eq_true rfl⟩ (Nat.le_of_ble_eq_true rfl) dJ28_next_1 (kA (fun r1 σr1 H locs hp hG hS => ?_))
  obtain ⟨rfl, hs9⟩ := hp
  exact g_aret hx hb hr (by first | exact Or.inl ⟨_, rfl⟩ | exact Or.inr ⟨_, rfl⟩) (by first | exact Or.inl rfl | exact Or.inr ⟨_, rfl⟩ | assumption | exact va_rf_or _) hlocks hQ hG hS (Nat.zero_le _) (Nat.zero_le _) ⟨_, rfl, rfl, hs9⟩ dJ28_next_4

theorem mJ26_init (l : Launch) (X : gX) (σ : gS) (z tz : Nat) (q9 : Nat) (hz : σ z = some (tz, gO 19 [.null])) : gMet l X yJ26_init cJ26_init 2 none 3 0 0 60 σ [.ref z, .ref q9] (oV (fun σ' => σ' = gup σ z (tz, gO 19 [.ref q9]))) := by
  refine gMet.of (by decide) (Nat.le_of_ble_eq_true rfl) ?_
  intro pp ee ss mm args below meth cd Q H locs ls hargs hx hb hr hlocks hml hown hnm hts hK hG hS hQ hl
  have hown : ss.vm.findClass RJ26 = some mm.cls := hown
  have hl : lv_has ls 2 [(0, .ref z), (1, .ref q9)] := hl
  refine lv_aload_n hx hb dJ26_init_0 rfl (lv_at hl 0 rfl) ?_
  refine lv_aload_n hx hb dJ26_init_1 rfl (lv_at hl 1 rfl) ?_
  refine g_putF (C := RJ26) (T := TJ26) (N := 1) (ty0 := tyJ26) (v := .ref q9) hx hb hts hown hK hG hS hz rfl in_J26 tyJ26_ok nmJ26 0 (by decide) q1247 rfl (by decide) hnm rfl rfl rfl (Nat.le_of_ble_eq_true rfl) dJ26_init_2 (fun H locs hG hS => ?_)
  have hs1 : (gup σ z (tz, gO 19 ([.null].set 0 (.ref q9)))) = gup σ z (tz, gO 19 [.ref q9]) := by rfl
  have hL1 : (gup σ z (tz, gO 19 ([.null].set 0 (.ref q9)))) z = some (tz, gO 19 [.ref q9]) := gup_s
  generalize (gup σ z (tz, gO 19 ([.null].set 0 (.ref q9)))) = σ1 at hG hs1 hL1
  refine lv_aload_n hx hb dJ26_init_5 rfl (lv_at hl 0 rfl) ?_
  refine g_callI (As := []) (rest := []) 0 hx hb hml hown hts hK hG hS hl.1 (mJ1_init l X σ1 z) q1246 q176 q72 q177 rfl (by decide +kernel) rfl ⟨Nat.le_of_ble_eq_true rfl, Nat.le_of_ble_eq_true rfl⟩ ⟨Nat.le_of_ble_eq_true rfl, Nat.le_of_ble_eq_true rfl⟩ (Nat.le_of_ble_eq_true rfl) dJ26_init_6 (kV (fun σr2 H locs hp hG hS => ?_))
  obtain rfl := hp
  exact g_vret hx hb hr hlocks hQ hG hS (Nat.zero_le _) (Nat.zero_le _) ⟨rfl, hs1⟩ dJ26_init_9

set_option maxHeartbeats 4000000 in
theorem mJ4_entrySet (l : Launch) (X : gX) (σ : gS) (tg mp n : Nat) (ad ps : Nat → Nat) (K : Nat → Nat) (Vv l_ r_ p_ : Nat → Option Nat) (C : Nat → Int) (rt es ks : Option Nat) (sz md : Int) (hTH : TH σ tg mp (tIn n ad ps) K Vv l_ r_ p_ C rt es ks sz md) (htz : ¬ tg = 16) : gMet l X yJ4_entrySet cJ4_entrySet 2 (some (.object "java/util/Set")) 4 1 1 81 σ [.ref mp] (oA (fun v σ' => ∃ z, v = .ref z ∧ ((es = some z ∧ σ = σ') ∨ (es = none ∧ σ z = none ∧ TH σ' tg mp (tIn n ad ps) K Vv l_ r_ p_ C rt (some z) ks sz md ∧ σ' z = some (16, gO 19 [.ref mp]) ∧ gKeep (fun t => t = tg) σ σ')))) := by
  refine gMet.of (by decide) (Nat.le_of_ble_eq_true rfl) ?_
  intro pp ee ss mm args below meth cd Q H locs ls hargs hx hb hr hlocks hml hown hnm hts hK hG hS hQ hl
  have hown : ss.vm.findClass RJ4 = some mm.cls := hown
  have hl : lv_has ls 2 [(0, .ref mp)] := hl
  have hkp : gKeep (fun t => t = tg) σ σ := gKeep.rf
  refine lv_aload_n hx hb dJ4_entrySet_0 rfl (lv_at hl 0 rfl) ?_
  refine g_get (C := RJ4) (T := TJ4) (N := 9) (v := va_rf es) hx hb hts hown hK hG hTH.1 rfl in_J4 6 (by decide) q150 rfl rfl dJ4_entrySet_1 ?_
  refine g_astore_nR (lv' := [(1, va_rf es), (0, .ref mp)]) hx hb dJ4_entrySet_4 rfl hl (by decide) rfl (fun ls hl => ?_)
  refine g_aload_nR hx hb dJ4_entrySet_5 rfl (lv_at hl 0 rfl) ?_
  refine g_ifnullR (tgt := 13) hx hb dJ4_entrySet_6 (by decide) (fun ho2 => ?_) (fun z1 ho2 => ?_)
  · have hl : lv_has ls 2 [(1, .null), (0, .ref mp)] := by first | exact hl | (rw [ho2] at hl; exact hl)
    refine lv_aload_n hx hb dJ4_entrySet_13 rfl (lv_at hl 1 rfl) ?_
    refine g_new (ci := 19) (C := RJ26) (T := TJ26) (N := 1) (ty := tyJ26) (fs := [.null]) hx hb 16 hts hown hK hG hS rfl in_J26 tyJ26_ok q1241 q1242 q109 (fun j hj => match j, hj with | 0, _ => rfl | k9 + 1, h => absurd h (by omega)) (Nat.le_of_ble_eq_true rfl) (Nat.le_of_ble_eq_true rfl) dJ4_entrySet_14 (fun nw3 H hznw3 hG hS => ?_)
    have hLnw3 : (gup σ nw3 (16, gO 19 [.null])) nw3 = some (16, gO 19 [.null]) := gup_s
    have hTH4 : TH (gup σ nw3 (16, gO 19 [.null])) tg mp (tIn n ad ps) K Vv l_ r_ p_ C rt es ks sz md := hTH.keep (tg' := fun _ => False) (gKeep.new hznw3) (fun h => h)
    have hkp4 : gKeep (fun t => t = tg) σ (gup σ nw3 (16, gO 19 [.null])) := hkp.tr (gKeep.new hznw3)
    generalize hgen4 : (gup σ nw3 (16, gO 19 [.null])) = σ4 at hG hLnw3 hTH4 hkp4
    refine lv_dup hx hb dJ4_entrySet_17 rfl ?_
    refine lv_aload_n hx hb dJ4_entrySet_18 rfl (lv_at hl 1 rfl) ?_
    refine g_callI (As := [.ref mp]) (rest := [.ref nw3, .ref mp]) 1 hx hb hml hown hts hK hG hS hl.1 (mJ26_init l X σ4 nw3 _ mp hLnw3) q1243 q1244 q109 q1245 rfl (by decide +kernel) rfl ⟨Nat.le_of_ble_eq_true rfl, Nat.le_of_ble_eq_true rfl⟩ ⟨Nat.le_of_ble_eq_true rfl, Nat.le_of_ble_eq_true rfl⟩ (Nat.le_of_ble_eq_true rfl) dJ4_entrySet_19 (kV (fun σr5 H locs hp hG hS => ?_))
    have hp : σr5 = (gup σ4 nw3 (16, gO 19 [.ref mp])) := hp
    have hL6 : σr5 nw3 = some (16, gO 19 [.ref mp]) := by rw [hp]; exact gup_s
    have hp6 : σr5 = (gup σ nw3 (16, gO 19 [.ref mp])) := by rw [hp, ← hgen4, gup_gup]
    have hTH6 : TH σr5 tg mp (tIn n ad ps) K Vv l_ r_ p_ C rt es ks sz md := by rw [hp6]; exact hTH.keep (tg' := fun _ => False) (gKeep.new hznw3) (fun h => h)
    have hkp6 : gKeep (fun t => t = tg) σ σr5 := by rw [hp6]; exact hkp.tr (gKeep.new hznw3)
    refine lv_dup_x1 hx hb dJ4_entrySet_22 rfl rfl ?_
    refine g_put (C := RJ4) (T := TJ4) (N := 9) (ty0 := tyJ4) (v := .ref nw3) hx hb hts hown hK hG hS hTH6.1 rfl in_J4 tyJ4_ok nmJ4 6 (by decide) q150 rfl (by decide) rfl rfl (Nat.le_of_ble_eq_true rfl) dJ4_entrySet_23 (fun H locs hG hS => ?_)
    have hTH7 : TH (gup σr5 mp (tg, gO 13 ((tmF rt es ks sz md).set 6 (.ref nw3)))) tg mp (tIn n ad ps) K Vv l_ r_ p_ C rt (some nw3) ks sz md := hTH6.map rfl
    have hkp7 : gKeep (fun t => t = tg) σ (gup σr5 mp (tg, gO 13 ((tmF rt es ks sz md).set 6 (.ref nw3)))) := hkp6.tr (gKeep.up hTH6.1 rfl)
    have hL6 := (gKeep.up hTH6.1 rfl : gKeep (fun t => t = tg) σr5 (gup σr5 mp (tg, gO 13 ((tmF rt es ks sz md).set 6 (.ref nw3))))) _ _ _ hL6 (fun e => htz e.symm)
    generalize (gup σr5 mp (tg, gO 13 ((tmF rt es ks sz md).set 6 (.ref nw3)))) = σ7 at hG hTH7 hkp7 hL6
    exact g_aret hx hb hr (by first | exact Or.inl ⟨_, rfl⟩ | exact Or.inr ⟨_, rfl⟩) (by first | exact Or.inl rfl | exact Or.inr ⟨_, rfl⟩ | assumption | exact va_rf_or _) hlocks hQ hG hS (Nat.le_of_ble_eq_true rfl) (Nat.le_of_ble_eq_true rfl) ⟨_, rfl, nw3, rfl, Or.inr ⟨ho2, hznw3, hTH7, hL6, hkp7⟩⟩ dJ4_entrySet_26
  · have hl : lv_has ls 2 [(1, .ref z1), (0, .ref mp)] := by first | exact hl | (rw [ho2] at hl; exact hl)
    refine lv_aload_n hx hb dJ4_entrySet_9 rfl (lv_at hl 0 rfl) ?_
    refine lv_goto (tgt := 26) hx hb dJ4_entrySet_10 (by decide) ?_
    exact g_aret hx hb hr (by first | exact Or.inl ⟨_, rfl⟩ | exact Or.inr ⟨_, rfl⟩) (by first | exact Or.inl rfl | exact Or.inr ⟨_, rfl⟩ | assumption | exact va_rf_or _) hlocks hQ hG hS (Nat.zero_le _) (Nat.zero_le _) ⟨_, rfl, z1, rfl, Or.inl ⟨ho2, rfl⟩⟩ dJ4_entrySet_26

set_option maxHeartbeats 4000000 in
theorem mJ26_iterator (l : Launch) (X : gX) (σ : gS) (tg mp n : Nat) (ad ps : Nat → Nat) (K : Nat → Nat) (Vv l_ r_ p_ : Nat → Option Nat) (C : Nat → Int) (rt es ks : Option Nat) (sz md : Int) (hTH : TH σ tg mp (tIn n ad ps) K Vv l_ r_ p_ C rt es ks sz md) (lo hi : Nat → Nat) (hok : tOk n ad ps l_ r_ p_ lo hi rt) (htz : ¬ tg = 15) (κs t8 : Nat) (hκs : σ κs = some (t8, gO 19 [.ref mp])) : gMet l X yJ26_iterator cJ26_iterator 1 (some (.object "java/util/Iterator")) 3 1 4 64 σ [.ref κs] (oA (fun v σ' => ∃ z, v = .ref z ∧ σ z = none ∧ σ' = gup σ z (15, gO 20 [va_rf (if 0 < n then some (ad (0)) else none), .null, .int (iI md), .ref mp]))) := by
  refine gMet.of (by decide) (Nat.le_of_ble_eq_true rfl) ?_
  intro pp ee ss mm args below meth cd Q H locs ls hargs hx hb hr hlocks hml hown hnm hts hK hG hS hQ hl
  have hown : ss.vm.findClass RJ26 = some mm.cls := hown
  have hl : lv_has ls 1 [(0, .ref κs)] := hl
  have hkp : gKeep (fun t => t = tg) σ σ := gKeep.rf
  refine g_new (ci := 20) (C := RJ28) (T := TJ28) (N := 4) (ty := tyJ28) (fs := [.null, .null, .int (iI 0), .null]) hx hb 15 hts hown hK hG hS rfl in_J28 tyJ28_ok q1261 q1262 q111 (fun j hj => match j, hj with | 0, _ => rfl | 1, _ => rfl | 2, _ => rfl | 3, _ => rfl | k9 + 4, h => absurd h (by omega)) (Nat.le_of_ble_eq_true rfl) (Nat.le_of_ble_eq_true rfl) dJ26_iterator_0 (fun nw1 H hznw1 hG hS => ?_)
  have hLnw1 : (gup σ nw1 (15, gO 20 [.null, .null, .int (iI 0), .null])) nw1 = some (15, gO 20 [.null, .null, .int (iI 0), .null]) := gup_s
  have hLf2_0 := (gKeep.new hznw1 : gKeep (fun _ => False) σ (gup σ nw1 (15, gO 20 [.null, .null, .int (iI 0), .null]))) _ _ _ hκs (fun h => h)
  have hTH2 : TH (gup σ nw1 (15, gO 20 [.null, .null, .int (iI 0), .null])) tg mp (tIn n ad ps) K Vv l_ r_ p_ C rt es ks sz md := hTH.keep (tg' := fun _ => False) (gKeep.new hznw1) (fun h => h)
  have hkp2 : gKeep (fun t => t = tg) σ (gup σ nw1 (15, gO 20 [.null, .null, .int (iI 0), .null])) := hkp.tr (gKeep.new hznw1)
  generalize hgen2 : (gup σ nw1 (15, gO 20 [.null, .null, .int (iI 0), .null])) = σ2 at hG hLnw1 hLf2_0 hTH2 hkp2
  refine lv_dup hx hb dJ26_iterator_3 rfl ?_
  refine lv_aload_n hx hb dJ26_iterator_4 rfl (lv_at hl 0 rfl) ?_
  refine g_get (C := RJ26) (T := TJ26) (N := 1) (v := .ref mp) hx hb hts hown hK hG hLf2_0 rfl in_J26 0 (by decide) q1247 rfl rfl dJ26_iterator_5 ?_
  refine lv_aload_n hx hb dJ26_iterator_8 rfl (lv_at hl 0 rfl) ?_
  refine g_get (C := RJ26) (T := TJ26) (N := 1) (v := .ref mp) hx hb hts hown hK hG hLf2_0 rfl in_J26 0 (by decide) q1247 rfl rfl dJ26_iterator_9 ?_
  refine g_callV (As := []) (rest := [.ref mp, .ref nw1, .ref nw1]) 0 hx hb hml hown hts hK hG hS hl.1 (mJ4_getFirstEntry l X σ2 tg mp n ad ps K Vv l_ r_ p_ C rt es ks sz md hTH2 lo hi hok) hTH2.1 rfl q1263 q1264 q1265 q75 q1266 (by decide +kernel) rfl ⟨Nat.le_of_ble_eq_true rfl, Nat.le_of_ble_eq_true rfl⟩ ⟨Nat.le_of_ble_eq_true rfl, Nat.le_of_ble_eq_true rfl⟩ (Nat.le_of_ble_eq_true rfl) dJ26_iterator_12 (kA (fun r3 σr3 H locs hp hG hS => ?_))
  obtain ⟨rfl, rfl⟩ := hp
  refine g_callI (As := [.ref mp, va_rf (if 0 < n then some (ad 0) else none)]) (rest := [.ref nw1]) 2 hx hb hml hown hts hK hG hS hl.1 (mJ28_init_e l X σ2 nw1 _ tg mp n ad ps K Vv l_ r_ p_ C rt es ks sz md hTH2 htz (if 0 < n then some (ad 0) else none) hLnw1) q1267 q1268 q111 q1269 rfl (by decide +kernel) rfl ⟨Nat.le_of_ble_eq_true rfl, Nat.le_of_ble_eq_true rfl⟩ ⟨Nat.le_of_ble_eq_true rfl, Nat.le_of_ble_eq_true rfl⟩ (Nat.le_of_ble_eq_true rfl) dJ26_iterator_15 (kV (fun σr4 H locs hp hG hS => ?_))
  have hp : σr4 = (gup σ2 nw1 (15, gO 20 [va_rf (if 0 < n then some (ad 0) else none), .null, .int (iI md), .ref mp])) := hp
  have hL5 : σr4 nw1 = some (15, gO 20 [va_rf (if 0 < n then some (ad 0) else none), .null, .int (iI md), .ref mp]) := by rw [hp]; exact gup_s
  have hp5 : σr4 = (gup σ nw1 (15, gO 20 [va_rf (if 0 < n then some (ad 0) else none), .null, .int (iI md), .ref mp])) := by rw [hp, ← hgen2, gup_gup]
  have hTH5 : TH σr4 tg mp (tIn n ad ps) K Vv l_ r_ p_ C rt es ks sz md := by rw [hp5]; exact hTH.keep (tg' := fun _ => False) (gKeep.new hznw1) (fun h => h)
  have hkp5 : gKeep (fun t => t = tg) σ σr4 := by rw [hp5]; exact hkp.tr (gKeep.new hznw1)
  exact g_aret hx hb hr (by first | exact Or.inl ⟨_, rfl⟩ | exact Or.inr ⟨_, rfl⟩) (by first | exact Or.inl rfl | exact Or.inr ⟨_, rfl⟩ | assumption | exact va_rf_or _) hlocks hQ hG hS (Nat.le_of_ble_eq_true rfl) (Nat.le_of_ble_eq_true rfl) ⟨_, rfl, nw1, rfl, hznw1, hp5⟩ dJ26_iterator_18

set_option maxHeartbeats 4000000 in
theorem mJ30_iterator (l : Launch) (X : gX) (σ : gS) (tg mp n : Nat) (ad ps : Nat → Nat) (K : Nat → Nat) (Vv l_ r_ p_ : Nat → Option Nat) (C : Nat → Int) (rt es ks : Option Nat) (sz md : Int) (hTH : TH σ tg mp (tIn n ad ps) K Vv l_ r_ p_ C rt es ks sz md) (lo hi : Nat → Nat) (hok : tOk n ad ps l_ r_ p_ lo hi rt) (htz : ¬ tg = 15) (κs t8 : Nat) (hκs : σ κs = some (t8, gO 22 [.ref mp])) : gMet l X yJ30_iterator cJ30_iterator 1 (some (.object "java/util/Iterator")) 4 1 4 84 σ [.ref κs] (oA (fun v σ' => ∃ z, v = .ref z ∧ σ z = none ∧ σ' = gup σ z (15, gO 21 [va_rf (if 0 < n then some (ad (0)) else none), .null, .int (iI md), .ref mp]))) := by
  refine gMet.of (by decide) (Nat.le_of_ble_eq_true rfl) ?_
  intro pp ee ss mm args below meth cd Q H locs ls hargs hx hb hr hlocks hml hown hnm hts hK hG hS hQ hl
  have hown : ss.vm.findClass RJ30 = some mm.cls := hown
  have hl : lv_has ls 1 [(0, .ref κs)] := hl
  have hkp : gKeep (fun t => t = tg) σ σ := gKeep.rf
  refine lv_aload_n hx hb dJ30_iterator_0 rfl (lv_at hl 0 rfl) ?_
  refine g_get (C := RJ30) (T := TJ30) (N := 1) (v := .ref mp) hx hb hts hown hK hG hκs rfl in_J30 0 (by decide) q1336 rfl rfl dJ30_iterator_1 ?_
  refine g_instS hx hb hts hown hK hG hTH.1 rfl q1293 dJ30_iterator_4 ?_
  refine g_if_eq (tgt := 21) hx hb dJ30_iterator_7 (by decide) (by omega) (fun cq1 => absurd cq1 (by decide)) (fun cq1 => ?_)
  refine lv_aload_n hx hb dJ30_iterator_10 rfl (lv_at hl 0 rfl) ?_
  refine g_get (C := RJ30) (T := TJ30) (N := 1) (v := .ref mp) hx hb hts hown hK hG hκs rfl in_J30 0 (by decide) q1336 rfl rfl dJ30_iterator_11 ?_
  refine g_castS hx hb hts hown hK hG hTH.1 rfl q1293 dJ30_iterator_14 ?_
  refine g_callV (As := []) (rest := []) 0 hx hb hml hown hts hK hG hS hl.1 (mJ4_keyIterator l X σ tg mp n ad ps K Vv l_ r_ p_ C rt es ks sz md hTH lo hi hok htz) hTH.1 rfl q1294 q1295 q1296 q75 q1297 (by decide +kernel) rfl ⟨Nat.le_of_ble_eq_true rfl, Nat.le_of_ble_eq_true rfl⟩ ⟨Nat.le_of_ble_eq_true rfl, Nat.le_of_ble_eq_true rfl⟩ (Nat.le_of_ble_eq_true rfl) dJ30_iterator_17 (kA (fun r2 σr2 H locs hp hG hS => ?_))
  obtain ⟨zi9, rfl, hzi9, hs9⟩ := hp
  exact g_aret hx hb hr (by first | exact Or.inl ⟨_, rfl⟩ | exact Or.inr ⟨_, rfl⟩) (by first | exact Or.inl rfl | exact Or.inr ⟨_, rfl⟩ | assumption | exact va_rf_or _) hlocks hQ hG hS (Nat.le_of_ble_eq_true rfl) (Nat.le_of_ble_eq_true rfl) ⟨_, rfl, zi9, rfl, hzi9, hs9⟩ dJ30_iterator_20

set_option maxHeartbeats 4000000 in
theorem mJ25_getKey (l : Launch) (X : gX) (σ : gS) (tg mp n : Nat) (ad ps : Nat → Nat) (K : Nat → Nat) (Vv l_ r_ p_ : Nat → Option Nat) (C : Nat → Int) (rt es ks : Option Nat) (sz md : Int) (hTH : TH σ tg mp (tIn n ad ps) K Vv l_ r_ p_ C rt es ks sz md) (a : Nat) (hDa : tIn n ad ps a) : gMet l X yJ25_getKey cJ25_getKey 1 (some (.object "java/lang/Object")) 0 0 0 0 σ [.ref a] (oA (fun v σ' => v = .ref (K a) ∧ σ = σ')) := by
  refine gMet.of (by decide) (Nat.le_of_ble_eq_true rfl) ?_
  intro pp ee ss mm args below meth cd Q H locs ls hargs hx hb hr hlocks hml hown hnm hts hK hG hS hQ hl
  have hown : ss.vm.findClass RJ25 = some mm.cls := hown
  have hl : lv_has ls 1 [(0, .ref a)] := hl
  have hkp : gKeep (fun t => t = tg) σ σ := gKeep.rf
  refine lv_aload_n hx hb dJ25_getKey_0 rfl (lv_at hl 0 rfl) ?_
  refine g_get (C := RJ25) (T := TJ25) (N := 6) (v := .ref (K a)) hx hb hts hown hK hG (hTH.2.1 _ hDa) rfl in_J25 0 (by decide) q1175 rfl rfl dJ25_getKey_1 ?_
  exact g_aret hx hb hr (by first | exact Or.inl ⟨_, rfl⟩ | exact Or.inr ⟨_, rfl⟩) (by first | exact Or.inl rfl | exact Or.inr ⟨_, rfl⟩ | assumption | exact va_rf_or _) hlocks hQ hG hS (Nat.zero_le _) (Nat.zero_le _) ⟨_, rfl, rfl, rfl⟩ dJ25_getKey_4

set_option maxHeartbeats 4000000 in
theorem mJ25_getValue (l : Launch) (X : gX) (σ : gS) (tg mp n : Nat) (ad ps : Nat → Nat) (K : Nat → Nat) (Vv l_ r_ p_ : Nat → Option Nat) (C : Nat → Int) (rt es ks : Option Nat) (sz md : Int) (hTH : TH σ tg mp (tIn n ad ps) K Vv l_ r_ p_ C rt es ks sz md) (a : Nat) (hDa : tIn n ad ps a) : gMet l X yJ25_getValue cJ25_getValue 1 (some (.object "java/lang/Object")) 0 0 0 0 σ [.ref a] (oA (fun v σ' => v = va_rf (Vv a) ∧ σ = σ')) := by
  refine gMet.of (by decide) (Nat.le_of_ble_eq_true rfl) ?_
  intro pp ee ss mm args below meth cd Q H locs ls hargs hx hb hr hlocks hml hown hnm hts hK hG hS hQ hl
  have hown : ss.vm.findClass RJ25 = some mm.cls := hown
  have hl : lv_has ls 1 [(0, .ref a)] := hl
  have hkp : gKeep (fun t => t = tg) σ σ := gKeep.rf
  refine lv_aload_n hx hb dJ25_getValue_0 rfl (lv_at hl 0 rfl) ?_
  refine g_get (C := RJ25) (T := TJ25) (N := 6) (v := va_rf (Vv a)) hx hb hts hown hK hG (hTH.2.1 _ hDa) rfl in_J25 1 (by decide) q1178 rfl rfl dJ25_getValue_1 ?_
  exact g_aret hx hb hr (by first | exact Or.inl ⟨_, rfl⟩ | exact Or.inr ⟨_, rfl⟩) (by first | exact Or.inl rfl | exact Or.inr ⟨_, rfl⟩ | assumption | exact va_rf_or _) hlocks hQ hG hS (Nat.zero_le _) (Nat.zero_le _) ⟨_, rfl, rfl, rfl⟩ dJ25_getValue_4

