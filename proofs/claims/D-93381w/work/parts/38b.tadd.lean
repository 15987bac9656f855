theorem mJ25_init (l : Launch) (X : gX) (σ : gS) (z tz : Nat) (κ : Nat) (v9 q9 : Option Nat) (hz : σ z = some (tz, gO 18 [.null, .null, .null, .null, .null, .int (iI 0)])) : gMet l X yJ25_init cJ25_init 4 none 1 0 0 20 σ [.ref z, .ref κ, va_rf v9, va_rf q9] (oV (fun σ' => σ' = gup σ z (tz, gO 18 [.ref κ, va_rf v9, .null, .null, va_rf q9, .int (iI 1)]))) := by
  refine gMet.of (by decide) (by cases v9 <;> cases q9 <;> exact Nat.le_of_ble_eq_true rfl) ?_
  intro pp ee ss mm args below meth cd Q H locs ls hargs hx hb hr hlocks hml hown hnm hts hK hG hS hQ hl
  have hown : ss.vm.findClass RJ25 = some mm.cls := hown
  have hl : lv_has ls 4 [(0, .ref z), (1, .ref κ), (2, va_rf v9), (3, va_rf q9)] := by cases v9 <;> cases q9 <;> exact hl
  refine lv_aload_n hx hb dJ25_init_0 rfl (lv_at hl 0 rfl) ?_
  refine W.objInit hx hb hown (hts _ q1174) (hts _ q123) (hts _ q124) rfl (by rw [hml]; exact hl.1) rfl dJ25_init_1 (Nat.le_of_ble_eq_true rfl) (Nat.le_of_ble_eq_true rfl) ?_
  refine W.eq (g2 := F0 mm 4 ls []) rfl ?_
  refine lv_aload_n hx hb dJ25_init_4 rfl (lv_at hl 0 rfl) ?_
  refine g_iconst hx hb dJ25_init_5 ?_
  refine g_put (C := RJ25) (T := TJ25) (N := 6) (ty0 := tyJ25) (v := .int (iI 1)) hx hb hts hown hK hG hS hz rfl in_J25 tyJ25_ok nmJ25 5 (by decide) q1184 rfl (by decide) (by first | rfl | decide) (by first | rfl | decide) (Nat.le_of_ble_eq_true rfl) dJ25_init_6 (fun H locs hG hS => ?_)
  have hs1 : (gup σ z (tz, gO 18 ([.null, .null, .null, .null, .null, .int (iI 0)].set 5 (.int (iI 1))))) = gup σ z (tz, gO 18 [.null, .null, .null, .null, .null, .int (iI 1)]) := by rfl
  have hL1 : (gup σ z (tz, gO 18 ([.null, .null, .null, .null, .null, .int (iI 0)].set 5 (.int (iI 1))))) z = some (tz, gO 18 [.null, .null, .null, .null, .null, .int (iI 1)]) := gup_s
  generalize (gup σ z (tz, gO 18 ([.null, .null, .null, .null, .null, .int (iI 0)].set 5 (.int (iI 1))))) = σ1 at hG hs1 hL1
  refine lv_aload_n hx hb dJ25_init_9 rfl (lv_at hl 0 rfl) ?_
  refine lv_aload_n hx hb dJ25_init_10 rfl (lv_at hl 1 rfl) ?_
  refine g_put (C := RJ25) (T := TJ25) (N := 6) (ty0 := tyJ25) (v := .ref κ) hx hb hts hown hK hG hS hL1 rfl in_J25 tyJ25_ok nmJ25 0 (by decide) q1175 rfl (by decide) rfl rfl (Nat.le_of_ble_eq_true rfl) dJ25_init_11 (fun H locs hG hS => ?_)
  have hs2 : (gup σ1 z (tz, gO 18 ([.null, .null, .null, .null, .null, .int (iI 1)].set 0 (.ref κ)))) = gup σ z (tz, gO 18 [.ref κ, .null, .null, .null, .null, .int (iI 1)]) := by rw [hs1, gup_gup]; rfl
  have hL2 : (gup σ1 z (tz, gO 18 ([.null, .null, .null, .null, .null, .int (iI 1)].set 0 (.ref κ)))) z = some (tz, gO 18 [.ref κ, .null, .null, .null, .null, .int (iI 1)]) := gup_s
  generalize (gup σ1 z (tz, gO 18 ([.null, .null, .null, .null, .null, .int (iI 1)].set 0 (.ref κ)))) = σ2 at hG hs2 hL2
  refine lv_aload_n hx hb dJ25_init_14 rfl (lv_at hl 0 rfl) ?_
  refine g_aload_nR hx hb dJ25_init_15 rfl (lv_at hl 2 rfl) ?_
  refine g_put (C := RJ25) (T := TJ25) (N := 6) (ty0 := tyJ25) (v := va_rf v9) hx hb hts hown hK hG hS hL2 rfl in_J25 tyJ25_ok nmJ25 1 (by decide) q1178 rfl (by decide) (nrf _) (frf _) (Nat.le_of_ble_eq_true rfl) dJ25_init_16 (fun H locs hG hS => ?_)
  have hs3 : (gup σ2 z (tz, gO 18 ([.ref κ, .null, .null, .null, .null, .int (iI 1)].set 1 (va_rf v9)))) = gup σ z (tz, gO 18 [.ref κ, va_rf v9, .null, .null, .null, .int (iI 1)]) := by rw [hs2, gup_gup]; rfl
  have hL3 : (gup σ2 z (tz, gO 18 ([.ref κ, .null, .null, .null, .null, .int (iI 1)].set 1 (va_rf v9)))) z = some (tz, gO 18 [.ref κ, va_rf v9, .null, .null, .null, .int (iI 1)]) := gup_s
  generalize (gup σ2 z (tz, gO 18 ([.ref κ, .null, .null, .null, .null, .int (iI 1)].set 1 (va_rf v9)))) = σ3 at hG hs3 hL3
  refine lv_aload_n hx hb dJ25_init_19 rfl (lv_at hl 0 rfl) ?_
  refine g_aload_nR hx hb dJ25_init_20 rfl (lv_at hl 3 rfl) ?_
  refine g_put (C := RJ25) (T := TJ25) (N := 6) (ty0 := tyJ25) (v := va_rf q9) hx hb hts hown hK hG hS hL3 rfl in_J25 tyJ25_ok nmJ25 4 (by decide) q1182 rfl (by decide) (nrf _) (frf _) (Nat.le_of_ble_eq_true rfl) dJ25_init_21 (fun H locs hG hS => ?_)
  have hs4 : (gup σ3 z (tz, gO 18 ([.ref κ, va_rf v9, .null, .null, .null, .int (iI 1)].set 4 (va_rf q9)))) = gup σ z (tz, gO 18 [.ref κ, va_rf v9, .null, .null, va_rf q9, .int (iI 1)]) := by rw [hs3, gup_gup]; rfl
  have hL4 : (gup σ3 z (tz, gO 18 ([.ref κ, va_rf v9, .null, .null, .null, .int (iI 1)].set 4 (va_rf q9)))) z = some (tz, gO 18 [.ref κ, va_rf v9, .null, .null, va_rf q9, .int (iI 1)]) := gup_s
  generalize (gup σ3 z (tz, gO 18 ([.ref κ, va_rf v9, .null, .null, .null, .int (iI 1)].set 4 (va_rf q9)))) = σ4 at hG hs4 hL4
  exact g_vret hx hb hr hlocks hQ hG hS (Nat.zero_le _) (Nat.zero_le _) ⟨rfl, hs4⟩ dJ25_init_24

set_option maxHeartbeats 4000000 in
theorem mJ4_addEntry_l (l : Launch) (X : gX) (σ : gS) (tg mp n : Nat) (ad ps : Nat → Nat) (K : Nat → Nat) (Vv l_ r_ p_ : Nat → Option Nat) (C : Nat → Int) (rt es ks : Option Nat) (sz md : Int) (hTH : TH σ tg mp (tIn n ad ps) K Vv l_ r_ p_ C rt es ks sz md) (lo hi : Nat → Nat) (hok : tOk n ad ps l_ r_ p_ lo hi rt) (κ : Nat) (v9 : Option Nat) (a : Nat) (hDa : tIn n ad ps a) (hn9 : l_ a = none) : gMet l X yJ4_addEntry cJ4_addEntry 6 none 2 1 6 44 σ [.ref mp, .ref κ, va_rf v9, .ref a, .int (iI 1)] (oV (fun σ' => ∃ (z : Nat) (l2 r2 p2 : Nat → Option Nat) (C2 : Nat → Int) (rt2 : Option Nat) (lo2 hi2 : Nat → Nat), ¬ tIn n ad ps z ∧ TH σ' tg mp (tIn (n + 1) (tAd z (ps a) ad) (tPs z (ps a) ps)) (va_up K z κ) (va_up Vv z v9) l2 r2 p2 C2 rt2 es ks (sz + 1) (md + 1) ∧ tOk (n + 1) (tAd z (ps a) ad) (tPs z (ps a) ps) l2 r2 p2 lo2 hi2 rt2 ∧ gKeep (fun t => t = tg) σ σ')) := by
  refine gMet.of (by decide) (by cases v9 <;> exact Nat.le_of_ble_eq_true rfl) ?_
  intro pp ee ss mm args below meth cd Q H locs ls hargs hx hb hr hlocks hml hown hnm hts hK hG hS hQ hl
  have hown : ss.vm.findClass RJ4 = some mm.cls := hown
  have hl : lv_has ls 6 [(0, .ref mp), (1, .ref κ), (2, va_rf v9), (3, .ref a), (4, .int (iI 1))] := by cases v9 <;> exact hl
  have hkp : gKeep (fun t => t = tg) σ σ := gKeep.rf
  have hna := hok.num hDa
  refine g_new (ci := 18) (C := RJ25) (T := TJ25) (N := 6) (ty := tyJ25) (fs := [.null, .null, .null, .null, .null, .int (iI 0)]) hx hb tg hts hown hK hG hS rfl in_J25 tyJ25_ok q1169 q1170 q108 (fun j hj => match j, hj with | 0, _ => rfl | 1, _ => rfl | 2, _ => rfl | 3, _ => rfl | 4, _ => rfl | 5, _ => rfl | k9 + 6, h => absurd h (by omega)) (Nat.le_of_ble_eq_true rfl) (Nat.le_of_ble_eq_true rfl) dJ4_addEntry_0 (fun nw1 H hznw1 hG hS => ?_)
  have hLnw1 : (gup σ nw1 (tg, gO 18 [.null, .null, .null, .null, .null, .int (iI 0)])) nw1 = some (tg, gO 18 [.null, .null, .null, .null, .null, .int (iI 0)]) := gup_s
  have hTH2 : TH (gup σ nw1 (tg, gO 18 [.null, .null, .null, .null, .null, .int (iI 0)])) tg mp (tIn n ad ps) K Vv l_ r_ p_ C rt es ks sz md := hTH.keep (tg' := fun _ => False) (gKeep.new hznw1) (fun h => h)
  have hkp2 : gKeep (fun t => t = tg) σ (gup σ nw1 (tg, gO 18 [.null, .null, .null, .null, .null, .int (iI 0)])) := hkp.tr (gKeep.new hznw1)
  generalize hgen2 : (gup σ nw1 (tg, gO 18 [.null, .null, .null, .null, .null, .int (iI 0)])) = σ2 at hG hLnw1 hTH2 hkp2
  refine lv_dup hx hb dJ4_addEntry_3 rfl ?_
  refine lv_aload_n hx hb dJ4_addEntry_4 rfl (lv_at hl 1 rfl) ?_
  refine g_aload_nR hx hb dJ4_addEntry_5 rfl (lv_at hl 2 rfl) ?_
  refine lv_aload_n hx hb dJ4_addEntry_6 rfl (lv_at hl 3 rfl) ?_
  refine g_callI (As := [.ref κ, va_rf v9, .ref a]) (rest := [.ref nw1]) 3 hx hb hml hown hts hK hG hS hl.1 (mJ25_init l X σ2 nw1 _ κ v9 (some a) hLnw1) q1171 q1172 q108 q1173 rfl (by decide +kernel) rfl ⟨Nat.le_of_ble_eq_true rfl, Nat.le_of_ble_eq_true rfl⟩ ⟨Nat.le_of_ble_eq_true rfl, Nat.le_of_ble_eq_true rfl⟩ (Nat.le_of_ble_eq_true rfl) dJ4_addEntry_7 (kV (fun σr3 H locs hp hG hS => ?_))
  have hp : σr3 = (gup σ2 nw1 (tg, gO 18 [.ref κ, va_rf v9, .null, .null, .ref a, .int (iI 1)])) := hp
  have hL4 : σr3 nw1 = some (tg, gO 18 [.ref κ, va_rf v9, .null, .null, .ref a, .int (iI 1)]) := by rw [hp]; exact gup_s
  have hnD : ¬ tIn n ad ps nw1 := fun h => by have q := hTH.2.1 nw1 h; rw [hznw1] at q; cases q
  have hzm : mp ≠ nw1 := fun h => by have q := hTH.1; rw [h, hznw1] at q; cases q
  have hcn : (ps a) ≤ n := (by omega)
  have hIn := fun y => tPs_in (x := nw1) (z := y) hok.1 hnD hcn
  obtain ⟨kk4, ekk4⟩ : ∃ y : Nat → Nat, y = va_up K nw1 κ := ⟨_, rfl⟩
  obtain ⟨vv4, evv4⟩ : ∃ y : Nat → Option Nat, y = va_up Vv nw1 v9 := ⟨_, rfl⟩
  obtain ⟨ll4, ell4⟩ : ∃ y : Nat → Option Nat, y = va_up l_ nw1 none := ⟨_, rfl⟩
  obtain ⟨rr4, err4⟩ : ∃ y : Nat → Option Nat, y = va_up r_ nw1 none := ⟨_, rfl⟩
  obtain ⟨pp_4, epp_4⟩ : ∃ y : Nat → Option Nat, y = va_up p_ nw1 (some a) := ⟨_, rfl⟩
  obtain ⟨cc_4, ecc_4⟩ : ∃ y : Nat → Int, y = va_up C nw1 1 := ⟨_, rfl⟩
  have hTH4 : TH σr3 tg mp (tIn (n + 1) (tAd nw1 (ps a) ad) (tPs nw1 (ps a) ps)) kk4 vv4 ll4 rr4 pp_4 cc_4 rt es ks sz md := by rw [hp, ekk4, evv4, ell4, err4, epp_4, ecc_4]; exact hTH2.add (κ := κ) (v := v9) (q := (some a)) hzm (fun a ha => (hIn a).mp ha)
  have hkp4 : gKeep (fun t => t = tg) σ σr3 := by rw [hp]; exact hkp2.tr (gKeep.up hLnw1 rfl)
  have hm_a4 := (hIn a).mpr (Or.inr hDa)
  have hne_a4 : a ≠ nw1 := fun h => hnD (by rw [← h]; exact hDa)
  have hm_z4 := (hIn nw1).mpr (Or.inl rfl)
  refine lv_astore (lv' := [(5, .ref nw1), (0, .ref mp), (1, .ref κ), (2, va_rf v9), (3, .ref a), (4, .int (iI 1))]) hx hb dJ4_addEntry_10 hl (by decide) rfl (fun ls hl => ?_)
  refine lv_iload hx hb dJ4_addEntry_12 (lv_at hl 5 rfl) ?_
  refine g_if_eq (tgt := 26) hx hb dJ4_addEntry_14 (by decide) (by omega) (fun cq5 => absurd cq5 (by decide)) (fun cq5 => ?_)
  refine lv_aload_n hx hb dJ4_addEntry_17 rfl (lv_at hl 4 rfl) ?_
  refine lv_aload hx hb dJ4_addEntry_18 (lv_at hl 0 rfl) ?_
  refine g_put (C := RJ25) (T := TJ25) (N := 6) (ty0 := tyJ25) (v := .ref nw1) hx hb hts hown hK hG hS (hTH4.2.1 _ hm_a4) rfl in_J25 tyJ25_ok nmJ25 2 (by decide) q1180 rfl (by decide) rfl rfl (Nat.le_of_ble_eq_true rfl) dJ4_addEntry_20 (fun H locs hG hS => ?_)
  obtain ⟨ll6, ell6⟩ : ∃ z : Nat → Option Nat, z = va_up ll4 a (some nw1) := ⟨_, rfl⟩
  have hTH6 : TH (gup σr3 a (tg, gO 18 ((teF kk4 vv4 ll4 rr4 pp_4 cc_4 a).set 2 (.ref nw1)))) tg mp (tIn (n + 1) (tAd nw1 (ps a) ad) (tPs nw1 (ps a) ps)) kk4 vv4 ll6 rr4 pp_4 cc_4 rt es ks sz md := by rw [ell6]; exact hTH4.pL hm_a4 (some nw1)
  have hkp6 : gKeep (fun t => t = tg) σ (gup σr3 a (tg, gO 18 ((teF kk4 vv4 ll4 rr4 pp_4 cc_4 a).set 2 (.ref nw1)))) := hkp4.tr (gKeep.up (hTH4.2.1 _ hm_a4) rfl)
  generalize (gup σr3 a (tg, gO 18 ((teF kk4 vv4 ll4 rr4 pp_4 cc_4 a).set 2 (.ref nw1)))) = σ6 at hG hTH6 hkp6
  refine lv_goto (tgt := 32) hx hb dJ4_addEntry_23 (by decide) ?_
  obtain ⟨lo_i7, hi_i7, hoki7⟩ : ∃ lo3 hi3, tOk (n + 1) (tAd nw1 (ps a) ad) (tPs nw1 (ps a) ps) ll6 rr4 pp_4 lo3 hi3 rt := ⟨_, _, hok.insL hDa hnD rfl hn9 (hl := fun y hy => by
    rw [ell6]
    by_cases e : y = a
    · rw [e, va_up_self, if_pos rfl]
    · rw [va_up_ne _ _ e, if_neg e, ell4, va_up_ne _ _ (fun h => hnD (by rw [← h]; exact hy))]) (hr := fun y hy => by rw [err4, va_up_ne _ _ (fun h => hnD (by rw [← h]; exact hy))]) (hp := fun y hy => by rw [epp_4, va_up_ne _ _ (fun h => hnD (by rw [← h]; exact hy))]) (lx := by rw [ell6, va_up_ne _ _ hne_a4.symm, ell4, va_up_self]) (rx := by rw [err4, va_up_self]) (px := by rw [epp_4, va_up_self])⟩
  refine lv_aload_n hx hb dJ4_addEntry_32 rfl (lv_at hl 1 rfl) ?_
  refine lv_aload hx hb dJ4_addEntry_33 (lv_at hl 0 rfl) ?_
  refine g_callV (As := [.ref nw1]) (rest := []) 1 hx hb hml hown hts hK hG hS hl.1 (mJ4_fixAfterInsertion l X σ6 tg mp (n + 1) (tAd nw1 (ps a) ad) (tPs nw1 (ps a) ps) kk4 vv4 ll6 rr4 pp_4 cc_4 rt es ks sz md hTH6 lo_i7 hi_i7 hoki7 nw1 hm_z4) hTH6.1 rfl q1203 q1205 qs32 q75 q1206 (by decide +kernel) rfl ⟨Nat.le_of_ble_eq_true rfl, Nat.le_of_ble_eq_true rfl⟩ ⟨Nat.le_of_ble_eq_true rfl, Nat.le_of_ble_eq_true rfl⟩ (Nat.le_of_ble_eq_true rfl) dJ4_addEntry_35 (kV (fun σr8 H locs hp hG hS => ?_))
  obtain ⟨l_9, r_9, p_9, C_9, rt_9, lo_9, hi_9, hTH9, hok9, kp9⟩ := hp
  have hkp9 := hkp6.tr kp9
  refine lv_aload_n hx hb dJ4_addEntry_38 rfl (lv_at hl 1 rfl) ?_
  refine lv_dup hx hb dJ4_addEntry_39 rfl ?_
  refine g_get (C := RJ4) (T := TJ4) (N := 9) (v := .int (iI sz)) hx hb hts hown hK hG hTH9.1 rfl in_J4 4 (by decide) q147 rfl rfl dJ4_addEntry_40 ?_
  refine g_iconst hx hb dJ4_addEntry_43 ?_
  refine g_iadd hx hb dJ4_addEntry_44 ?_
  refine g_put (C := RJ4) (T := TJ4) (N := 9) (ty0 := tyJ4) (v := .int (iI (sz + 1))) hx hb hts hown hK hG hS hTH9.1 rfl in_J4 tyJ4_ok nmJ4 4 (by decide) q147 rfl (by decide) rfl rfl (Nat.le_of_ble_eq_true rfl) dJ4_addEntry_45 (fun H locs hG hS => ?_)
  have hTH10 : TH (gup σr8 mp (tg, gO 13 ((tmF rt_9 es ks sz md).set 4 (.int (iI (sz + 1)))))) tg mp (tIn (n + 1) (tAd nw1 (ps a) ad) (tPs nw1 (ps a) ps)) kk4 vv4 l_9 r_9 p_9 C_9 rt_9 es ks (sz + 1) md := hTH9.map rfl
  have hkp10 : gKeep (fun t => t = tg) σ (gup σr8 mp (tg, gO 13 ((tmF rt_9 es ks sz md).set 4 (.int (iI (sz + 1)))))) := hkp9.tr (gKeep.up hTH9.1 rfl)
  generalize (gup σr8 mp (tg, gO 13 ((tmF rt_9 es ks sz md).set 4 (.int (iI (sz + 1)))))) = σ10 at hG hTH10 hkp10
  refine lv_aload_n hx hb dJ4_addEntry_48 rfl (lv_at hl 1 rfl) ?_
  refine lv_dup hx hb dJ4_addEntry_49 rfl ?_
  refine g_get (C := RJ4) (T := TJ4) (N := 9) (v := .int (iI md)) hx hb hts hown hK hG hTH10.1 rfl in_J4 5 (by decide) q148 rfl rfl dJ4_addEntry_50 ?_
  refine g_iconst hx hb dJ4_addEntry_53 ?_
  refine g_iadd hx hb dJ4_addEntry_54 ?_
  refine g_put (C := RJ4) (T := TJ4) (N := 9) (ty0 := tyJ4) (v := .int (iI (md + 1))) hx hb hts hown hK hG hS hTH10.1 rfl in_J4 tyJ4_ok nmJ4 5 (by decide) q148 rfl (by decide) rfl rfl (Nat.le_of_ble_eq_true rfl) dJ4_addEntry_55 (fun H locs hG hS => ?_)
  have hTH11 : TH (gup σ10 mp (tg, gO 13 ((tmF rt_9 es ks (sz + 1) md).set 5 (.int (iI (md + 1)))))) tg mp (tIn (n + 1) (tAd nw1 (ps a) ad) (tPs nw1 (ps a) ps)) kk4 vv4 l_9 r_9 p_9 C_9 rt_9 es ks (sz + 1) (md + 1) := hTH10.map rfl
  have hkp11 : gKeep (fun t => t = tg) σ (gup σ10 mp (tg, gO 13 ((tmF rt_9 es ks (sz + 1) md).set 5 (.int (iI (md + 1)))))) := hkp10.tr (gKeep.up hTH10.1 rfl)
  generalize (gup σ10 mp (tg, gO 13 ((tmF rt_9 es ks (sz + 1) md).set 5 (.int (iI (md + 1)))))) = σ11 at hG hTH11 hkp11
  exact g_vret hx hb hr hlocks hQ hG hS (Nat.le_of_ble_eq_true rfl) (Nat.le_of_ble_eq_true rfl) ⟨rfl, nw1, l_9, r_9, p_9, C_9, rt_9, lo_9, hi_9, hnD, (by rw [← ekk4, ← evv4]; exact hTH11), hok9, hkp11⟩ dJ4_addEntry_58

set_option maxHeartbeats 4000000 in
theorem mJ4_addEntry_r (l : Launch) (X : gX) (σ : gS) (tg mp n : Nat) (ad ps : Nat → Nat) (K : Nat → Nat) (Vv l_ r_ p_ : Nat → Option Nat) (C : Nat → Int) (rt es ks : Option Nat) (sz md : Int) (hTH : TH σ tg mp (tIn n ad ps) K Vv l_ r_ p_ C rt es ks sz md) (lo hi : Nat → Nat) (hok : tOk n ad ps l_ r_ p_ lo hi rt) (κ : Nat) (v9 : Option Nat) (a : Nat) (hDa : tIn n ad ps a) (hn9 : r_ a = none) : gMet l X yJ4_addEntry cJ4_addEntry 6 none 2 1 6 44 σ [.ref mp, .ref κ, va_rf v9, .ref a, .int (iI 0)] (oV (fun σ' => ∃ (z : Nat) (l2 r2 p2 : Nat → Option Nat) (C2 : Nat → Int) (rt2 : Option Nat) (lo2 hi2 : Nat → Nat), ¬ tIn n ad ps z ∧ TH σ' tg mp (tIn (n + 1) (tAd z (ps a + 1) ad) (tPs z (ps a + 1) ps)) (va_up K z κ) (va_up Vv z v9) l2 r2 p2 C2 rt2 es ks (sz + 1) (md + 1) ∧ tOk (n + 1) (tAd z (ps a + 1) ad) (tPs z (ps a + 1) ps) l2 r2 p2 lo2 hi2 rt2 ∧ gKeep (fun t => t = tg) σ σ')) := by
  refine gMet.of (by decide) (by cases v9 <;> exact Nat.le_of_ble_eq_true rfl) ?_
  intro pp ee ss mm args below meth cd Q H locs ls hargs hx hb hr hlocks hml hown hnm hts hK hG hS hQ hl
  have hown : ss.vm.findClass RJ4 = some mm.cls := hown
  have hl : lv_has ls 6 [(0, .ref mp), (1, .ref κ), (2, va_rf v9), (3, .ref a), (4, .int (iI 0))] := by cases v9 <;> exact hl
  have hkp : gKeep (fun t => t = tg) σ σ := gKeep.rf
  have hna := hok.num hDa
  refine g_new (ci := 18) (C := RJ25) (T := TJ25) (N := 6) (ty := tyJ25) (fs := [.null, .null, .null, .null, .null, .int (iI 0)]) hx hb tg hts hown hK hG hS rfl in_J25 tyJ25_ok q1169 q1170 q108 (fun j hj => match j, hj with | 0, _ => rfl | 1, _ => rfl | 2, _ => rfl | 3, _ => rfl | 4, _ => rfl | 5, _ => rfl | k9 + 6, h => absurd h (by omega)) (Nat.le_of_ble_eq_true rfl) (Nat.le_of_ble_eq_true rfl) dJ4_addEntry_0 (fun nw1 H hznw1 hG hS => ?_)
  have hLnw1 : (gup σ nw1 (tg, gO 18 [.null, .null, .null, .null, .null, .int (iI 0)])) nw1 = some (tg, gO 18 [.null, .null, .null, .null, .null, .int (iI 0)]) := gup_s
  have hTH2 : TH (gup σ nw1 (tg, gO 18 [.null, .null, .null, .null, .null, .int (iI 0)])) tg mp (tIn n ad ps) K Vv l_ r_ p_ C rt es ks sz md := hTH.keep (tg' := fun _ => False) (gKeep.new hznw1) (fun h => h)
  have hkp2 : gKeep (fun t => t = tg) σ (gup σ nw1 (tg, gO 18 [.null, .null, .null, .null, .null, .int (iI 0)])) := hkp.tr (gKeep.new hznw1)
  generalize hgen2 : (gup σ nw1 (tg, gO 18 [.null, .null, .null, .null, .null, .int (iI 0)])) = σ2 at hG hLnw1 hTH2 hkp2
  refine lv_dup hx hb dJ4_addEntry_3 rfl ?_
  refine lv_aload_n hx hb dJ4_addEntry_4 rfl (lv_at hl 1 rfl) ?_
  refine g_aload_nR hx hb dJ4_addEntry_5 rfl (lv_at hl 2 rfl) ?_
  refine lv_aload_n hx hb dJ4_addEntry_6 rfl (lv_at hl 3 rfl) ?_
  refine g_callI (As := [.ref κ, va_rf v9, .ref a]) (rest := [.ref nw1]) 3 hx hb hml hown hts hK hG hS hl.1 (mJ25_init l X σ2 nw1 _ κ v9 (some a) hLnw1) q1171 q1172 q108 q1173 rfl (by decide +kernel) rfl ⟨Nat.le_of_ble_eq_true rfl, Nat.le_of_ble_eq_true rfl⟩ ⟨Nat.le_of_ble_eq_true rfl, Nat.le_of_ble_eq_true rfl⟩ (Nat.le_of_ble_eq_true rfl) dJ4_addEntry_7 (kV (fun σr3 H locs hp hG hS => ?_))
  have hp : σr3 = (gup σ2 nw1 (tg, gO 18 [.ref κ, va_rf v9, .null, .null, .ref a, .int (iI 1)])) := hp
  have hL4 : σr3 nw1 = some (tg, gO 18 [.ref κ, va_rf v9, .null, .null, .ref a, .int (iI 1)]) := by rw [hp]; exact gup_s
  have hnD : ¬ tIn n ad ps nw1 := fun h => by have q := hTH.2.1 nw1 h; rw [hznw1] at q; cases q
  have hzm : mp ≠ nw1 := fun h => by have q := hTH.1; rw [h, hznw1] at q; cases q
  have hcn : (ps a + 1) ≤ n := (by omega)
  have hIn := fun y => tPs_in (x := nw1) (z := y) hok.1 hnD hcn
  obtain ⟨kk4, ekk4⟩ : ∃ y : Nat → Nat, y = va_up K nw1 κ := ⟨_, rfl⟩
  obtain ⟨vv4, evv4⟩ : ∃ y : Nat → Option Nat, y = va_up Vv nw1 v9 := ⟨_, rfl⟩
  obtain ⟨ll4, ell4⟩ : ∃ y : Nat → Option Nat, y = va_up l_ nw1 none := ⟨_, rfl⟩
  obtain ⟨rr4, err4⟩ : ∃ y : Nat → Option Nat, y = va_up r_ nw1 none := ⟨_, rfl⟩
  obtain ⟨pp_4, epp_4⟩ : ∃ y : Nat → Option Nat, y = va_up p_ nw1 (some a) := ⟨_, rfl⟩
  obtain ⟨cc_4, ecc_4⟩ : ∃ y : Nat → Int, y = va_up C nw1 1 := ⟨_, rfl⟩
  have hTH4 : TH σr3 tg mp (tIn (n + 1) (tAd nw1 (ps a + 1) ad) (tPs nw1 (ps a + 1) ps)) kk4 vv4 ll4 rr4 pp_4 cc_4 rt es ks sz md := by rw [hp, ekk4, evv4, ell4, err4, epp_4, ecc_4]; exact hTH2.add (κ := κ) (v := v9) (q := (some a)) hzm (fun a ha => (hIn a).mp ha)
  have hkp4 : gKeep (fun t => t = tg) σ σr3 := by rw [hp]; exact hkp2.tr (gKeep.up hLnw1 rfl)
  have hm_a4 := (hIn a).mpr (Or.inr hDa)
  have hne_a4 : a ≠ nw1 := fun h => hnD (by rw [← h]; exact hDa)
  have hm_z4 := (hIn nw1).mpr (Or.inl rfl)
  refine lv_astore (lv' := [(5, .ref nw1), (0, .ref mp), (1, .ref κ), (2, va_rf v9), (3, .ref a), (4, .int (iI 0))]) hx hb dJ4_addEntry_10 hl (by decide) rfl (fun ls hl => ?_)
  refine lv_iload hx hb dJ4_addEntry_12 (lv_at hl 5 rfl) ?_
  refine g_if_eq (tgt := 26) hx hb dJ4_addEntry_14 (by decide) (by omega) (fun cq5 => ?_) (fun cq5 => absurd cq5 (by decide))
  refine lv_aload_n hx hb dJ4_addEntry_26 rfl (lv_at hl 4 rfl) ?_
  refine lv_aload hx hb dJ4_addEntry_27 (lv_at hl 0 rfl) ?_
  refine g_put (C := RJ25) (T := TJ25) (N := 6) (ty0 := tyJ25) (v := .ref nw1) hx hb hts hown hK hG hS (hTH4.2.1 _ hm_a4) rfl in_J25 tyJ25_ok nmJ25 3 (by decide) q1181 rfl (by decide) rfl rfl (Nat.le_of_ble_eq_true rfl) dJ4_addEntry_29 (fun H locs hG hS => ?_)
  obtain ⟨rr6, err6⟩ : ∃ z : Nat → Option Nat, z = va_up rr4 a (some nw1) := ⟨_, rfl⟩
  have hTH6 : TH (gup σr3 a (tg, gO 18 ((teF kk4 vv4 ll4 rr4 pp_4 cc_4 a).set 3 (.ref nw1)))) tg mp (tIn (n + 1) (tAd nw1 (ps a + 1) ad) (tPs nw1 (ps a + 1) ps)) kk4 vv4 ll4 rr6 pp_4 cc_4 rt es ks sz md := by rw [err6]; exact hTH4.pR hm_a4 (some nw1)
  have hkp6 : gKeep (fun t => t = tg) σ (gup σr3 a (tg, gO 18 ((teF kk4 vv4 ll4 rr4 pp_4 cc_4 a).set 3 (.ref nw1)))) := hkp4.tr (gKeep.up (hTH4.2.1 _ hm_a4) rfl)
  generalize (gup σr3 a (tg, gO 18 ((teF kk4 vv4 ll4 rr4 pp_4 cc_4 a).set 3 (.ref nw1)))) = σ6 at hG hTH6 hkp6
  obtain ⟨lo_i7, hi_i7, hoki7⟩ : ∃ lo3 hi3, tOk (n + 1) (tAd nw1 (ps a + 1) ad) (tPs nw1 (ps a + 1) ps) ll4 rr6 pp_4 lo3 hi3 rt := ⟨_, _, hok.insR hDa hnD rfl hn9 (hr := fun y hy => by
    rw [err6]
    by_cases e : y = a
    · rw [e, va_up_self, if_pos rfl]
    · rw [va_up_ne _ _ e, if_neg e, err4, va_up_ne _ _ (fun h => hnD (by rw [← h]; exact hy))]) (hl := fun y hy => by rw [ell4, va_up_ne _ _ (fun h => hnD (by rw [← h]; exact hy))]) (hp := fun y hy => by rw [epp_4, va_up_ne _ _ (fun h => hnD (by rw [← h]; exact hy))]) (lx := by rw [ell4, va_up_self]) (rx := by rw [err6, va_up_ne _ _ hne_a4.symm, err4, va_up_self]) (px := by rw [epp_4, va_up_self])⟩
  refine lv_aload_n hx hb dJ4_addEntry_32 rfl (lv_at hl 1 rfl) ?_
  refine lv_aload hx hb dJ4_addEntry_33 (lv_at hl 0 rfl) ?_
  refine g_callV (As := [.ref nw1]) (rest := []) 1 hx hb hml hown hts hK hG hS hl.1 (mJ4_fixAfterInsertion l X σ6 tg mp (n + 1) (tAd nw1 (ps a + 1) ad) (tPs nw1 (ps a + 1) ps) kk4 vv4 ll4 rr6 pp_4 cc_4 rt es ks sz md hTH6 lo_i7 hi_i7 hoki7 nw1 hm_z4) hTH6.1 rfl q1203 q1205 qs32 q75 q1206 (by decide +kernel) rfl ⟨Nat.le_of_ble_eq_true rfl, Nat.le_of_ble_eq_true rfl⟩ ⟨Nat.le_of_ble_eq_true rfl, Nat.le_of_ble_eq_true rfl⟩ (Nat.le_of_ble_eq_true rfl) dJ4_addEntry_35 (kV (fun σr8 H locs hp hG hS => ?_))
  obtain ⟨l_9, r_9, p_9, C_9, rt_9, lo_9, hi_9, hTH9, hok9, kp9⟩ := hp
  have hkp9 := hkp6.tr kp9
  refine lv_aload_n hx hb dJ4_addEntry_38 rfl (lv_at hl 1 rfl) ?_
  refine lv_dup hx hb dJ4_addEntry_39 rfl ?_
  refine g_get (C := RJ4) (T := TJ4) (N := 9) (v := .int (iI sz)) hx hb hts hown hK hG hTH9.1 rfl in_J4 4 (by decide) q147 rfl rfl dJ4_addEntry_40 ?_
  refine g_iconst hx hb dJ4_addEntry_43 ?_
  refine g_iadd hx hb dJ4_addEntry_44 ?_
  refine g_put (C := RJ4) (T := TJ4) (N := 9) (ty0 := tyJ4) (v := .int (iI (sz + 1))) hx hb hts hown hK hG hS hTH9.1 rfl in_J4 tyJ4_ok nmJ4 4 (by decide) q147 rfl (by decide) rfl rfl (Nat.le_of_ble_eq_true rfl) dJ4_addEntry_45 (fun H locs hG hS => ?_)
  have hTH10 : TH (gup σr8 mp (tg, gO 13 ((tmF rt_9 es ks sz md).set 4 (.int (iI (sz + 1)))))) tg mp (tIn (n + 1) (tAd nw1 (ps a + 1) ad) (tPs nw1 (ps a + 1) ps)) kk4 vv4 l_9 r_9 p_9 C_9 rt_9 es ks (sz + 1) md := hTH9.map rfl
  have hkp10 : gKeep (fun t => t = tg) σ (gup σr8 mp (tg, gO 13 ((tmF rt_9 es ks sz md).set 4 (.int (iI (sz + 1)))))) := hkp9.tr (gKeep.up hTH9.1 rfl)
  generalize (gup σr8 mp (tg, gO 13 ((tmF rt_9 es ks sz md).set 4 (.int (iI (sz + 1)))))) = σ10 at hG hTH10 hkp10
  refine lv_aload_n hx hb dJ4_addEntry_48 rfl (lv_at hl 1 rfl) ?_
  refine lv_dup hx hb dJ4_addEntry_49 rfl ?_
  refine g_get (C := RJ4) (T := TJ4) (N := 9) (v := .int (iI md)) hx hb hts hown hK hG hTH10.1 rfl in_J4 5 (by decide) q148 rfl rfl dJ4_addEntry_50 ?_
  refine g_iconst hx hb dJ4_addEntry_53 ?_
  refine g_iadd hx hb dJ4_addEntry_54 ?_
  refine g_put (C := RJ4) (T := TJ4) (N := 9) (ty0 := tyJ4) (v := .int (iI (md + 1))) hx hb hts hown hK hG hS hTH10.1 rfl in_J4 tyJ4_ok nmJ4 5 (by decide) q148 rfl (by decide) rfl rfl (Nat.le_of_ble_eq_true rfl) dJ4_addEntry_55 (fun H locs hG hS => ?_)
  have hTH11 : TH (gup σ10 mp (tg, gO 13 ((tmF rt_9 es ks (sz + 1) md).set 5 (.int (iI (md + 1)))))) tg mp (tIn (n + 1) (tAd nw1 (ps a + 1) ad) (tPs nw1 (ps a + 1) ps)) kk4 vv4 l_9 r_9 p_9 C_9 rt_9 es ks (sz + 1) (md + 1) := hTH10.map rfl
  have hkp11 : gKeep (fun t => t = tg) σ (gup σ10 mp (tg, gO 13 ((tmF rt_9 es ks (sz + 1) md).set 5 (.int (iI (md + 1)))))) := hkp10.tr (gKeep.up hTH10.1 rfl)
  generalize (gup σ10 mp (tg, gO 13 ((tmF rt_9 es ks (sz + 1) md).set 5 (.int (iI (md + 1)))))) = σ11 at hG hTH11 hkp11
  exact g_vret hx hb hr hlocks hQ hG hS (Nat.le_of_ble_eq_true rfl) (Nat.le_of_ble_eq_true rfl) ⟨rfl, nw1, l_9, r_9, p_9, C_9, rt_9, lo_9, hi_9, hnD, (by rw [← ekk4, ← evv4]; exact hTH11), hok9, hkp11⟩ dJ4_addEntry_58

set_option maxHeartbeats 4000000 in
theorem mJ4_addEntryToEmptyMap_X11 (l : Launch) (X : gX) (σ : gS) (tg mp n : Nat) (ad ps : Nat → Nat) (K : Nat → Nat) (Vv l_ r_ p_ : Nat → Option Nat) (C : Nat → Int) (rt es ks : Option Nat) (sz md : Int) (hTH : TH σ tg mp (tIn n ad ps) K Vv l_ r_ p_ C rt es ks sz md) (lo hi : Nat → Nat) (hok : tOk n ad ps l_ r_ p_ lo hi rt) (hrt : rt = none) (κ t9 : Nat) (k9 : Int) (v9 : Option Nat) (hκ : σ κ = some (t9, gO 11 [.int (iI k9)])) (hκt : ¬ t9 = tg) (hk9 : 0 ≤ k9 ∧ k9 ≤ 2000) : gMet l X yJ4_addEntryToEmptyMap cJ4_addEntryToEmptyMap 3 none 4 1 6 85 σ [.ref mp, .ref κ, va_rf v9] (oV (fun σ' => ∃ (z : Nat) (l2 r2 p2 : Nat → Option Nat) (C2 : Nat → Int) (rt2 : Option Nat) (lo2 hi2 : Nat → Nat), ¬ tIn n ad ps z ∧ TH σ' tg mp (tIn (n + 1) (tAd z 0 ad) (tPs z 0 ps)) (va_up K z κ) (va_up Vv z v9) l2 r2 p2 C2 rt2 es ks (1) (md + 1) ∧ tOk (n + 1) (tAd z 0 ad) (tPs z 0 ps) l2 r2 p2 lo2 hi2 rt2 ∧ gKeep (fun t => t = tg) σ σ')) := by
  refine gMet.of (by decide) (by cases v9 <;> exact Nat.le_of_ble_eq_true rfl) ?_
  intro pp ee ss mm args below meth cd Q H locs ls hargs hx hb hr hlocks hml hown hnm hts hK hG hS hQ hl
  have hown : ss.vm.findClass RJ4 = some mm.cls := hown
  have hl : lv_has ls 3 [(0, .ref mp), (1, .ref κ), (2, va_rf v9)] := by cases v9 <;> exact hl
  have hkp : gKeep (fun t => t = tg) σ σ := gKeep.rf
  refine lv_aload_n hx hb dJ4_addEntryToEmptyMap_0 rfl (lv_at hl 0 rfl) ?_
  refine lv_aload_n hx hb dJ4_addEntryToEmptyMap_1 rfl (lv_at hl 1 rfl) ?_
  refine lv_aload_n hx hb dJ4_addEntryToEmptyMap_2 rfl (lv_at hl 1 rfl) ?_
  refine g_callV (As := [.ref κ, .ref κ]) (rest := []) 2 hx hb hml hown hts hK hG hS hl.1 (mJ4_compare_X11 l X σ tg mp n ad ps K Vv l_ r_ p_ C rt es ks sz md hTH κ _ k9 (hkp _ _ _ hκ hκt) (by omega)) hTH.1 rfl q1165 q1166 q1167 q75 q1168 (by decide +kernel) rfl ⟨Nat.le_of_ble_eq_true rfl, Nat.le_of_ble_eq_true rfl⟩ ⟨Nat.le_of_ble_eq_true rfl, Nat.le_of_ble_eq_true rfl⟩ (Nat.le_of_ble_eq_true rfl) dJ4_addEntryToEmptyMap_3 (kI (fun r1 σr1 H locs hp hG hS => ?_))
  obtain rfl := hp
  refine lv_pop hx hb dJ4_addEntryToEmptyMap_6 rfl ?_
  refine lv_aload_n hx hb dJ4_addEntryToEmptyMap_7 rfl (lv_at hl 0 rfl) ?_
  refine g_new (ci := 18) (C := RJ25) (T := TJ25) (N := 6) (ty := tyJ25) (fs := [.null, .null, .null, .null, .null, .int (iI 0)]) hx hb tg hts hown hK hG hS rfl in_J25 tyJ25_ok q1169 q1170 q108 (fun j hj => match j, hj with | 0, _ => rfl | 1, _ => rfl | 2, _ => rfl | 3, _ => rfl | 4, _ => rfl | 5, _ => rfl | k9 + 6, h => absurd h (by omega)) (Nat.le_of_ble_eq_true rfl) (Nat.le_of_ble_eq_true rfl) dJ4_addEntryToEmptyMap_8 (fun nw2 H hznw2 hG hS => ?_)
  have hLnw2 : (gup σ nw2 (tg, gO 18 [.null, .null, .null, .null, .null, .int (iI 0)])) nw2 = some (tg, gO 18 [.null, .null, .null, .null, .null, .int (iI 0)]) := gup_s
  have hTH3 : TH (gup σ nw2 (tg, gO 18 [.null, .null, .null, .null, .null, .int (iI 0)])) tg mp (tIn n ad ps) K Vv l_ r_ p_ C rt es ks sz md := hTH.keep (tg' := fun _ => False) (gKeep.new hznw2) (fun h => h)
  have hkp3 : gKeep (fun t => t = tg) σ (gup σ nw2 (tg, gO 18 [.null, .null, .null, .null, .null, .int (iI 0)])) := hkp.tr (gKeep.new hznw2)
  generalize hgen3 : (gup σ nw2 (tg, gO 18 [.null, .null, .null, .null, .null, .int (iI 0)])) = σ3 at hG hLnw2 hTH3 hkp3
  refine lv_dup hx hb dJ4_addEntryToEmptyMap_11 rfl ?_
  refine lv_aload_n hx hb dJ4_addEntryToEmptyMap_12 rfl (lv_at hl 1 rfl) ?_
  refine g_aload_nR hx hb dJ4_addEntryToEmptyMap_13 rfl (lv_at hl 2 rfl) ?_
  refine lv_null hx hb dJ4_addEntryToEmptyMap_14 ?_
  refine g_callI (As := [.ref κ, va_rf v9, .null]) (rest := [.ref nw2, .ref mp]) 3 hx hb hml hown hts hK hG hS hl.1 (mJ25_init l X σ3 nw2 _ κ v9 none hLnw2) q1171 q1172 q108 q1173 rfl (by decide +kernel) rfl ⟨Nat.le_of_ble_eq_true rfl, Nat.le_of_ble_eq_true rfl⟩ ⟨Nat.le_of_ble_eq_true rfl, Nat.le_of_ble_eq_true rfl⟩ (Nat.le_of_ble_eq_true rfl) dJ4_addEntryToEmptyMap_15 (kV (fun σr4 H locs hp hG hS => ?_))
  have hp : σr4 = (gup σ3 nw2 (tg, gO 18 [.ref κ, va_rf v9, .null, .null, .null, .int (iI 1)])) := hp
  have hL5 : σr4 nw2 = some (tg, gO 18 [.ref κ, va_rf v9, .null, .null, .null, .int (iI 1)]) := by rw [hp]; exact gup_s
  have hnD : ¬ tIn n ad ps nw2 := fun h => by have q := hTH.2.1 nw2 h; rw [hznw2] at q; cases q
  have hzm : mp ≠ nw2 := fun h => by have q := hTH.1; rw [h, hznw2] at q; cases q
  have hcn : 0 ≤ n := Nat.zero_le _
  have hIn := fun y => tPs_in (x := nw2) (z := y) hok.1 hnD hcn
  obtain ⟨kk5, ekk5⟩ : ∃ y : Nat → Nat, y = va_up K nw2 κ := ⟨_, rfl⟩
  obtain ⟨vv5, evv5⟩ : ∃ y : Nat → Option Nat, y = va_up Vv nw2 v9 := ⟨_, rfl⟩
  obtain ⟨ll5, ell5⟩ : ∃ y : Nat → Option Nat, y = va_up l_ nw2 none := ⟨_, rfl⟩
  obtain ⟨rr5, err5⟩ : ∃ y : Nat → Option Nat, y = va_up r_ nw2 none := ⟨_, rfl⟩
  obtain ⟨pp_5, epp_5⟩ : ∃ y : Nat → Option Nat, y = va_up p_ nw2 none := ⟨_, rfl⟩
  obtain ⟨cc_5, ecc_5⟩ : ∃ y : Nat → Int, y = va_up C nw2 1 := ⟨_, rfl⟩
  have hTH5 : TH σr4 tg mp (tIn (n + 1) (tAd nw2 0 ad) (tPs nw2 0 ps)) kk5 vv5 ll5 rr5 pp_5 cc_5 rt es ks sz md := by rw [hp, ekk5, evv5, ell5, err5, epp_5, ecc_5]; exact hTH3.add (κ := κ) (v := v9) (q := none) hzm (fun a ha => (hIn a).mp ha)
  have hkp5 : gKeep (fun t => t = tg) σ σr4 := by rw [hp]; exact hkp3.tr (gKeep.up hLnw2 rfl)
  have hm_z5 := (hIn nw2).mpr (Or.inl rfl)
  refine g_put (C := RJ4) (T := TJ4) (N := 9) (ty0 := tyJ4) (v := .ref nw2) hx hb hts hown hK hG hS hTH5.1 rfl in_J4 tyJ4_ok nmJ4 3 (by decide) q146 rfl (by decide) rfl rfl (Nat.le_of_ble_eq_true rfl) dJ4_addEntryToEmptyMap_18 (fun H locs hG hS => ?_)
  have hTH6 : TH (gup σr4 mp (tg, gO 13 ((tmF rt es ks sz md).set 3 (.ref nw2)))) tg mp (tIn (n + 1) (tAd nw2 0 ad) (tPs nw2 0 ps)) kk5 vv5 ll5 rr5 pp_5 cc_5 (some nw2) es ks sz md := hTH5.map rfl
  have hkp6 : gKeep (fun t => t = tg) σ (gup σr4 mp (tg, gO 13 ((tmF rt es ks sz md).set 3 (.ref nw2)))) := hkp5.tr (gKeep.up hTH5.1 rfl)
  generalize (gup σr4 mp (tg, gO 13 ((tmF rt es ks sz md).set 3 (.ref nw2)))) = σ6 at hG hTH6 hkp6
  refine lv_aload_n hx hb dJ4_addEntryToEmptyMap_21 rfl (lv_at hl 0 rfl) ?_
  refine g_iconst hx hb dJ4_addEntryToEmptyMap_22 ?_
  refine g_put (C := RJ4) (T := TJ4) (N := 9) (ty0 := tyJ4) (v := .int (iI 1)) hx hb hts hown hK hG hS hTH6.1 rfl in_J4 tyJ4_ok nmJ4 4 (by decide) q147 rfl (by decide) rfl rfl (Nat.le_of_ble_eq_true rfl) dJ4_addEntryToEmptyMap_23 (fun H locs hG hS => ?_)
  have hTH7 : TH (gup σ6 mp (tg, gO 13 ((tmF (some nw2) es ks sz md).set 4 (.int (iI 1))))) tg mp (tIn (n + 1) (tAd nw2 0 ad) (tPs nw2 0 ps)) kk5 vv5 ll5 rr5 pp_5 cc_5 (some nw2) es ks 1 md := hTH6.map rfl
  have hkp7 : gKeep (fun t => t = tg) σ (gup σ6 mp (tg, gO 13 ((tmF (some nw2) es ks sz md).set 4 (.int (iI 1))))) := hkp6.tr (gKeep.up hTH6.1 rfl)
  generalize (gup σ6 mp (tg, gO 13 ((tmF (some nw2) es ks sz md).set 4 (.int (iI 1))))) = σ7 at hG hTH7 hkp7
  refine lv_aload_n hx hb dJ4_addEntryToEmptyMap_26 rfl (lv_at hl 0 rfl) ?_
  refine lv_dup hx hb dJ4_addEntryToEmptyMap_27 rfl ?_
  refine g_get (C := RJ4) (T := TJ4) (N := 9) (v := .int (iI md)) hx hb hts hown hK hG hTH7.1 rfl in_J4 5 (by decide) q148 rfl rfl dJ4_addEntryToEmptyMap_28 ?_
  refine g_iconst hx hb dJ4_addEntryToEmptyMap_31 ?_
  refine g_iadd hx hb dJ4_addEntryToEmptyMap_32 ?_
  refine g_put (C := RJ4) (T := TJ4) (N := 9) (ty0 := tyJ4) (v := .int (iI (md + 1))) hx hb hts hown hK hG hS hTH7.1 rfl in_J4 tyJ4_ok nmJ4 5 (by decide) q148 rfl (by decide) rfl rfl (Nat.le_of_ble_eq_true rfl) dJ4_addEntryToEmptyMap_33 (fun H locs hG hS => ?_)
  have hTH8 : TH (gup σ7 mp (tg, gO 13 ((tmF (some nw2) es ks 1 md).set 5 (.int (iI (md + 1)))))) tg mp (tIn (n + 1) (tAd nw2 0 ad) (tPs nw2 0 ps)) kk5 vv5 ll5 rr5 pp_5 cc_5 (some nw2) es ks 1 (md + 1) := hTH7.map rfl
  have hkp8 : gKeep (fun t => t = tg) σ (gup σ7 mp (tg, gO 13 ((tmF (some nw2) es ks 1 md).set 5 (.int (iI (md + 1)))))) := hkp7.tr (gKeep.up hTH7.1 rfl)
  generalize (gup σ7 mp (tg, gO 13 ((tmF (some nw2) es ks 1 md).set 5 (.int (iI (md + 1)))))) = σ8 at hG hTH8 hkp8
  exact g_vret hx hb hr hlocks hQ hG hS (Nat.le_of_ble_eq_true rfl) (Nat.le_of_ble_eq_true rfl) ⟨rfl, nw2, ll5, rr5, pp_5, cc_5, (some nw2), (fun _ => 0), (fun _ => 1), hnD, (by rw [← ekk5, ← evv5]; exact hTH8), (by have hn0 := hok.2.1.1 hrt; subst hn0; exact tOk.one2 (by unfold tAd; rw [if_neg (by omega), if_pos rfl]) (by unfold tPs; rw [if_pos rfl]) (by rw [ell5, va_up_self]) (by rw [err5, va_up_self]) (by rw [epp_5, va_up_self])), hkp8⟩ dJ4_addEntryToEmptyMap_36

set_option maxHeartbeats 4000000 in
theorem mJ4_addEntryToEmptyMap_X9 (l : Launch) (X : gX) (σ : gS) (tg mp n : Nat) (ad ps : Nat → Nat) (K : Nat → Nat) (Vv l_ r_ p_ : Nat → Option Nat) (C : Nat → Int) (rt es ks : Option Nat) (sz md : Int) (hTH : TH σ tg mp (tIn n ad ps) K Vv l_ r_ p_ C rt es ks sz md) (lo hi : Nat → Nat) (hok : tOk n ad ps l_ r_ p_ lo hi rt) (hrt : rt = none) (κ t9 : Nat) (k9 : Int) (v9 : Option Nat) (hκ : σ κ = some (t9, gO 9 [.int (iI k9)])) (hκt : ¬ t9 = tg) (hk9 : 0 ≤ k9 ∧ k9 ≤ 2000) : gMet l X yJ4_addEntryToEmptyMap cJ4_addEntryToEmptyMap 3 none 4 1 6 85 σ [.ref mp, .ref κ, va_rf v9] (oV (fun σ' => ∃ (z : Nat) (l2 r2 p2 : Nat → Option Nat) (C2 : Nat → Int) (rt2 : Option Nat) (lo2 hi2 : Nat → Nat), ¬ tIn n ad ps z ∧ TH σ' tg mp (tIn (n + 1) (tAd z 0 ad) (tPs z 0 ps)) (va_up K z κ) (va_up Vv z v9) l2 r2 p2 C2 rt2 es ks (1) (md + 1) ∧ tOk (n + 1) (tAd z 0 ad) (tPs z 0 ps) l2 r2 p2 lo2 hi2 rt2 ∧ gKeep (fun t => t = tg) σ σ')) := by
  refine gMet.of (by decide) (by cases v9 <;> exact Nat.le_of_ble_eq_true rfl) ?_
  intro pp ee ss mm args below meth cd Q H locs ls hargs hx hb hr hlocks hml hown hnm hts hK hG hS hQ hl
  have hown : ss.vm.findClass RJ4 = some mm.cls := hown
  have hl : lv_has ls 3 [(0, .ref mp), (1, .ref κ), (2, va_rf v9)] := by cases v9 <;> exact hl
  have hkp : gKeep (fun t => t = tg) σ σ := gKeep.rf
  refine lv_aload_n hx hb dJ4_addEntryToEmptyMap_0 rfl (lv_at hl 0 rfl) ?_
  refine lv_aload_n hx hb dJ4_addEntryToEmptyMap_1 rfl (lv_at hl 1 rfl) ?_
  refine lv_aload_n hx hb dJ4_addEntryToEmptyMap_2 rfl (lv_at hl 1 rfl) ?_
  refine g_callV (As := [.ref κ, .ref κ]) (rest := []) 2 hx hb hml hown hts hK hG hS hl.1 (mJ4_compare_X9 l X σ tg mp n ad ps K Vv l_ r_ p_ C rt es ks sz md hTH κ _ k9 (hkp _ _ _ hκ hκt) (by omega)) hTH.1 rfl q1165 q1166 q1167 q75 q1168 (by decide +kernel) rfl ⟨Nat.le_of_ble_eq_true rfl, Nat.le_of_ble_eq_true rfl⟩ ⟨Nat.le_of_ble_eq_true rfl, Nat.le_of_ble_eq_true rfl⟩ (Nat.le_of_ble_eq_true rfl) dJ4_addEntryToEmptyMap_3 (kI (fun r1 σr1 H locs hp hG hS => ?_))
  obtain rfl := hp
  refine lv_pop hx hb dJ4_addEntryToEmptyMap_6 rfl ?_
  refine lv_aload_n hx hb dJ4_addEntryToEmptyMap_7 rfl (lv_at hl 0 rfl) ?_
  refine g_new (ci := 18) (C := RJ25) (T := TJ25) (N := 6) (ty := tyJ25) (fs := [.null, .null, .null, .null, .null, .int (iI 0)]) hx hb tg hts hown hK hG hS rfl in_J25 tyJ25_ok q1169 q1170 q108 (fun j hj => match j, hj with | 0, _ => rfl | 1, _ => rfl | 2, _ => rfl | 3, _ => rfl | 4, _ => rfl | 5, _ => rfl | k9 + 6, h => absurd h (by omega)) (Nat.le_of_ble_eq_true rfl) (Nat.le_of_ble_eq_true rfl) dJ4_addEntryToEmptyMap_8 (fun nw2 H hznw2 hG hS => ?_)
  have hLnw2 : (gup σ nw2 (tg, gO 18 [.null, .null, .null, .null, .null, .int (iI 0)])) nw2 = some (tg, gO 18 [.null, .null, .null, .null, .null, .int (iI 0)]) := gup_s
  have hTH3 : TH (gup σ nw2 (tg, gO 18 [.null, .null, .null, .null, .null, .int (iI 0)])) tg mp (tIn n ad ps) K Vv l_ r_ p_ C rt es ks sz md := hTH.keep (tg' := fun _ => False) (gKeep.new hznw2) (fun h => h)
  have hkp3 : gKeep (fun t => t = tg) σ (gup σ nw2 (tg, gO 18 [.null, .null, .null, .null, .null, .int (iI 0)])) := hkp.tr (gKeep.new hznw2)
  generalize hgen3 : (gup σ nw2 (tg, gO 18 [.null, .null, .null, .null, .null, .int (iI 0)])) = σ3 at hG hLnw2 hTH3 hkp3
  refine lv_dup hx hb dJ4_addEntryToEmptyMap_11 rfl ?_
  refine lv_aload_n hx hb dJ4_addEntryToEmptyMap_12 rfl (lv_at hl 1 rfl) ?_
  refine g_aload_nR hx hb dJ4_addEntryToEmptyMap_13 rfl (lv_at hl 2 rfl) ?_
  refine lv_null hx hb dJ4_addEntryToEmptyMap_14 ?_
  refine g_callI (As := [.ref κ, va_rf v9, .null]) (rest := [.ref nw2, .ref mp]) 3 hx hb hml hown hts hK hG hS hl.1 (mJ25_init l X σ3 nw2 _ κ v9 none hLnw2) q1171 q1172 q108 q1173 rfl (by decide +kernel) rfl ⟨Nat.le_of_ble_eq_true rfl, Nat.le_of_ble_eq_true rfl⟩ ⟨Nat.le_of_ble_eq_true rfl, Nat.le_of_ble_eq_true rfl⟩ (Nat.le_of_ble_eq_true rfl) dJ4_addEntryToEmptyMap_15 (kV (fun σr4 H locs hp hG hS => ?_))
  have hp : σr4 = (gup σ3 nw2 (tg, gO 18 [.ref κ, va_rf v9, .null, .null, .null, .int (iI 1)])) := hp
  have hL5 : σr4 nw2 = some (tg, gO 18 [.ref κ, va_rf v9, .null, .null, .null, .int (iI 1)]) := by rw [hp]; exact gup_s
  have hnD : ¬ tIn n ad ps nw2 := fun h => by have q := hTH.2.1 nw2 h; rw [hznw2] at q; cases q
  have hzm : mp ≠ nw2 := fun h => by have q := hTH.1; rw [h, hznw2] at q; cases q
  have hcn : 0 ≤ n := Nat.zero_le _
  have hIn := fun y => tPs_in (x := nw2) (z := y) hok.1 hnD hcn
  obtain ⟨kk5, ekk5⟩ : ∃ y : Nat → Nat, y = va_up K nw2 κ := ⟨_, rfl⟩
  obtain ⟨vv5, evv5⟩ : ∃ y : Nat → Option Nat, y = va_up Vv nw2 v9 := ⟨_, rfl⟩
  obtain ⟨ll5, ell5⟩ : ∃ y : Nat → Option Nat, y = va_up l_ nw2 none := ⟨_, rfl⟩
  obtain ⟨rr5, err5⟩ : ∃ y : Nat → Option Nat, y = va_up r_ nw2 none := ⟨_, rfl⟩
  obtain ⟨pp_5, epp_5⟩ : ∃ y : Nat → Option Nat, y = va_up p_ nw2 none := ⟨_, rfl⟩
  obtain ⟨cc_5, ecc_5⟩ : ∃ y : Nat → Int, y = va_up C nw2 1 := ⟨_, rfl⟩
  have hTH5 : TH σr4 tg mp (tIn (n + 1) (tAd nw2 0 ad) (tPs nw2 0 ps)) kk5 vv5 ll5 rr5 pp_5 cc_5 rt es ks sz md := by rw [hp, ekk5, evv5, ell5, err5, epp_5, ecc_5]; exact hTH3.add (κ := κ) (v := v9) (q := none) hzm (fun a ha => (hIn a).mp ha)
  have hkp5 : gKeep (fun t => t = tg) σ σr4 := by rw [hp]; exact hkp3.tr (gKeep.up hLnw2 rfl)
  have hm_z5 := (hIn nw2).mpr (Or.inl rfl)
  refine g_put (C := RJ4) (T := TJ4) (N := 9) (ty0 := tyJ4) (v := .ref nw2) hx hb hts hown hK hG hS hTH5.1 rfl in_J4 tyJ4_ok nmJ4 3 (by decide) q146 rfl (by decide) rfl rfl (Nat.le_of_ble_eq_true rfl) dJ4_addEntryToEmptyMap_18 (fun H locs hG hS => ?_)
  have hTH6 : TH (gup σr4 mp (tg, gO 13 ((tmF rt es ks sz md).set 3 (.ref nw2)))) tg mp (tIn (n + 1) (tAd nw2 0 ad) (tPs nw2 0 ps)) kk5 vv5 ll5 rr5 pp_5 cc_5 (some nw2) es ks sz md := hTH5.map rfl
  have hkp6 : gKeep (fun t => t = tg) σ (gup σr4 mp (tg, gO 13 ((tmF rt es ks sz md).set 3 (.ref nw2)))) := hkp5.tr (gKeep.up hTH5.1 rfl)
  generalize (gup σr4 mp (tg, gO 13 ((tmF rt es ks sz md).set 3 (.ref nw2)))) = σ6 at hG hTH6 hkp6
  refine lv_aload_n hx hb dJ4_addEntryToEmptyMap_21 rfl (lv_at hl 0 rfl) ?_
  refine g_iconst hx hb dJ4_addEntryToEmptyMap_22 ?_
  refine g_put (C := RJ4) (T := TJ4) (N := 9) (ty0 := tyJ4) (v := .int (iI 1)) hx hb hts hown hK hG hS hTH6.1 rfl in_J4 tyJ4_ok nmJ4 4 (by decide) q147 rfl (by decide) rfl rfl (Nat.le_of_ble_eq_true rfl) dJ4_addEntryToEmptyMap_23 (fun H locs hG hS => ?_)
  have hTH7 : TH (gup σ6 mp (tg, gO 13 ((tmF (some nw2) es ks sz md).set 4 (.int (iI 1))))) tg mp (tIn (n + 1) (tAd nw2 0 ad) (tPs nw2 0 ps)) kk5 vv5 ll5 rr5 pp_5 cc_5 (some nw2) es ks 1 md := hTH6.map rfl
  have hkp7 : gKeep (fun t => t = tg) σ (gup σ6 mp (tg, gO 13 ((tmF (some nw2) es ks sz md).set 4 (.int (iI 1))))) := hkp6.tr (gKeep.up hTH6.1 rfl)
  generalize (gup σ6 mp (tg, gO 13 ((tmF (some nw2) es ks sz md).set 4 (.int (iI 1))))) = σ7 at hG hTH7 hkp7
  refine lv_aload_n hx hb dJ4_addEntryToEmptyMap_26 rfl (lv_at hl 0 rfl) ?_
  refine lv_dup hx hb dJ4_addEntryToEmptyMap_27 rfl ?_
  refine g_get (C := RJ4) (T := TJ4) (N := 9) (v := .int (iI md)) hx hb hts hown hK hG hTH7.1 rfl in_J4 5 (by decide) q148 rfl rfl dJ4_addEntryToEmptyMap_28 ?_
  refine g_iconst hx hb dJ4_addEntryToEmptyMap_31 ?_
  refine g_iadd hx hb dJ4_addEntryToEmptyMap_32 ?_
  refine g_put (C := RJ4) (T := TJ4) (N := 9) (ty0 := tyJ4) (v := .int (iI (md + 1))) hx hb hts hown hK hG hS hTH7.1 rfl in_J4 tyJ4_ok nmJ4 5 (by decide) q148 rfl (by decide) rfl rfl (Nat.le_of_ble_eq_true rfl) dJ4_addEntryToEmptyMap_33 (fun H locs hG hS => ?_)
  have hTH8 : TH (gup σ7 mp (tg, gO 13 ((tmF (some nw2) es ks 1 md).set 5 (.int (iI (md + 1)))))) tg mp (tIn (n + 1) (tAd nw2 0 ad) (tPs nw2 0 ps)) kk5 vv5 ll5 rr5 pp_5 cc_5 (some nw2) es ks 1 (md + 1) := hTH7.map rfl
  have hkp8 : gKeep (fun t => t = tg) σ (gup σ7 mp (tg, gO 13 ((tmF (some nw2) es ks 1 md).set 5 (.int (iI (md + 1)))))) := hkp7.tr (gKeep.up hTH7.1 rfl)
  generalize (gup σ7 mp (tg, gO 13 ((tmF (some nw2) es ks 1 md).set 5 (.int (iI (md + 1)))))) = σ8 at hG hTH8 hkp8
  exact g_vret hx hb hr hlocks hQ hG hS (Nat.le_of_ble_eq_true rfl) (Nat.le_of_ble_eq_true rfl) ⟨rfl, nw2, ll5, rr5, pp_5, cc_5, (some nw2), (fun _ => 0), (fun _ => 1), hnD, (by rw [← ekk5, ← evv5]; exact hTH8), (by have hn0 := hok.2.1.1 hrt; subst hn0; exact tOk.one2 (by unfold tAd; rw [if_neg (by omega), if_pos rfl]) (by unfold tPs; rw [if_pos rfl]) (by rw [ell5, va_up_self]) (by rw [err5, va_up_self]) (by rw [epp_5, va_up_self])), hkp8⟩ dJ4_addEntryToEmptyMap_36

