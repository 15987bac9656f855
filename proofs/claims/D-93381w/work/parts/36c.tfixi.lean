set_option maxHeartbeats 16000000 in
theorem mJ4_fixAfterInsertion (l : Launch) (X : gX) (σ : gS) (tg mp n : Nat) (ad ps : Nat → Nat) (K : Nat → Nat) (Vv l_ r_ p_ : Nat → Option Nat) (C : Nat → Int) (rt es ks : Option Nat) (sz md : Int) (hTH : TH σ tg mp (tIn n ad ps) K Vv l_ r_ p_ C rt es ks sz md) (lo hi : Nat → Nat) (hok : tOk n ad ps l_ r_ p_ lo hi rt) (x0 : Nat) (hDx : tIn n ad ps x0) : gMet l X yJ4_fixAfterInsertion cJ4_fixAfterInsertion 3 none 1 0 0 22 σ [.ref mp, .ref x0] (oV (fun σ' => ∃ (l2 r2 p2 : Nat → Option Nat) (C2 : Nat → Int) (rt2 : Option Nat) (lo2 hi2 : Nat → Nat), TH σ' tg mp (tIn n ad ps) K Vv l2 r2 p2 C2 rt2 es ks sz md ∧ tOk n ad ps l2 r2 p2 lo2 hi2 rt2 ∧ gKeep (fun t => t = tg) σ σ')) := by
  refine gMet.of (by decide) (Nat.le_of_ble_eq_true rfl) ?_
  intro pp ee ss mm args below meth cd Q H locs ls hargs hx hb hr hlocks hml hown hnm hts hK hG hS hQ hl
  have hown : ss.vm.findClass RJ4 = some mm.cls := hown
  have hl : lv_has ls 3 [(0, .ref mp), (1, .ref x0)] := hl
  have hkp : gKeep (fun t => t = tg) σ σ := gKeep.rf
  refine lv_aload_n hx hb dJ4_fixAfterInsertion_0 rfl (lv_at hl 1 rfl) ?_
  refine g_iconst hx hb dJ4_fixAfterInsertion_1 ?_
  refine g_put (C := RJ25) (T := TJ25) (N := 6) (ty0 := tyJ25) (v := .int (iI 0)) hx hb hts hown hK hG hS (hTH.2.1 _ hDx) rfl in_J25 tyJ25_ok nmJ25 5 (by decide) q1185 rfl (by decide) (by first | rfl | decide) (by first | rfl | decide) (Nat.le_of_ble_eq_true rfl) dJ4_fixAfterInsertion_2 (fun H locs hG hS => ?_)
  obtain ⟨cc_1, ecc_1⟩ : ∃ z : Nat → Int, z = va_up C x0 0 := ⟨_, rfl⟩
  have hTH1 : TH (gup σ x0 (tg, gO 18 ((teF K Vv l_ r_ p_ C x0).set 5 (.int (iI 0))))) tg mp (tIn n ad ps) K Vv l_ r_ p_ cc_1 rt es ks sz md := by rw [ecc_1]; exact hTH.pC hDx 0 (by omega)
  have hkp1 : gKeep (fun t => t = tg) σ (gup σ x0 (tg, gO 18 ((teF K Vv l_ r_ p_ C x0).set 5 (.int (iI 0))))) := hkp.tr (gKeep.up (hTH.2.1 _ hDx) rfl)
  generalize (gup σ x0 (tg, gO 18 ((teF K Vv l_ r_ p_ C x0).set 5 (.int (iI 0))))) = σ1 at hG hTH1 hkp1
  have loop_5 : ∀ (nF : Nat) (σL : gS) (lL : Nat → Option Nat) (rL : Nat → Option Nat) (pL : Nat → Option Nat) (cL : Nat → Int) (rtL : Option Nat) (loL : Nat → Nat) (hiL : Nat → Nat) (x9 : Nat) (f : Nat), (f : Nat) < nF → (TH σL tg mp (tIn n ad ps) K Vv lL rL pL cL rtL es ks sz md) → (tOk n ad ps lL rL pL loL hiL rtL) → (gKeep (fun t => t = tg) σ σL) → (tIn n ad ps x9) → ((∀ q, pL x9 = some q → cL q = 1) ∨ n + loL x9 < f + hiL x9) → ∀ (H : Heap) (locs : List Loc) (ls : Array Slot), gSat X σL H → va_S (gA X) ss.heap H locs → lv_has ls 3 [(0, .ref mp), (1, .ref x9)] → W pp l ee (gR 1 0 0 22) ss mm args below meth cd H locs 0 0 Q (F0 mm 5 ls []) := by
    intro nF
    induction nF with
    | zero => intro σL lL rL pL cL rtL loL hiL x9 f hm; exact absurd hm (Nat.not_lt_zero _)
    | succ nF ih_5 =>
      intro σL lL rL pL cL rtL loL hiL x9 f hm hTHL hokL hkL hDx9 hfu H locs ls hG hS hl
      refine lv_aload_n hx hb dJ4_fixAfterInsertion_5 rfl (lv_at hl 1 rfl) ?_
      refine lv_ifnull hx hb dJ4_fixAfterInsertion_6 ?_
      refine lv_aload_n hx hb dJ4_fixAfterInsertion_9 rfl (lv_at hl 1 rfl) ?_
      refine lv_aload_n hx hb dJ4_fixAfterInsertion_10 rfl (lv_at hl 0 rfl) ?_
      refine g_get (C := RJ4) (T := TJ4) (N := 9) (v := va_rf rtL) hx hb hts hown hK hG hTHL.1 rfl in_J4 3 (by decide) q146 rfl rfl dJ4_fixAfterInsertion_11 ?_
      refine lv_acmp_eq (tgt := 258) (rx := (some x9)) (ry := rtL) hx hb dJ4_fixAfterInsertion_14 (by decide) (fun hq2 => ?_) (fun hq2 => ?_)
      · refine lv_aload_n hx hb dJ4_fixAfterInsertion_258 rfl (lv_at hl 0 rfl) ?_
        refine g_get (C := RJ4) (T := TJ4) (N := 9) (v := .ref x9) hx hb hts hown hK hG hTHL.1 rfl in_J4 3 (by decide) q146 rfl (congrArg (fun q9 => some (va_rf q9)) hq2.symm) dJ4_fixAfterInsertion_259 ?_
        refine g_iconst hx hb dJ4_fixAfterInsertion_262 ?_
        refine g_put (C := RJ25) (T := TJ25) (N := 6) (ty0 := tyJ25) (v := .int (iI 1)) hx hb hts hown hK hG hS (hTHL.2.1 _ hDx9) rfl in_J25 tyJ25_ok nmJ25 5 (by decide) q1185 rfl (by decide) (by first | rfl | decide) (by first | rfl | decide) (Nat.le_of_ble_eq_true rfl) dJ4_fixAfterInsertion_263 (fun H locs hG hS => ?_)
        obtain ⟨cc_3, ecc_3⟩ : ∃ z : Nat → Int, z = va_up cL x9 1 := ⟨_, rfl⟩
        have hTH3 : TH (gup σL x9 (tg, gO 18 ((teF K Vv lL rL pL cL x9).set 5 (.int (iI 1))))) tg mp (tIn n ad ps) K Vv lL rL pL cc_3 rtL es ks sz md := by rw [ecc_3]; exact hTHL.pC hDx9 1 (by omega)
        have hkp3 : gKeep (fun t => t = tg) σ (gup σL x9 (tg, gO 18 ((teF K Vv lL rL pL cL x9).set 5 (.int (iI 1))))) := hkL.tr (gKeep.up (hTHL.2.1 _ hDx9) rfl)
        generalize (gup σL x9 (tg, gO 18 ((teF K Vv lL rL pL cL x9).set 5 (.int (iI 1))))) = σ3 at hG hTH3 hkp3
        exact g_vret hx hb hr hlocks hQ hG hS (Nat.zero_le _) (Nat.zero_le _) ⟨rfl, lL, rL, pL, cc_3, rtL, loL, hiL, hTH3, hokL, hkp3⟩ dJ4_fixAfterInsertion_266
      · obtain ⟨q1, hq1, hDq1, hsd1⟩ := hokL.par hDx9 hq2
        have hup1 := hokL.up hDx9 hq1
        have hnx := hokL.num hDx9
        have hnq := hokL.num hDq1
        have hxq : x9 ≠ q1 := fun e => by rw [← e] at hup1; omega
        refine lv_aload_n hx hb dJ4_fixAfterInsertion_17 rfl (lv_at hl 1 rfl) ?_
        have hf4 : pL x9 = (some q1) := by rw [hq1]
        refine g_get (C := RJ25) (T := TJ25) (N := 6) (v := .ref q1) hx hb hts hown hK hG (hTHL.2.1 _ hDx9) rfl in_J25 4 (by decide) q1183 rfl (congrArg (fun q9 => some (va_rf q9)) hf4) dJ4_fixAfterInsertion_18 ?_
        refine g_get (C := RJ25) (T := TJ25) (N := 6) (v := .int (iI (cL q1))) hx hb hts hown hK hG (hTHL.2.1 _ hDq1) rfl in_J25 5 (by decide) q1185 rfl rfl dJ4_fixAfterInsertion_21 ?_
        have hc5 := hTHL.2.2 _ hDq1
        refine g_if_ne (tgt := 258) hx hb dJ4_fixAfterInsertion_24 (by decide) (by omega) (fun cq6 => ?_) (fun cq6 => ?_)
        · obtain ⟨ρ, hρ⟩ := hokL.root hDx9
          have hD_ρ := (hokL.rx hρ).1
          refine lv_aload_n hx hb dJ4_fixAfterInsertion_258 rfl (lv_at hl 0 rfl) ?_
          refine g_get (C := RJ4) (T := TJ4) (N := 9) (v := .ref ρ) hx hb hts hown hK hG hTHL.1 rfl in_J4 3 (by decide) q146 rfl (congrArg (fun q9 => some (va_rf q9)) hρ) dJ4_fixAfterInsertion_259 ?_
          refine g_iconst hx hb dJ4_fixAfterInsertion_262 ?_
          refine g_put (C := RJ25) (T := TJ25) (N := 6) (ty0 := tyJ25) (v := .int (iI 1)) hx hb hts hown hK hG hS (hTHL.2.1 _ hD_ρ) rfl in_J25 tyJ25_ok nmJ25 5 (by decide) q1185 rfl (by decide) (by first | rfl | decide) (by first | rfl | decide) (Nat.le_of_ble_eq_true rfl) dJ4_fixAfterInsertion_263 (fun H locs hG hS => ?_)
          obtain ⟨cc_7, ecc_7⟩ : ∃ z : Nat → Int, z = va_up cL ρ 1 := ⟨_, rfl⟩
          have hTH7 : TH (gup σL ρ (tg, gO 18 ((teF K Vv lL rL pL cL ρ).set 5 (.int (iI 1))))) tg mp (tIn n ad ps) K Vv lL rL pL cc_7 rtL es ks sz md := by rw [ecc_7]; exact hTHL.pC hD_ρ 1 (by omega)
          have hkp7 : gKeep (fun t => t = tg) σ (gup σL ρ (tg, gO 18 ((teF K Vv lL rL pL cL ρ).set 5 (.int (iI 1))))) := hkL.tr (gKeep.up (hTHL.2.1 _ hD_ρ) rfl)
          generalize (gup σL ρ (tg, gO 18 ((teF K Vv lL rL pL cL ρ).set 5 (.int (iI 1))))) = σ7 at hG hTH7 hkp7
          exact g_vret hx hb hr hlocks hQ hG hS (Nat.zero_le _) (Nat.zero_le _) ⟨rfl, lL, rL, pL, cc_7, rtL, loL, hiL, hTH7, hokL, hkp7⟩ dJ4_fixAfterInsertion_266
        · have hfu2 : n + loL x9 < f + hiL x9 := by rcases hfu with k | k; (have := k q1 hq1; omega); exact k
          refine lv_aload_n hx hb dJ4_fixAfterInsertion_27 rfl (lv_at hl 1 rfl) ?_
          refine g_callS (As := [.ref x9]) (rest := []) 1 hx hb hml hown hts hK hG hS hl.1 (mJ4_parentOf l X σL tg mp n ad ps K Vv lL rL pL cL rtL es ks sz md hTHL (some x9) (fun a h => by cases h; exact hDx9)) q1207 q1208 q75 q1209 (by decide +kernel) rfl ⟨Nat.le_of_ble_eq_true rfl, Nat.le_of_ble_eq_true rfl⟩ ⟨Nat.le_of_ble_eq_true rfl, Nat.le_of_ble_eq_true rfl⟩ (Nat.le_of_ble_eq_true rfl) dJ4_fixAfterInsertion_28 (kA (fun r8 σr8 H locs hp hG hS => ?_))
          obtain ⟨rfl, rfl⟩ := hp
          have hf9 : pL x9 = (some q1) := by rw [hq1]
          refine g_rwv (v := .ref q1) (congrArg va_rf hf9) ?_
          refine lv_aload_n hx hb dJ4_fixAfterInsertion_31 rfl (lv_at hl 1 rfl) ?_
          refine g_callS (As := [.ref x9]) (rest := [.ref q1]) 1 hx hb hml hown hts hK hG hS hl.1 (mJ4_parentOf l X σL tg mp n ad ps K Vv lL rL pL cL rtL es ks sz md hTHL (some x9) (fun a h => by cases h; exact hDx9)) q1207 q1208 q75 q1209 (by decide +kernel) rfl ⟨Nat.le_of_ble_eq_true rfl, Nat.le_of_ble_eq_true rfl⟩ ⟨Nat.le_of_ble_eq_true rfl, Nat.le_of_ble_eq_true rfl⟩ (Nat.le_of_ble_eq_true rfl) dJ4_fixAfterInsertion_32 (kA (fun r10 σr10 H locs hp hG hS => ?_))
          obtain ⟨rfl, rfl⟩ := hp
          have hf11 : pL x9 = (some q1) := by rw [hq1]
          refine g_rwv (v := .ref q1) (congrArg va_rf hf11) ?_
          refine g_callS (As := [.ref q1]) (rest := [.ref q1]) 1 hx hb hml hown hts hK hG hS hl.1 (mJ4_parentOf l X σL tg mp n ad ps K Vv lL rL pL cL rtL es ks sz md hTHL (some q1) (fun a h => by cases h; exact hDq1)) q1207 q1208 q75 q1209 (by decide +kernel) rfl ⟨Nat.le_of_ble_eq_true rfl, Nat.le_of_ble_eq_true rfl⟩ ⟨Nat.le_of_ble_eq_true rfl, Nat.le_of_ble_eq_true rfl⟩ (Nat.le_of_ble_eq_true rfl) dJ4_fixAfterInsertion_35 (kA (fun r12 σr12 H locs hp hG hS => ?_))
          obtain ⟨rfl, rfl⟩ := hp
          refine g_rwv (v := va_rf (pL q1)) rfl ?_
          rcases ho14 : (pL q1) with _ | z13
          · refine g_callS (As := [.null]) (rest := [.ref q1]) 1 hx hb hml hown hts hK hG hS hl.1 (mJ4_leftOf l X σL tg mp n ad ps K Vv lL rL pL cL rtL es ks sz md hTHL none (fun a h => by cases h)) q1210 q1211 q75 q1212 (by decide +kernel) rfl ⟨Nat.le_of_ble_eq_true rfl, Nat.le_of_ble_eq_true rfl⟩ ⟨Nat.le_of_ble_eq_true rfl, Nat.le_of_ble_eq_true rfl⟩ (Nat.le_of_ble_eq_true rfl) dJ4_fixAfterInsertion_38 (kA (fun r15 σr15 H locs hp hG hS => ?_))
            obtain ⟨rfl, rfl⟩ := hp
            refine g_rwv (v := .null) rfl ?_
            refine lv_acmp_ne (tgt := 151) (rx := (some q1)) (ry := none) hx hb dJ4_fixAfterInsertion_41 (by decide) (fun hq16 => ?_) (fun hq16 => absurd hq16 (by simp))
            refine lv_aload_n hx hb dJ4_fixAfterInsertion_151 rfl (lv_at hl 1 rfl) ?_
            refine g_callS (As := [.ref x9]) (rest := []) 1 hx hb hml hown hts hK hG hS hl.1 (mJ4_parentOf l X σL tg mp n ad ps K Vv lL rL pL cL rtL es ks sz md hTHL (some x9) (fun a h => by cases h; exact hDx9)) q1207 q1208 q75 q1209 (by decide +kernel) rfl ⟨Nat.le_of_ble_eq_true rfl, Nat.le_of_ble_eq_true rfl⟩ ⟨Nat.le_of_ble_eq_true rfl, Nat.le_of_ble_eq_true rfl⟩ (Nat.le_of_ble_eq_true rfl) dJ4_fixAfterInsertion_152 (kA (fun r17 σr17 H locs hp hG hS => ?_))
            obtain ⟨rfl, rfl⟩ := hp
            have hf18 : pL x9 = (some q1) := by rw [hq1]
            refine g_rwv (v := .ref q1) (congrArg va_rf hf18) ?_
            refine g_callS (As := [.ref q1]) (rest := []) 1 hx hb hml hown hts hK hG hS hl.1 (mJ4_parentOf l X σL tg mp n ad ps K Vv lL rL pL cL rtL es ks sz md hTHL (some q1) (fun a h => by cases h; exact hDq1)) q1207 q1208 q75 q1209 (by decide +kernel) rfl ⟨Nat.le_of_ble_eq_true rfl, Nat.le_of_ble_eq_true rfl⟩ ⟨Nat.le_of_ble_eq_true rfl, Nat.le_of_ble_eq_true rfl⟩ (Nat.le_of_ble_eq_true rfl) dJ4_fixAfterInsertion_155 (kA (fun r19 σr19 H locs hp hG hS => ?_))
            obtain ⟨rfl, rfl⟩ := hp
            have hf20 : pL q1 = none := by rw [ho14]
            refine g_rwv (v := .null) (congrArg va_rf hf20) ?_
            refine g_callS (As := [.null]) (rest := []) 1 hx hb hml hown hts hK hG hS hl.1 (mJ4_leftOf l X σL tg mp n ad ps K Vv lL rL pL cL rtL es ks sz md hTHL none (fun a h => by cases h)) q1210 q1211 q75 q1212 (by decide +kernel) rfl ⟨Nat.le_of_ble_eq_true rfl, Nat.le_of_ble_eq_true rfl⟩ ⟨Nat.le_of_ble_eq_true rfl, Nat.le_of_ble_eq_true rfl⟩ (Nat.le_of_ble_eq_true rfl) dJ4_fixAfterInsertion_158 (kA (fun r21 σr21 H locs hp hG hS => ?_))
            obtain ⟨rfl, rfl⟩ := hp
            refine g_rwv (v := .null) rfl ?_
            refine lv_astore_nN (lv' := [(2, .null), (0, .ref mp), (1, .ref x9)]) hx hb dJ4_fixAfterInsertion_161 rfl hl (by decide) rfl (fun ls hl => ?_)
            refine lv_aload_nN hx hb dJ4_fixAfterInsertion_162 rfl (lv_at hl 0 rfl) ?_
            refine g_callS (As := [.null]) (rest := []) 1 hx hb hml hown hts hK hG hS hl.1 (mJ4_colorOf l X σL tg mp n ad ps K Vv lL rL pL cL rtL es ks sz md hTHL none (fun a h => by cases h)) q1216 q1217 q75 q1218 (by decide +kernel) rfl ⟨Nat.le_of_ble_eq_true rfl, Nat.le_of_ble_eq_true rfl⟩ ⟨Nat.le_of_ble_eq_true rfl, Nat.le_of_ble_eq_true rfl⟩ (Nat.le_of_ble_eq_true rfl) dJ4_fixAfterInsertion_163 (kI (fun r22 σr22 H locs hp hG hS => ?_))
            obtain ⟨hr22, rfl⟩ := hp
            refine g_rw (b := 1) hr22 ?_
            refine g_if_ne (tgt := 204) hx hb dJ4_fixAfterInsertion_166 (by decide) (by omega) (fun cq23 => ?_) (fun cq23 => absurd cq23 (by decide))
            refine lv_aload_n hx hb dJ4_fixAfterInsertion_204 rfl (lv_at hl 2 rfl) ?_
            refine lv_aload_n hx hb dJ4_fixAfterInsertion_205 rfl (lv_at hl 2 rfl) ?_
            refine g_callS (As := [.ref x9]) (rest := [.ref x9]) 1 hx hb hml hown hts hK hG hS hl.1 (mJ4_parentOf l X σL tg mp n ad ps K Vv lL rL pL cL rtL es ks sz md hTHL (some x9) (fun a h => by cases h; exact hDx9)) q1207 q1208 q75 q1209 (by decide +kernel) rfl ⟨Nat.le_of_ble_eq_true rfl, Nat.le_of_ble_eq_true rfl⟩ ⟨Nat.le_of_ble_eq_true rfl, Nat.le_of_ble_eq_true rfl⟩ (Nat.le_of_ble_eq_true rfl) dJ4_fixAfterInsertion_206 (kA (fun r24 σr24 H locs hp hG hS => ?_))
            obtain ⟨rfl, rfl⟩ := hp
            have hf25 : pL x9 = (some q1) := by rw [hq1]
            refine g_rwv (v := .ref q1) (congrArg va_rf hf25) ?_
            refine g_callS (As := [.ref q1]) (rest := [.ref x9]) 1 hx hb hml hown hts hK hG hS hl.1 (mJ4_leftOf l X σL tg mp n ad ps K Vv lL rL pL cL rtL es ks sz md hTHL (some q1) (fun a h => by cases h; exact hDq1)) q1210 q1211 q75 q1212 (by decide +kernel) rfl ⟨Nat.le_of_ble_eq_true rfl, Nat.le_of_ble_eq_true rfl⟩ ⟨Nat.le_of_ble_eq_true rfl, Nat.le_of_ble_eq_true rfl⟩ (Nat.le_of_ble_eq_true rfl) dJ4_fixAfterInsertion_209 (kA (fun r26 σr26 H locs hp hG hS => ?_))
            obtain ⟨rfl, rfl⟩ := hp
            refine g_rwv (v := va_rf (lL q1)) rfl ?_
            refine lv_acmp_ne (tgt := 225) (rx := (some x9)) (ry := (lL q1)) hx hb dJ4_fixAfterInsertion_212 (by decide) (fun hq27 => ?_) (fun hq27 => ?_)
            · refine lv_aload_n hx hb dJ4_fixAfterInsertion_225 rfl (lv_at hl 2 rfl) ?_
              refine g_callS (As := [.ref x9]) (rest := []) 1 hx hb hml hown hts hK hG hS hl.1 (mJ4_parentOf l X σL tg mp n ad ps K Vv lL rL pL cL rtL es ks sz md hTHL (some x9) (fun a h => by cases h; exact hDx9)) q1207 q1208 q75 q1209 (by decide +kernel) rfl ⟨Nat.le_of_ble_eq_true rfl, Nat.le_of_ble_eq_true rfl⟩ ⟨Nat.le_of_ble_eq_true rfl, Nat.le_of_ble_eq_true rfl⟩ (Nat.le_of_ble_eq_true rfl) dJ4_fixAfterInsertion_226 (kA (fun r28 σr28 H locs hp hG hS => ?_))
              obtain ⟨rfl, rfl⟩ := hp
              have hf29 : pL x9 = (some q1) := by rw [hq1]
              refine g_rwv (v := .ref q1) (congrArg va_rf hf29) ?_
              refine g_iconst hx hb dJ4_fixAfterInsertion_229 ?_
              refine g_callS (As := [.ref q1, .int (iI 1)]) (rest := []) 2 hx hb hml hown hts hK hG hS hl.1 (mJ4_setColor l X σL tg mp n ad ps K Vv lL rL pL cL rtL es ks sz md hTHL (some q1) (fun a h => by cases h; exact hDq1) 1 (by omega)) q1219 q1220 q75 q1221 (by decide +kernel) rfl ⟨Nat.le_of_ble_eq_true rfl, Nat.le_of_ble_eq_true rfl⟩ ⟨Nat.le_of_ble_eq_true rfl, Nat.le_of_ble_eq_true rfl⟩ (Nat.le_of_ble_eq_true rfl) dJ4_fixAfterInsertion_230 (kV (fun σr30 H locs hp hG hS => ?_))
              obtain ⟨hTH31, kp31⟩ := hp
              have hkp31 := hkL.tr kp31
              have hTH31 : TH σr30 tg mp (tIn n ad ps) K Vv lL rL pL (va_up cL q1 1) rtL es ks sz md := hTH31
              obtain ⟨cc_31, ecc_31⟩ : ∃ z : Nat → Int, z = va_up cL q1 1 := ⟨_, rfl⟩
              rw [← ecc_31] at hTH31
              refine lv_aload_n hx hb dJ4_fixAfterInsertion_233 rfl (lv_at hl 2 rfl) ?_
              refine g_callS (As := [.ref x9]) (rest := []) 1 hx hb hml hown hts hK hG hS hl.1 (mJ4_parentOf l X σr30 tg mp n ad ps K Vv lL rL pL cc_31 rtL es ks sz md hTH31 (some x9) (fun a h => by cases h; exact hDx9)) q1207 q1208 q75 q1209 (by decide +kernel) rfl ⟨Nat.le_of_ble_eq_true rfl, Nat.le_of_ble_eq_true rfl⟩ ⟨Nat.le_of_ble_eq_true rfl, Nat.le_of_ble_eq_true rfl⟩ (Nat.le_of_ble_eq_true rfl) dJ4_fixAfterInsertion_234 (kA (fun r32 σr32 H locs hp hG hS => ?_))
              obtain ⟨rfl, rfl⟩ := hp
              have hf33 : pL x9 = (some q1) := by rw [hq1]
              refine g_rwv (v := .ref q1) (congrArg va_rf hf33) ?_
              refine g_callS (As := [.ref q1]) (rest := []) 1 hx hb hml hown hts hK hG hS hl.1 (mJ4_parentOf l X σr30 tg mp n ad ps K Vv lL rL pL cc_31 rtL es ks sz md hTH31 (some q1) (fun a h => by cases h; exact hDq1)) q1207 q1208 q75 q1209 (by decide +kernel) rfl ⟨Nat.le_of_ble_eq_true rfl, Nat.le_of_ble_eq_true rfl⟩ ⟨Nat.le_of_ble_eq_true rfl, Nat.le_of_ble_eq_true rfl⟩ (Nat.le_of_ble_eq_true rfl) dJ4_fixAfterInsertion_237 (kA (fun r34 σr34 H locs hp hG hS => ?_))
              obtain ⟨rfl, rfl⟩ := hp
              have hf35 : pL q1 = none := by rw [ho14]
              refine g_rwv (v := .null) (congrArg va_rf hf35) ?_
              refine g_iconst hx hb dJ4_fixAfterInsertion_240 ?_
              refine g_callS (As := [.null, .int (iI 0)]) (rest := []) 2 hx hb hml hown hts hK hG hS hl.1 (mJ4_setColor l X σr30 tg mp n ad ps K Vv lL rL pL cc_31 rtL es ks sz md hTH31 none (fun a h => by cases h) 0 (by omega)) q1219 q1220 q75 q1221 (by decide +kernel) rfl ⟨Nat.le_of_ble_eq_true rfl, Nat.le_of_ble_eq_true rfl⟩ ⟨Nat.le_of_ble_eq_true rfl, Nat.le_of_ble_eq_true rfl⟩ (Nat.le_of_ble_eq_true rfl) dJ4_fixAfterInsertion_241 (kV (fun σr36 H locs hp hG hS => ?_))
              obtain ⟨hTH37, kp37⟩ := hp
              have hkp37 := hkp31.tr kp37
              have hTH37 : TH σr36 tg mp (tIn n ad ps) K Vv lL rL pL cc_31 rtL es ks sz md := hTH37
              refine lv_aload_n hx hb dJ4_fixAfterInsertion_244 rfl (lv_at hl 1 rfl) ?_
              refine lv_aload_n hx hb dJ4_fixAfterInsertion_245 rfl (lv_at hl 2 rfl) ?_
              refine g_callS (As := [.ref x9]) (rest := [.ref mp]) 1 hx hb hml hown hts hK hG hS hl.1 (mJ4_parentOf l X σr36 tg mp n ad ps K Vv lL rL pL cc_31 rtL es ks sz md hTH37 (some x9) (fun a h => by cases h; exact hDx9)) q1207 q1208 q75 q1209 (by decide +kernel) rfl ⟨Nat.le_of_ble_eq_true rfl, Nat.le_of_ble_eq_true rfl⟩ ⟨Nat.le_of_ble_eq_true rfl, Nat.le_of_ble_eq_true rfl⟩ (Nat.le_of_ble_eq_true rfl) dJ4_fixAfterInsertion_246 (kA (fun r38 σr38 H locs hp hG hS => ?_))
              obtain ⟨rfl, rfl⟩ := hp
              have hf39 : pL x9 = (some q1) := by rw [hq1]
              refine g_rwv (v := .ref q1) (congrArg va_rf hf39) ?_
              refine g_callS (As := [.ref q1]) (rest := [.ref mp]) 1 hx hb hml hown hts hK hG hS hl.1 (mJ4_parentOf l X σr36 tg mp n ad ps K Vv lL rL pL cc_31 rtL es ks sz md hTH37 (some q1) (fun a h => by cases h; exact hDq1)) q1207 q1208 q75 q1209 (by decide +kernel) rfl ⟨Nat.le_of_ble_eq_true rfl, Nat.le_of_ble_eq_true rfl⟩ ⟨Nat.le_of_ble_eq_true rfl, Nat.le_of_ble_eq_true rfl⟩ (Nat.le_of_ble_eq_true rfl) dJ4_fixAfterInsertion_249 (kA (fun r40 σr40 H locs hp hG hS => ?_))
              obtain ⟨rfl, rfl⟩ := hp
              have hf41 : pL q1 = none := by rw [ho14]
              refine g_rwv (v := .null) (congrArg va_rf hf41) ?_
              refine g_callV (As := [.null]) (rest := []) 1 hx hb hml hown hts hK hG hS hl.1 (mJ4_rotateLeft_0 l X σr36 tg mp n ad ps K Vv lL rL pL cc_31 rtL es ks sz md hTH37) hTH37.1 rfl q1222 q1224 qs33 q75 q1225 (by decide +kernel) rfl ⟨Nat.le_of_ble_eq_true rfl, Nat.le_of_ble_eq_true rfl⟩ ⟨Nat.le_of_ble_eq_true rfl, Nat.le_of_ble_eq_true rfl⟩ (Nat.le_of_ble_eq_true rfl) dJ4_fixAfterInsertion_252 (kV (fun σr42 H locs hp hG hS => ?_))
              obtain rfl := hp
              refine lv_goto (tgt := 5) hx hb dJ4_fixAfterInsertion_255 (by decide) ?_
              exact ih_5 σr36 lL rL pL cc_31 rtL loL hiL x9 (f - 1) (by omega) (hTH37) (hokL) (hkp37) (hDx9) (Or.inl (fun q k => by rw [hq1] at k; have k2 := Option.some.inj k; rw [← k2, ecc_31, va_up_self]))  _ _ _ hG hS (lv_sub hl [1, 2] rfl)
            · refine lv_aload_n hx hb dJ4_fixAfterInsertion_215 rfl (lv_at hl 2 rfl) ?_
              refine g_callS (As := [.ref x9]) (rest := []) 1 hx hb hml hown hts hK hG hS hl.1 (mJ4_parentOf l X σL tg mp n ad ps K Vv lL rL pL cL rtL es ks sz md hTHL (some x9) (fun a h => by cases h; exact hDx9)) q1207 q1208 q75 q1209 (by decide +kernel) rfl ⟨Nat.le_of_ble_eq_true rfl, Nat.le_of_ble_eq_true rfl⟩ ⟨Nat.le_of_ble_eq_true rfl, Nat.le_of_ble_eq_true rfl⟩ (Nat.le_of_ble_eq_true rfl) dJ4_fixAfterInsertion_216 (kA (fun r43 σr43 H locs hp hG hS => ?_))
              obtain ⟨rfl, rfl⟩ := hp
              have hf44 : pL x9 = (some q1) := by rw [hq1]
              refine g_rwv (v := .ref q1) (congrArg va_rf hf44) ?_
              refine lv_astore_n (lv' := [(1, .ref q1), (2, .null), (0, .ref mp)]) hx hb dJ4_fixAfterInsertion_219 rfl hl (by decide) rfl (fun ls hl => ?_)
              refine lv_aload_n hx hb dJ4_fixAfterInsertion_220 rfl (lv_at hl 2 rfl) ?_
              refine lv_aload_n hx hb dJ4_fixAfterInsertion_221 rfl (lv_at hl 0 rfl) ?_
              refine g_callV (As := [.ref q1]) (rest := []) 1 hx hb hml hown hts hK hG hS hl.1 (mJ4_rotateRight l X σL tg mp n ad ps K Vv lL rL pL cL rtL es ks sz md hTHL loL hiL hokL q1 x9 hDq1 hq27.symm) hTHL.1 rfl q1226 q1228 qs34 q75 q1229 (by decide +kernel) rfl ⟨Nat.le_of_ble_eq_true rfl, Nat.le_of_ble_eq_true rfl⟩ ⟨Nat.le_of_ble_eq_true rfl, Nat.le_of_ble_eq_true rfl⟩ (Nat.le_of_ble_eq_true rfl) dJ4_fixAfterInsertion_222 (kV (fun σr45 H locs hp hG hS => ?_))
              obtain ⟨l_46, r_46, p_46, rt_46, hTH46, kp46, hl_46, hr_46, hp_46, hrt_46⟩ := hp
              have hkp46 := hkL.tr kp46
              have hok46 := hokL.rotR hDq1 hq27.symm (hl := hl_46) (hr := hr_46) (hp := hp_46) (hrt := hrt_46)
              obtain ⟨lo_46, elo_46⟩ : ∃ z, z = va_up (va_up loL x9 (loL q1)) q1 (ps x9 + 1) := ⟨_, rfl⟩
              obtain ⟨hi_46, ehi_46⟩ : ∃ z, z = va_up hiL x9 (hiL q1) := ⟨_, rfl⟩
              rw [← elo_46, ← ehi_46] at hok46
              have hA : p_46 q1 = some x9 := by rw [hp_46 q1 hDq1, if_neg hxq.symm, if_pos rfl]
              have hB : p_46 x9 = none := by rw [hp_46 x9 hDx9, if_pos rfl]; exact ho14
              refine lv_aload_n hx hb dJ4_fixAfterInsertion_225 rfl (lv_at hl 0 rfl) ?_
              refine g_callS (As := [.ref q1]) (rest := []) 1 hx hb hml hown hts hK hG hS hl.1 (mJ4_parentOf l X σr45 tg mp n ad ps K Vv l_46 r_46 p_46 cL rt_46 es ks sz md hTH46 (some q1) (fun a h => by cases h; exact hDq1)) q1207 q1208 q75 q1209 (by decide +kernel) rfl ⟨Nat.le_of_ble_eq_true rfl, Nat.le_of_ble_eq_true rfl⟩ ⟨Nat.le_of_ble_eq_true rfl, Nat.le_of_ble_eq_true rfl⟩ (Nat.le_of_ble_eq_true rfl) dJ4_fixAfterInsertion_226 (kA (fun r47 σr47 H locs hp hG hS => ?_))
              obtain ⟨rfl, rfl⟩ := hp
              have hf48 : p_46 q1 = (some x9) := by rw [hA]
              refine g_rwv (v := .ref x9) (congrArg va_rf hf48) ?_
              refine g_iconst hx hb dJ4_fixAfterInsertion_229 ?_
              refine g_callS (As := [.ref x9, .int (iI 1)]) (rest := []) 2 hx hb hml hown hts hK hG hS hl.1 (mJ4_setColor l X σr45 tg mp n ad ps K Vv l_46 r_46 p_46 cL rt_46 es ks sz md hTH46 (some x9) (fun a h => by cases h; exact hDx9) 1 (by omega)) q1219 q1220 q75 q1221 (by decide +kernel) rfl ⟨Nat.le_of_ble_eq_true rfl, Nat.le_of_ble_eq_true rfl⟩ ⟨Nat.le_of_ble_eq_true rfl, Nat.le_of_ble_eq_true rfl⟩ (Nat.le_of_ble_eq_true rfl) dJ4_fixAfterInsertion_230 (kV (fun σr49 H locs hp hG hS => ?_))
              obtain ⟨hTH50, kp50⟩ := hp
              have hkp50 := hkp46.tr kp50
              have hTH50 : TH σr49 tg mp (tIn n ad ps) K Vv l_46 r_46 p_46 (va_up cL x9 1) rt_46 es ks sz md := hTH50
              obtain ⟨cc_50, ecc_50⟩ : ∃ z : Nat → Int, z = va_up cL x9 1 := ⟨_, rfl⟩
              rw [← ecc_50] at hTH50
              refine lv_aload_n hx hb dJ4_fixAfterInsertion_233 rfl (lv_at hl 0 rfl) ?_
              refine g_callS (As := [.ref q1]) (rest := []) 1 hx hb hml hown hts hK hG hS hl.1 (mJ4_parentOf l X σr49 tg mp n ad ps K Vv l_46 r_46 p_46 cc_50 rt_46 es ks sz md hTH50 (some q1) (fun a h => by cases h; exact hDq1)) q1207 q1208 q75 q1209 (by decide +kernel) rfl ⟨Nat.le_of_ble_eq_true rfl, Nat.le_of_ble_eq_true rfl⟩ ⟨Nat.le_of_ble_eq_true rfl, Nat.le_of_ble_eq_true rfl⟩ (Nat.le_of_ble_eq_true rfl) dJ4_fixAfterInsertion_234 (kA (fun r51 σr51 H locs hp hG hS => ?_))
              obtain ⟨rfl, rfl⟩ := hp
              have hf52 : p_46 q1 = (some x9) := by rw [hA]
              refine g_rwv (v := .ref x9) (congrArg va_rf hf52) ?_
              refine g_callS (As := [.ref x9]) (rest := []) 1 hx hb hml hown hts hK hG hS hl.1 (mJ4_parentOf l X σr49 tg mp n ad ps K Vv l_46 r_46 p_46 cc_50 rt_46 es ks sz md hTH50 (some x9) (fun a h => by cases h; exact hDx9)) q1207 q1208 q75 q1209 (by decide +kernel) rfl ⟨Nat.le_of_ble_eq_true rfl, Nat.le_of_ble_eq_true rfl⟩ ⟨Nat.le_of_ble_eq_true rfl, Nat.le_of_ble_eq_true rfl⟩ (Nat.le_of_ble_eq_true rfl) dJ4_fixAfterInsertion_237 (kA (fun r53 σr53 H locs hp hG hS => ?_))
              obtain ⟨rfl, rfl⟩ := hp
              have hf54 : p_46 x9 = none := by rw [hB]
              refine g_rwv (v := .null) (congrArg va_rf hf54) ?_
              refine g_iconst hx hb dJ4_fixAfterInsertion_240 ?_
              refine g_callS (As := [.null, .int (iI 0)]) (rest := []) 2 hx hb hml hown hts hK hG hS hl.1 (mJ4_setColor l X σr49 tg mp n ad ps K Vv l_46 r_46 p_46 cc_50 rt_46 es ks sz md hTH50 none (fun a h => by cases h) 0 (by omega)) q1219 q1220 q75 q1221 (by decide +kernel) rfl ⟨Nat.le_of_ble_eq_true rfl, Nat.le_of_ble_eq_true rfl⟩ ⟨Nat.le_of_ble_eq_true rfl, Nat.le_of_ble_eq_true rfl⟩ (Nat.le_of_ble_eq_true rfl) dJ4_fixAfterInsertion_241 (kV (fun σr55 H locs hp hG hS => ?_))
              obtain ⟨hTH56, kp56⟩ := hp
              have hkp56 := hkp50.tr kp56
              have hTH56 : TH σr55 tg mp (tIn n ad ps) K Vv l_46 r_46 p_46 cc_50 rt_46 es ks sz md := hTH56
              refine lv_aload_n hx hb dJ4_fixAfterInsertion_244 rfl (lv_at hl 2 rfl) ?_
              refine lv_aload_n hx hb dJ4_fixAfterInsertion_245 rfl (lv_at hl 0 rfl) ?_
              refine g_callS (As := [.ref q1]) (rest := [.ref mp]) 1 hx hb hml hown hts hK hG hS hl.1 (mJ4_parentOf l X σr55 tg mp n ad ps K Vv l_46 r_46 p_46 cc_50 rt_46 es ks sz md hTH56 (some q1) (fun a h => by cases h; exact hDq1)) q1207 q1208 q75 q1209 (by decide +kernel) rfl ⟨Nat.le_of_ble_eq_true rfl, Nat.le_of_ble_eq_true rfl⟩ ⟨Nat.le_of_ble_eq_true rfl, Nat.le_of_ble_eq_true rfl⟩ (Nat.le_of_ble_eq_true rfl) dJ4_fixAfterInsertion_246 (kA (fun r57 σr57 H locs hp hG hS => ?_))
              obtain ⟨rfl, rfl⟩ := hp
              have hf58 : p_46 q1 = (some x9) := by rw [hA]
              refine g_rwv (v := .ref x9) (congrArg va_rf hf58) ?_
              refine g_callS (As := [.ref x9]) (rest := [.ref mp]) 1 hx hb hml hown hts hK hG hS hl.1 (mJ4_parentOf l X σr55 tg mp n ad ps K Vv l_46 r_46 p_46 cc_50 rt_46 es ks sz md hTH56 (some x9) (fun a h => by cases h; exact hDx9)) q1207 q1208 q75 q1209 (by decide +kernel) rfl ⟨Nat.le_of_ble_eq_true rfl, Nat.le_of_ble_eq_true rfl⟩ ⟨Nat.le_of_ble_eq_true rfl, Nat.le_of_ble_eq_true rfl⟩ (Nat.le_of_ble_eq_true rfl) dJ4_fixAfterInsertion_249 (kA (fun r59 σr59 H locs hp hG hS => ?_))
              obtain ⟨rfl, rfl⟩ := hp
              have hf60 : p_46 x9 = none := by rw [hB]
              refine g_rwv (v := .null) (congrArg va_rf hf60) ?_
              refine g_callV (As := [.null]) (rest := []) 1 hx hb hml hown hts hK hG hS hl.1 (mJ4_rotateLeft_0 l X σr55 tg mp n ad ps K Vv l_46 r_46 p_46 cc_50 rt_46 es ks sz md hTH56) hTH56.1 rfl q1222 q1224 qs33 q75 q1225 (by decide +kernel) rfl ⟨Nat.le_of_ble_eq_true rfl, Nat.le_of_ble_eq_true rfl⟩ ⟨Nat.le_of_ble_eq_true rfl, Nat.le_of_ble_eq_true rfl⟩ (Nat.le_of_ble_eq_true rfl) dJ4_fixAfterInsertion_252 (kV (fun σr61 H locs hp hG hS => ?_))
              obtain rfl := hp
              refine lv_goto (tgt := 5) hx hb dJ4_fixAfterInsertion_255 (by decide) ?_
              exact ih_5 σr55 l_46 r_46 p_46 cc_50 rt_46 lo_46 hi_46 q1 (f - 1) (by omega) (hTH56) (hok46) (hkp56) (hDq1) (Or.inl (fun q k => by rw [hA] at k; have k2 := Option.some.inj k; rw [← k2, ecc_50, va_up_self]))  _ _ _ hG hS (lv_sub hl [2, 0] rfl)
          · have hD_z13 := (hokL.p1 hDq1 ho14).1
            have hup2 := hokL.up hDq1 ho14
            have hng := hokL.num hD_z13
            have hgq : z13 ≠ q1 := fun e => by rw [e] at hup2; omega
            have hgx : z13 ≠ x9 := fun e => by rw [e] at hup2; omega
            refine g_callS (As := [.ref z13]) (rest := [.ref q1]) 1 hx hb hml hown hts hK hG hS hl.1 (mJ4_leftOf l X σL tg mp n ad ps K Vv lL rL pL cL rtL es ks sz md hTHL (some z13) (fun a h => by cases h; exact hD_z13)) q1210 q1211 q75 q1212 (by decide +kernel) rfl ⟨Nat.le_of_ble_eq_true rfl, Nat.le_of_ble_eq_true rfl⟩ ⟨Nat.le_of_ble_eq_true rfl, Nat.le_of_ble_eq_true rfl⟩ (Nat.le_of_ble_eq_true rfl) dJ4_fixAfterInsertion_38 (kA (fun r62 σr62 H locs hp hG hS => ?_))
            obtain ⟨rfl, rfl⟩ := hp
            refine g_rwv (v := va_rf (lL z13)) rfl ?_
            refine lv_acmp_ne (tgt := 151) (rx := (some q1)) (ry := (lL z13)) hx hb dJ4_fixAfterInsertion_41 (by decide) (fun hq63 => ?_) (fun hq63 => ?_)
            · have hRg : rL z13 = some q1 := (hokL.p1 hDq1 ho14).2.resolve_left (fun k => hq63 k.symm)
              refine lv_aload_n hx hb dJ4_fixAfterInsertion_151 rfl (lv_at hl 1 rfl) ?_
              refine g_callS (As := [.ref x9]) (rest := []) 1 hx hb hml hown hts hK hG hS hl.1 (mJ4_parentOf l X σL tg mp n ad ps K Vv lL rL pL cL rtL es ks sz md hTHL (some x9) (fun a h => by cases h; exact hDx9)) q1207 q1208 q75 q1209 (by decide +kernel) rfl ⟨Nat.le_of_ble_eq_true rfl, Nat.le_of_ble_eq_true rfl⟩ ⟨Nat.le_of_ble_eq_true rfl, Nat.le_of_ble_eq_true rfl⟩ (Nat.le_of_ble_eq_true rfl) dJ4_fixAfterInsertion_152 (kA (fun r64 σr64 H locs hp hG hS => ?_))
              obtain ⟨rfl, rfl⟩ := hp
              have hf65 : pL x9 = (some q1) := by rw [hq1]
              refine g_rwv (v := .ref q1) (congrArg va_rf hf65) ?_
              refine g_callS (As := [.ref q1]) (rest := []) 1 hx hb hml hown hts hK hG hS hl.1 (mJ4_parentOf l X σL tg mp n ad ps K Vv lL rL pL cL rtL es ks sz md hTHL (some q1) (fun a h => by cases h; exact hDq1)) q1207 q1208 q75 q1209 (by decide +kernel) rfl ⟨Nat.le_of_ble_eq_true rfl, Nat.le_of_ble_eq_true rfl⟩ ⟨Nat.le_of_ble_eq_true rfl, Nat.le_of_ble_eq_true rfl⟩ (Nat.le_of_ble_eq_true rfl) dJ4_fixAfterInsertion_155 (kA (fun r66 σr66 H locs hp hG hS => ?_))
              obtain ⟨rfl, rfl⟩ := hp
              have hf67 : pL q1 = (some z13) := by rw [ho14]
              refine g_rwv (v := .ref z13) (congrArg va_rf hf67) ?_
              refine g_callS (As := [.ref z13]) (rest := []) 1 hx hb hml hown hts hK hG hS hl.1 (mJ4_leftOf l X σL tg mp n ad ps K Vv lL rL pL cL rtL es ks sz md hTHL (some z13) (fun a h => by cases h; exact hD_z13)) q1210 q1211 q75 q1212 (by decide +kernel) rfl ⟨Nat.le_of_ble_eq_true rfl, Nat.le_of_ble_eq_true rfl⟩ ⟨Nat.le_of_ble_eq_true rfl, Nat.le_of_ble_eq_true rfl⟩ (Nat.le_of_ble_eq_true rfl) dJ4_fixAfterInsertion_158 (kA (fun r68 σr68 H locs hp hG hS => ?_))
              obtain ⟨rfl, rfl⟩ := hp
              refine g_rwv (v := va_rf (lL z13)) rfl ?_
              refine g_astore_nR (lv' := [(2, va_rf (lL z13)), (0, .ref mp), (1, .ref x9)]) hx hb dJ4_fixAfterInsertion_161 rfl hl (by decide) rfl (fun ls hl => ?_)
              refine g_aload_nR hx hb dJ4_fixAfterInsertion_162 rfl (lv_at hl 0 rfl) ?_
              refine g_callS (As := [va_rf (lL z13)]) (rest := []) 1 hx hb hml hown hts hK hG hS hl.1 (mJ4_colorOf l X σL tg mp n ad ps K Vv lL rL pL cL rtL es ks sz md hTHL (lL z13) (fun a h => (hokL.l1 hD_z13 h).1)) q1216 q1217 q75 q1218 (by decide +kernel) rfl ⟨Nat.le_of_ble_eq_true rfl, Nat.le_of_ble_eq_true rfl⟩ ⟨Nat.le_of_ble_eq_true rfl, Nat.le_of_ble_eq_true rfl⟩ (Nat.le_of_ble_eq_true rfl) dJ4_fixAfterInsertion_163 (kI (fun r69 σr69 H locs hp hG hS => ?_))
              obtain ⟨hr69, rfl⟩ := hp
              refine g_rw (b := (cO cL (lL z13))) hr69 ?_
              have hc70 : (cO cL (lL z13)) = 0 ∨ (cO cL (lL z13)) = 1 := cO_r (fun a h => hTHL.2.2 _ ((fun a h => (hokL.l1 hD_z13 h).1) a h))
              refine g_if_ne (tgt := 204) hx hb dJ4_fixAfterInsertion_166 (by decide) (by omega) (fun cq71 => ?_) (fun cq71 => ?_)
              · refine lv_aload_n hx hb dJ4_fixAfterInsertion_204 rfl (lv_at hl 2 rfl) ?_
                refine lv_aload_n hx hb dJ4_fixAfterInsertion_205 rfl (lv_at hl 2 rfl) ?_
                refine g_callS (As := [.ref x9]) (rest := [.ref x9]) 1 hx hb hml hown hts hK hG hS hl.1 (mJ4_parentOf l X σL tg mp n ad ps K Vv lL rL pL cL rtL es ks sz md hTHL (some x9) (fun a h => by cases h; exact hDx9)) q1207 q1208 q75 q1209 (by decide +kernel) rfl ⟨Nat.le_of_ble_eq_true rfl, Nat.le_of_ble_eq_true rfl⟩ ⟨Nat.le_of_ble_eq_true rfl, Nat.le_of_ble_eq_true rfl⟩ (Nat.le_of_ble_eq_true rfl) dJ4_fixAfterInsertion_206 (kA (fun r72 σr72 H locs hp hG hS => ?_))
                obtain ⟨rfl, rfl⟩ := hp
                have hf73 : pL x9 = (some q1) := by rw [hq1]
                refine g_rwv (v := .ref q1) (congrArg va_rf hf73) ?_
                refine g_callS (As := [.ref q1]) (rest := [.ref x9]) 1 hx hb hml hown hts hK hG hS hl.1 (mJ4_leftOf l X σL tg mp n ad ps K Vv lL rL pL cL rtL es ks sz md hTHL (some q1) (fun a h => by cases h; exact hDq1)) q1210 q1211 q75 q1212 (by decide +kernel) rfl ⟨Nat.le_of_ble_eq_true rfl, Nat.le_of_ble_eq_true rfl⟩ ⟨Nat.le_of_ble_eq_true rfl, Nat.le_of_ble_eq_true rfl⟩ (Nat.le_of_ble_eq_true rfl) dJ4_fixAfterInsertion_209 (kA (fun r74 σr74 H locs hp hG hS => ?_))
                obtain ⟨rfl, rfl⟩ := hp
                refine g_rwv (v := va_rf (lL q1)) rfl ?_
                refine lv_acmp_ne (tgt := 225) (rx := (some x9)) (ry := (lL q1)) hx hb dJ4_fixAfterInsertion_212 (by decide) (fun hq75 => ?_) (fun hq75 => ?_)
                · refine lv_aload_n hx hb dJ4_fixAfterInsertion_225 rfl (lv_at hl 2 rfl) ?_
                  refine g_callS (As := [.ref x9]) (rest := []) 1 hx hb hml hown hts hK hG hS hl.1 (mJ4_parentOf l X σL tg mp n ad ps K Vv lL rL pL cL rtL es ks sz md hTHL (some x9) (fun a h => by cases h; exact hDx9)) q1207 q1208 q75 q1209 (by decide +kernel) rfl ⟨Nat.le_of_ble_eq_true rfl, Nat.le_of_ble_eq_true rfl⟩ ⟨Nat.le_of_ble_eq_true rfl, Nat.le_of_ble_eq_true rfl⟩ (Nat.le_of_ble_eq_true rfl) dJ4_fixAfterInsertion_226 (kA (fun r76 σr76 H locs hp hG hS => ?_))
                  obtain ⟨rfl, rfl⟩ := hp
                  have hf77 : pL x9 = (some q1) := by rw [hq1]
                  refine g_rwv (v := .ref q1) (congrArg va_rf hf77) ?_
                  refine g_iconst hx hb dJ4_fixAfterInsertion_229 ?_
                  refine g_callS (As := [.ref q1, .int (iI 1)]) (rest := []) 2 hx hb hml hown hts hK hG hS hl.1 (mJ4_setColor l X σL tg mp n ad ps K Vv lL rL pL cL rtL es ks sz md hTHL (some q1) (fun a h => by cases h; exact hDq1) 1 (by omega)) q1219 q1220 q75 q1221 (by decide +kernel) rfl ⟨Nat.le_of_ble_eq_true rfl, Nat.le_of_ble_eq_true rfl⟩ ⟨Nat.le_of_ble_eq_true rfl, Nat.le_of_ble_eq_true rfl⟩ (Nat.le_of_ble_eq_true rfl) dJ4_fixAfterInsertion_230 (kV (fun σr78 H locs hp hG hS => ?_))
                  obtain ⟨hTH79, kp79⟩ := hp
                  have hkp79 := hkL.tr kp79
                  have hTH79 : TH σr78 tg mp (tIn n ad ps) K Vv lL rL pL (va_up cL q1 1) rtL es ks sz md := hTH79
                  obtain ⟨cc_79, ecc_79⟩ : ∃ z : Nat → Int, z = va_up cL q1 1 := ⟨_, rfl⟩
                  rw [← ecc_79] at hTH79
                  refine lv_aload_n hx hb dJ4_fixAfterInsertion_233 rfl (lv_at hl 2 rfl) ?_
                  refine g_callS (As := [.ref x9]) (rest := []) 1 hx hb hml hown hts hK hG hS hl.1 (mJ4_parentOf l X σr78 tg mp n ad ps K Vv lL rL pL cc_79 rtL es ks sz md hTH79 (some x9) (fun a h => by cases h; exact hDx9)) q1207 q1208 q75 q1209 (by decide +kernel) rfl ⟨Nat.le_of_ble_eq_true rfl, Nat.le_of_ble_eq_true rfl⟩ ⟨Nat.le_of_ble_eq_true rfl, Nat.le_of_ble_eq_true rfl⟩ (Nat.le_of_ble_eq_true rfl) dJ4_fixAfterInsertion_234 (kA (fun r80 σr80 H locs hp hG hS => ?_))
                  obtain ⟨rfl, rfl⟩ := hp
                  have hf81 : pL x9 = (some q1) := by rw [hq1]
                  refine g_rwv (v := .ref q1) (congrArg va_rf hf81) ?_
                  refine g_callS (As := [.ref q1]) (rest := []) 1 hx hb hml hown hts hK hG hS hl.1 (mJ4_parentOf l X σr78 tg mp n ad ps K Vv lL rL pL cc_79 rtL es ks sz md hTH79 (some q1) (fun a h => by cases h; exact hDq1)) q1207 q1208 q75 q1209 (by decide +kernel) rfl ⟨Nat.le_of_ble_eq_true rfl, Nat.le_of_ble_eq_true rfl⟩ ⟨Nat.le_of_ble_eq_true rfl, Nat.le_of_ble_eq_true rfl⟩ (Nat.le_of_ble_eq_true rfl) dJ4_fixAfterInsertion_237 (kA (fun r82 σr82 H locs hp hG hS => ?_))
                  obtain ⟨rfl, rfl⟩ := hp
                  have hf83 : pL q1 = (some z13) := by rw [ho14]
                  refine g_rwv (v := .ref z13) (congrArg va_rf hf83) ?_
                  refine g_iconst hx hb dJ4_fixAfterInsertion_240 ?_
                  refine g_callS (As := [.ref z13, .int (iI 0)]) (rest := []) 2 hx hb hml hown hts hK hG hS hl.1 (mJ4_setColor l X σr78 tg mp n ad ps K Vv lL rL pL cc_79 rtL es ks sz md hTH79 (some z13) (fun a h => by cases h; exact hD_z13) 0 (by omega)) q1219 q1220 q75 q1221 (by decide +kernel) rfl ⟨Nat.le_of_ble_eq_true rfl, Nat.le_of_ble_eq_true rfl⟩ ⟨Nat.le_of_ble_eq_true rfl, Nat.le_of_ble_eq_true rfl⟩ (Nat.le_of_ble_eq_true rfl) dJ4_fixAfterInsertion_241 (kV (fun σr84 H locs hp hG hS => ?_))
                  obtain ⟨hTH85, kp85⟩ := hp
                  have hkp85 := hkp79.tr kp85
                  have hTH85 : TH σr84 tg mp (tIn n ad ps) K Vv lL rL pL (va_up cc_79 z13 0) rtL es ks sz md := hTH85
                  obtain ⟨cc_85, ecc_85⟩ : ∃ z : Nat → Int, z = va_up cc_79 z13 0 := ⟨_, rfl⟩
                  rw [← ecc_85] at hTH85
                  refine lv_aload_n hx hb dJ4_fixAfterInsertion_244 rfl (lv_at hl 1 rfl) ?_
                  refine lv_aload_n hx hb dJ4_fixAfterInsertion_245 rfl (lv_at hl 2 rfl) ?_
                  refine g_callS (As := [.ref x9]) (rest := [.ref mp]) 1 hx hb hml hown hts hK hG hS hl.1 (mJ4_parentOf l X σr84 tg mp n ad ps K Vv lL rL pL cc_85 rtL es ks sz md hTH85 (some x9) (fun a h => by cases h; exact hDx9)) q1207 q1208 q75 q1209 (by decide +kernel) rfl ⟨Nat.le_of_ble_eq_true rfl, Nat.le_of_ble_eq_true rfl⟩ ⟨Nat.le_of_ble_eq_true rfl, Nat.le_of_ble_eq_true rfl⟩ (Nat.le_of_ble_eq_true rfl) dJ4_fixAfterInsertion_246 (kA (fun r86 σr86 H locs hp hG hS => ?_))
                  obtain ⟨rfl, rfl⟩ := hp
                  have hf87 : pL x9 = (some q1) := by rw [hq1]
                  refine g_rwv (v := .ref q1) (congrArg va_rf hf87) ?_
                  refine g_callS (As := [.ref q1]) (rest := [.ref mp]) 1 hx hb hml hown hts hK hG hS hl.1 (mJ4_parentOf l X σr84 tg mp n ad ps K Vv lL rL pL cc_85 rtL es ks sz md hTH85 (some q1) (fun a h => by cases h; exact hDq1)) q1207 q1208 q75 q1209 (by decide +kernel) rfl ⟨Nat.le_of_ble_eq_true rfl, Nat.le_of_ble_eq_true rfl⟩ ⟨Nat.le_of_ble_eq_true rfl, Nat.le_of_ble_eq_true rfl⟩ (Nat.le_of_ble_eq_true rfl) dJ4_fixAfterInsertion_249 (kA (fun r88 σr88 H locs hp hG hS => ?_))
                  obtain ⟨rfl, rfl⟩ := hp
                  have hf89 : pL q1 = (some z13) := by rw [ho14]
                  refine g_rwv (v := .ref z13) (congrArg va_rf hf89) ?_
                  have hchi : rL q1 = some x9 := hsd1.resolve_left (fun k => hq75 k.symm)
                  have hprv : pL x9 = some q1 := hq1
                  refine g_callV (As := [.ref z13]) (rest := []) 1 hx hb hml hown hts hK hG hS hl.1 (mJ4_rotateLeft l X σr84 tg mp n ad ps K Vv lL rL pL cc_85 rtL es ks sz md hTH85 loL hiL hokL z13 q1 hD_z13 hRg) hTH85.1 rfl q1222 q1224 qs33 q75 q1225 (by decide +kernel) rfl ⟨Nat.le_of_ble_eq_true rfl, Nat.le_of_ble_eq_true rfl⟩ ⟨Nat.le_of_ble_eq_true rfl, Nat.le_of_ble_eq_true rfl⟩ (Nat.le_of_ble_eq_true rfl) dJ4_fixAfterInsertion_252 (kV (fun σr90 H locs hp hG hS => ?_))
                  obtain ⟨l_91, r_91, p_91, rt_91, hTH91, kp91, hl_91, hr_91, hp_91, hrt_91⟩ := hp
                  have hkp91 := hkp85.tr kp91
                  have hok91 := hokL.rotL hD_z13 hRg (hl := hl_91) (hr := hr_91) (hp := hp_91) (hrt := hrt_91)
                  obtain ⟨lo_91, elo_91⟩ : ∃ z, z = va_up loL q1 (loL z13) := ⟨_, rfl⟩
                  obtain ⟨hi_91, ehi_91⟩ : ∃ z, z = va_up (va_up hiL q1 (hiL z13)) z13 (ps q1) := ⟨_, rfl⟩
                  rw [← elo_91, ← ehi_91] at hok91
                  have hno : ¬ lL q1 = some x9 := fun k => by
                    have q5 := hokL.l1 hDq1 k
                    have q6 := hokL.r1 hDq1 hchi
                    have q7 := hokL.num hDx9
                    omega
                  have hpar : p_91 x9 = some q1 := by rw [hp_91 x9 hDx9, if_neg hxq, if_neg (Ne.symm hgx), if_neg hno]; exact hprv
                  refine lv_goto (tgt := 5) hx hb dJ4_fixAfterInsertion_255 (by decide) ?_
                  exact ih_5 σr90 l_91 r_91 p_91 cc_85 rt_91 lo_91 hi_91 x9 (f - 1) (by omega) (hTH91) (hok91) (hkp91) (hDx9) (Or.inl (fun q k => by rw [hpar] at k; have k2 := Option.some.inj k; rw [← k2, ecc_85, va_up_ne _ _ (Ne.symm hgq), ecc_79, va_up_self]))  _ _ _ hG hS (lv_sub hl [1, 2] rfl)
                · refine lv_aload_n hx hb dJ4_fixAfterInsertion_215 rfl (lv_at hl 2 rfl) ?_
                  refine g_callS (As := [.ref x9]) (rest := []) 1 hx hb hml hown hts hK hG hS hl.1 (mJ4_parentOf l X σL tg mp n ad ps K Vv lL rL pL cL rtL es ks sz md hTHL (some x9) (fun a h => by cases h; exact hDx9)) q1207 q1208 q75 q1209 (by decide +kernel) rfl ⟨Nat.le_of_ble_eq_true rfl, Nat.le_of_ble_eq_true rfl⟩ ⟨Nat.le_of_ble_eq_true rfl, Nat.le_of_ble_eq_true rfl⟩ (Nat.le_of_ble_eq_true rfl) dJ4_fixAfterInsertion_216 (kA (fun r92 σr92 H locs hp hG hS => ?_))
                  obtain ⟨rfl, rfl⟩ := hp
                  have hf93 : pL x9 = (some q1) := by rw [hq1]
                  refine g_rwv (v := .ref q1) (congrArg va_rf hf93) ?_
                  refine lv_astore_n (lv' := [(1, .ref q1), (2, va_rf (lL z13)), (0, .ref mp)]) hx hb dJ4_fixAfterInsertion_219 rfl hl (by decide) rfl (fun ls hl => ?_)
                  refine lv_aload_n hx hb dJ4_fixAfterInsertion_220 rfl (lv_at hl 2 rfl) ?_
                  refine lv_aload_n hx hb dJ4_fixAfterInsertion_221 rfl (lv_at hl 0 rfl) ?_
                  refine g_callV (As := [.ref q1]) (rest := []) 1 hx hb hml hown hts hK hG hS hl.1 (mJ4_rotateRight l X σL tg mp n ad ps K Vv lL rL pL cL rtL es ks sz md hTHL loL hiL hokL q1 x9 hDq1 hq75.symm) hTHL.1 rfl q1226 q1228 qs34 q75 q1229 (by decide +kernel) rfl ⟨Nat.le_of_ble_eq_true rfl, Nat.le_of_ble_eq_true rfl⟩ ⟨Nat.le_of_ble_eq_true rfl, Nat.le_of_ble_eq_true rfl⟩ (Nat.le_of_ble_eq_true rfl) dJ4_fixAfterInsertion_222 (kV (fun σr94 H locs hp hG hS => ?_))
                  obtain ⟨l_95, r_95, p_95, rt_95, hTH95, kp95, hl_95, hr_95, hp_95, hrt_95⟩ := hp
                  have hkp95 := hkL.tr kp95
                  have hok95 := hokL.rotR hDq1 hq75.symm (hl := hl_95) (hr := hr_95) (hp := hp_95) (hrt := hrt_95)
                  obtain ⟨lo_95, elo_95⟩ : ∃ z, z = va_up (va_up loL x9 (loL q1)) q1 (ps x9 + 1) := ⟨_, rfl⟩
                  obtain ⟨hi_95, ehi_95⟩ : ∃ z, z = va_up hiL x9 (hiL q1) := ⟨_, rfl⟩
                  rw [← elo_95, ← ehi_95] at hok95
                  have hA : p_95 q1 = some x9 := by rw [hp_95 q1 hDq1, if_neg hxq.symm, if_pos rfl]
                  have hB : p_95 x9 = some z13 := by rw [hp_95 x9 hDx9, if_pos rfl]; exact ho14
                  have hCg : r_95 z13 = some x9 := by rw [hr_95 z13 hD_z13, if_neg hgx, if_pos hRg]
                  refine lv_aload_n hx hb dJ4_fixAfterInsertion_225 rfl (lv_at hl 0 rfl) ?_
                  refine g_callS (As := [.ref q1]) (rest := []) 1 hx hb hml hown hts hK hG hS hl.1 (mJ4_parentOf l X σr94 tg mp n ad ps K Vv l_95 r_95 p_95 cL rt_95 es ks sz md hTH95 (some q1) (fun a h => by cases h; exact hDq1)) q1207 q1208 q75 q1209 (by decide +kernel) rfl ⟨Nat.le_of_ble_eq_true rfl, Nat.le_of_ble_eq_true rfl⟩ ⟨Nat.le_of_ble_eq_true rfl, Nat.le_of_ble_eq_true rfl⟩ (Nat.le_of_ble_eq_true rfl) dJ4_fixAfterInsertion_226 (kA (fun r96 σr96 H locs hp hG hS => ?_))
                  obtain ⟨rfl, rfl⟩ := hp
                  have hf97 : p_95 q1 = (some x9) := by rw [hA]
                  refine g_rwv (v := .ref x9) (congrArg va_rf hf97) ?_
                  refine g_iconst hx hb dJ4_fixAfterInsertion_229 ?_
                  refine g_callS (As := [.ref x9, .int (iI 1)]) (rest := []) 2 hx hb hml hown hts hK hG hS hl.1 (mJ4_setColor l X σr94 tg mp n ad ps K Vv l_95 r_95 p_95 cL rt_95 es ks sz md hTH95 (some x9) (fun a h => by cases h; exact hDx9) 1 (by omega)) q1219 q1220 q75 q1221 (by decide +kernel) rfl ⟨Nat.le_of_ble_eq_true rfl, Nat.le_of_ble_eq_true rfl⟩ ⟨Nat.le_of_ble_eq_true rfl, Nat.le_of_ble_eq_true rfl⟩ (Nat.le_of_ble_eq_true rfl) dJ4_fixAfterInsertion_230 (kV (fun σr98 H locs hp hG hS => ?_))
                  obtain ⟨hTH99, kp99⟩ := hp
                  have hkp99 := hkp95.tr kp99
                  have hTH99 : TH σr98 tg mp (tIn n ad ps) K Vv l_95 r_95 p_95 (va_up cL x9 1) rt_95 es ks sz md := hTH99
                  obtain ⟨cc_99, ecc_99⟩ : ∃ z : Nat → Int, z = va_up cL x9 1 := ⟨_, rfl⟩
                  rw [← ecc_99] at hTH99
                  refine lv_aload_n hx hb dJ4_fixAfterInsertion_233 rfl (lv_at hl 0 rfl) ?_
                  refine g_callS (As := [.ref q1]) (rest := []) 1 hx hb hml hown hts hK hG hS hl.1 (mJ4_parentOf l X σr98 tg mp n ad ps K Vv l_95 r_95 p_95 cc_99 rt_95 es ks sz md hTH99 (some q1) (fun a h => by cases h; exact hDq1)) q1207 q1208 q75 q1209 (by decide +kernel) rfl ⟨Nat.le_of_ble_eq_true rfl, Nat.le_of_ble_eq_true rfl⟩ ⟨Nat.le_of_ble_eq_true rfl, Nat.le_of_ble_eq_true rfl⟩ (Nat.le_of_ble_eq_true rfl) dJ4_fixAfterInsertion_234 (kA (fun r100 σr100 H locs hp hG hS => ?_))
                  obtain ⟨rfl, rfl⟩ := hp
                  have hf101 : p_95 q1 = (some x9) := by rw [hA]
                  refine g_rwv (v := .ref x9) (congrArg va_rf hf101) ?_
                  refine g_callS (As := [.ref x9]) (rest := []) 1 hx hb hml hown hts hK hG hS hl.1 (mJ4_parentOf l X σr98 tg mp n ad ps K Vv l_95 r_95 p_95 cc_99 rt_95 es ks sz md hTH99 (some x9) (fun a h => by cases h; exact hDx9)) q1207 q1208 q75 q1209 (by decide +kernel) rfl ⟨Nat.le_of_ble_eq_true rfl, Nat.le_of_ble_eq_true rfl⟩ ⟨Nat.le_of_ble_eq_true rfl, Nat.le_of_ble_eq_true rfl⟩ (Nat.le_of_ble_eq_true rfl) dJ4_fixAfterInsertion_237 (kA (fun r102 σr102 H locs hp hG hS => ?_))
                  obtain ⟨rfl, rfl⟩ := hp
                  have hf103 : p_95 x9 = (some z13) := by rw [hB]
                  refine g_rwv (v := .ref z13) (congrArg va_rf hf103) ?_
                  refine g_iconst hx hb dJ4_fixAfterInsertion_240 ?_
                  refine g_callS (As := [.ref z13, .int (iI 0)]) (rest := []) 2 hx hb hml hown hts hK hG hS hl.1 (mJ4_setColor l X σr98 tg mp n ad ps K Vv l_95 r_95 p_95 cc_99 rt_95 es ks sz md hTH99 (some z13) (fun a h => by cases h; exact hD_z13) 0 (by omega)) q1219 q1220 q75 q1221 (by decide +kernel) rfl ⟨Nat.le_of_ble_eq_true rfl, Nat.le_of_ble_eq_true rfl⟩ ⟨Nat.le_of_ble_eq_true rfl, Nat.le_of_ble_eq_true rfl⟩ (Nat.le_of_ble_eq_true rfl) dJ4_fixAfterInsertion_241 (kV (fun σr104 H locs hp hG hS => ?_))
                  obtain ⟨hTH105, kp105⟩ := hp
                  have hkp105 := hkp99.tr kp105
                  have hTH105 : TH σr104 tg mp (tIn n ad ps) K Vv l_95 r_95 p_95 (va_up cc_99 z13 0) rt_95 es ks sz md := hTH105
                  obtain ⟨cc_105, ecc_105⟩ : ∃ z : Nat → Int, z = va_up cc_99 z13 0 := ⟨_, rfl⟩
                  rw [← ecc_105] at hTH105
                  refine lv_aload_n hx hb dJ4_fixAfterInsertion_244 rfl (lv_at hl 2 rfl) ?_
                  refine lv_aload_n hx hb dJ4_fixAfterInsertion_245 rfl (lv_at hl 0 rfl) ?_
                  refine g_callS (As := [.ref q1]) (rest := [.ref mp]) 1 hx hb hml hown hts hK hG hS hl.1 (mJ4_parentOf l X σr104 tg mp n ad ps K Vv l_95 r_95 p_95 cc_105 rt_95 es ks sz md hTH105 (some q1) (fun a h => by cases h; exact hDq1)) q1207 q1208 q75 q1209 (by decide +kernel) rfl ⟨Nat.le_of_ble_eq_true rfl, Nat.le_of_ble_eq_true rfl⟩ ⟨Nat.le_of_ble_eq_true rfl, Nat.le_of_ble_eq_true rfl⟩ (Nat.le_of_ble_eq_true rfl) dJ4_fixAfterInsertion_246 (kA (fun r106 σr106 H locs hp hG hS => ?_))
                  obtain ⟨rfl, rfl⟩ := hp
                  have hf107 : p_95 q1 = (some x9) := by rw [hA]
                  refine g_rwv (v := .ref x9) (congrArg va_rf hf107) ?_
                  refine g_callS (As := [.ref x9]) (rest := [.ref mp]) 1 hx hb hml hown hts hK hG hS hl.1 (mJ4_parentOf l X σr104 tg mp n ad ps K Vv l_95 r_95 p_95 cc_105 rt_95 es ks sz md hTH105 (some x9) (fun a h => by cases h; exact hDx9)) q1207 q1208 q75 q1209 (by decide +kernel) rfl ⟨Nat.le_of_ble_eq_true rfl, Nat.le_of_ble_eq_true rfl⟩ ⟨Nat.le_of_ble_eq_true rfl, Nat.le_of_ble_eq_true rfl⟩ (Nat.le_of_ble_eq_true rfl) dJ4_fixAfterInsertion_249 (kA (fun r108 σr108 H locs hp hG hS => ?_))
                  obtain ⟨rfl, rfl⟩ := hp
                  have hf109 : p_95 x9 = (some z13) := by rw [hB]
                  refine g_rwv (v := .ref z13) (congrArg va_rf hf109) ?_
                  have hchi : r_95 x9 = some q1 := by rw [hr_95 x9 hDx9, if_pos rfl]
                  have hprv : p_95 q1 = some x9 := hA
                  refine g_callV (As := [.ref z13]) (rest := []) 1 hx hb hml hown hts hK hG hS hl.1 (mJ4_rotateLeft l X σr104 tg mp n ad ps K Vv l_95 r_95 p_95 cc_105 rt_95 es ks sz md hTH105 lo_95 hi_95 hok95 z13 x9 hD_z13 hCg) hTH105.1 rfl q1222 q1224 qs33 q75 q1225 (by decide +kernel) rfl ⟨Nat.le_of_ble_eq_true rfl, Nat.le_of_ble_eq_true rfl⟩ ⟨Nat.le_of_ble_eq_true rfl, Nat.le_of_ble_eq_true rfl⟩ (Nat.le_of_ble_eq_true rfl) dJ4_fixAfterInsertion_252 (kV (fun σr110 H locs hp hG hS => ?_))
                  obtain ⟨l_111, r_111, p_111, rt_111, hTH111, kp111, hl_111, hr_111, hp_111, hrt_111⟩ := hp
                  have hkp111 := hkp105.tr kp111
                  have hok111 := hok95.rotL hD_z13 hCg (hl := hl_111) (hr := hr_111) (hp := hp_111) (hrt := hrt_111)
                  obtain ⟨lo_111, elo_111⟩ : ∃ z, z = va_up lo_95 x9 (lo_95 z13) := ⟨_, rfl⟩
                  obtain ⟨hi_111, ehi_111⟩ : ∃ z, z = va_up (va_up hi_95 x9 (hi_95 z13)) z13 (ps x9) := ⟨_, rfl⟩
                  rw [← elo_111, ← ehi_111] at hok111
                  have hno : ¬ l_95 x9 = some q1 := fun k => by
                    have q5 := hok95.l1 hDx9 k
                    have q6 := hok95.r1 hDx9 hchi
                    have q7 := hok95.num hDq1
                    omega
                  have hpar : p_111 q1 = some x9 := by rw [hp_111 q1 hDq1, if_neg (Ne.symm hxq), if_neg (Ne.symm hgq), if_neg hno]; exact hprv
                  refine lv_goto (tgt := 5) hx hb dJ4_fixAfterInsertion_255 (by decide) ?_
                  exact ih_5 σr110 l_111 r_111 p_111 cc_105 rt_111 lo_111 hi_111 q1 (f - 1) (by omega) (hTH111) (hok111) (hkp111) (hDq1) (Or.inl (fun q k => by rw [hpar] at k; have k2 := Option.some.inj k; rw [← k2, ecc_105, va_up_ne _ _ (Ne.symm hgx), ecc_99, va_up_self]))  _ _ _ hG hS (lv_sub hl [2, 0] rfl)
              · obtain ⟨y112, hy112⟩ := cO_some (C := cL) (o := lL z13) (by omega)
                have hD_y112 := (hokL.l1 hD_z13 hy112).1
                have hl : lv_has ls 3 [(2, .ref y112), (0, .ref mp), (1, .ref x9)] := by first | exact hl | (rw [hy112] at hl; exact hl)
                refine lv_aload_n hx hb dJ4_fixAfterInsertion_169 rfl (lv_at hl 2 rfl) ?_
                refine g_callS (As := [.ref x9]) (rest := []) 1 hx hb hml hown hts hK hG hS hl.1 (mJ4_parentOf l X σL tg mp n ad ps K Vv lL rL pL cL rtL es ks sz md hTHL (some x9) (fun a h => by cases h; exact hDx9)) q1207 q1208 q75 q1209 (by decide +kernel) rfl ⟨Nat.le_of_ble_eq_true rfl, Nat.le_of_ble_eq_true rfl⟩ ⟨Nat.le_of_ble_eq_true rfl, Nat.le_of_ble_eq_true rfl⟩ (Nat.le_of_ble_eq_true rfl) dJ4_fixAfterInsertion_170 (kA (fun r113 σr113 H locs hp hG hS => ?_))
                obtain ⟨rfl, rfl⟩ := hp
                have hf114 : pL x9 = (some q1) := by rw [hq1]
                refine g_rwv (v := .ref q1) (congrArg va_rf hf114) ?_
                refine g_iconst hx hb dJ4_fixAfterInsertion_173 ?_
                refine g_callS (As := [.ref q1, .int (iI 1)]) (rest := []) 2 hx hb hml hown hts hK hG hS hl.1 (mJ4_setColor l X σL tg mp n ad ps K Vv lL rL pL cL rtL es ks sz md hTHL (some q1) (fun a h => by cases h; exact hDq1) 1 (by omega)) q1219 q1220 q75 q1221 (by decide +kernel) rfl ⟨Nat.le_of_ble_eq_true rfl, Nat.le_of_ble_eq_true rfl⟩ ⟨Nat.le_of_ble_eq_true rfl, Nat.le_of_ble_eq_true rfl⟩ (Nat.le_of_ble_eq_true rfl) dJ4_fixAfterInsertion_174 (kV (fun σr115 H locs hp hG hS => ?_))
                obtain ⟨hTH116, kp116⟩ := hp
                have hkp116 := hkL.tr kp116
                have hTH116 : TH σr115 tg mp (tIn n ad ps) K Vv lL rL pL (va_up cL q1 1) rtL es ks sz md := hTH116
                obtain ⟨cc_116, ecc_116⟩ : ∃ z : Nat → Int, z = va_up cL q1 1 := ⟨_, rfl⟩
                rw [← ecc_116] at hTH116
                refine lv_aload_n hx hb dJ4_fixAfterInsertion_177 rfl (lv_at hl 0 rfl) ?_
                refine g_iconst hx hb dJ4_fixAfterInsertion_178 ?_
                refine g_callS (As := [.ref y112, .int (iI 1)]) (rest := []) 2 hx hb hml hown hts hK hG hS hl.1 (mJ4_setColor l X σr115 tg mp n ad ps K Vv lL rL pL cc_116 rtL es ks sz md hTH116 (some y112) (fun a h => by cases h; exact hD_y112) 1 (by omega)) q1219 q1220 q75 q1221 (by decide +kernel) rfl ⟨Nat.le_of_ble_eq_true rfl, Nat.le_of_ble_eq_true rfl⟩ ⟨Nat.le_of_ble_eq_true rfl, Nat.le_of_ble_eq_true rfl⟩ (Nat.le_of_ble_eq_true rfl) dJ4_fixAfterInsertion_179 (kV (fun σr117 H locs hp hG hS => ?_))
                obtain ⟨hTH118, kp118⟩ := hp
                have hkp118 := hkp116.tr kp118
                have hTH118 : TH σr117 tg mp (tIn n ad ps) K Vv lL rL pL (va_up cc_116 y112 1) rtL es ks sz md := hTH118
                obtain ⟨cc_118, ecc_118⟩ : ∃ z : Nat → Int, z = va_up cc_116 y112 1 := ⟨_, rfl⟩
                rw [← ecc_118] at hTH118
                refine lv_aload_n hx hb dJ4_fixAfterInsertion_182 rfl (lv_at hl 2 rfl) ?_
                refine g_callS (As := [.ref x9]) (rest := []) 1 hx hb hml hown hts hK hG hS hl.1 (mJ4_parentOf l X σr117 tg mp n ad ps K Vv lL rL pL cc_118 rtL es ks sz md hTH118 (some x9) (fun a h => by cases h; exact hDx9)) q1207 q1208 q75 q1209 (by decide +kernel) rfl ⟨Nat.le_of_ble_eq_true rfl, Nat.le_of_ble_eq_true rfl⟩ ⟨Nat.le_of_ble_eq_true rfl, Nat.le_of_ble_eq_true rfl⟩ (Nat.le_of_ble_eq_true rfl) dJ4_fixAfterInsertion_183 (kA (fun r119 σr119 H locs hp hG hS => ?_))
                obtain ⟨rfl, rfl⟩ := hp
                have hf120 : pL x9 = (some q1) := by rw [hq1]
                refine g_rwv (v := .ref q1) (congrArg va_rf hf120) ?_
                refine g_callS (As := [.ref q1]) (rest := []) 1 hx hb hml hown hts hK hG hS hl.1 (mJ4_parentOf l X σr117 tg mp n ad ps K Vv lL rL pL cc_118 rtL es ks sz md hTH118 (some q1) (fun a h => by cases h; exact hDq1)) q1207 q1208 q75 q1209 (by decide +kernel) rfl ⟨Nat.le_of_ble_eq_true rfl, Nat.le_of_ble_eq_true rfl⟩ ⟨Nat.le_of_ble_eq_true rfl, Nat.le_of_ble_eq_true rfl⟩ (Nat.le_of_ble_eq_true rfl) dJ4_fixAfterInsertion_186 (kA (fun r121 σr121 H locs hp hG hS => ?_))
                obtain ⟨rfl, rfl⟩ := hp
                have hf122 : pL q1 = (some z13) := by rw [ho14]
                refine g_rwv (v := .ref z13) (congrArg va_rf hf122) ?_
                refine g_iconst hx hb dJ4_fixAfterInsertion_189 ?_
                refine g_callS (As := [.ref z13, .int (iI 0)]) (rest := []) 2 hx hb hml hown hts hK hG hS hl.1 (mJ4_setColor l X σr117 tg mp n ad ps K Vv lL rL pL cc_118 rtL es ks sz md hTH118 (some z13) (fun a h => by cases h; exact hD_z13) 0 (by omega)) q1219 q1220 q75 q1221 (by decide +kernel) rfl ⟨Nat.le_of_ble_eq_true rfl, Nat.le_of_ble_eq_true rfl⟩ ⟨Nat.le_of_ble_eq_true rfl, Nat.le_of_ble_eq_true rfl⟩ (Nat.le_of_ble_eq_true rfl) dJ4_fixAfterInsertion_190 (kV (fun σr123 H locs hp hG hS => ?_))
                obtain ⟨hTH124, kp124⟩ := hp
                have hkp124 := hkp118.tr kp124
                have hTH124 : TH σr123 tg mp (tIn n ad ps) K Vv lL rL pL (va_up cc_118 z13 0) rtL es ks sz md := hTH124
                obtain ⟨cc_124, ecc_124⟩ : ∃ z : Nat → Int, z = va_up cc_118 z13 0 := ⟨_, rfl⟩
                rw [← ecc_124] at hTH124
                refine lv_aload_n hx hb dJ4_fixAfterInsertion_193 rfl (lv_at hl 2 rfl) ?_
                refine g_callS (As := [.ref x9]) (rest := []) 1 hx hb hml hown hts hK hG hS hl.1 (mJ4_parentOf l X σr123 tg mp n ad ps K Vv lL rL pL cc_124 rtL es ks sz md hTH124 (some x9) (fun a h => by cases h; exact hDx9)) q1207 q1208 q75 q1209 (by decide +kernel) rfl ⟨Nat.le_of_ble_eq_true rfl, Nat.le_of_ble_eq_true rfl⟩ ⟨Nat.le_of_ble_eq_true rfl, Nat.le_of_ble_eq_true rfl⟩ (Nat.le_of_ble_eq_true rfl) dJ4_fixAfterInsertion_194 (kA (fun r125 σr125 H locs hp hG hS => ?_))
                obtain ⟨rfl, rfl⟩ := hp
                have hf126 : pL x9 = (some q1) := by rw [hq1]
                refine g_rwv (v := .ref q1) (congrArg va_rf hf126) ?_
                refine g_callS (As := [.ref q1]) (rest := []) 1 hx hb hml hown hts hK hG hS hl.1 (mJ4_parentOf l X σr123 tg mp n ad ps K Vv lL rL pL cc_124 rtL es ks sz md hTH124 (some q1) (fun a h => by cases h; exact hDq1)) q1207 q1208 q75 q1209 (by decide +kernel) rfl ⟨Nat.le_of_ble_eq_true rfl, Nat.le_of_ble_eq_true rfl⟩ ⟨Nat.le_of_ble_eq_true rfl, Nat.le_of_ble_eq_true rfl⟩ (Nat.le_of_ble_eq_true rfl) dJ4_fixAfterInsertion_197 (kA (fun r127 σr127 H locs hp hG hS => ?_))
                obtain ⟨rfl, rfl⟩ := hp
                have hf128 : pL q1 = (some z13) := by rw [ho14]
                refine g_rwv (v := .ref z13) (congrArg va_rf hf128) ?_
                refine lv_astore_n (lv' := [(1, .ref z13), (2, .ref y112), (0, .ref mp)]) hx hb dJ4_fixAfterInsertion_200 rfl hl (by decide) rfl (fun ls hl => ?_)
                refine lv_goto (tgt := 255) hx hb dJ4_fixAfterInsertion_201 (by decide) ?_
                refine lv_goto (tgt := 5) hx hb dJ4_fixAfterInsertion_255 (by decide) ?_
                exact ih_5 σr123 lL rL pL cc_124 rtL loL hiL z13 (f - 1) (by omega) (hTH124) (hokL) (hkp124) (hD_z13) (Or.inr (by omega))  _ _ _ hG hS (lv_sub hl [2, 0] rfl)
            · refine lv_aload_n hx hb dJ4_fixAfterInsertion_44 rfl (lv_at hl 1 rfl) ?_
              refine g_callS (As := [.ref x9]) (rest := []) 1 hx hb hml hown hts hK hG hS hl.1 (mJ4_parentOf l X σL tg mp n ad ps K Vv lL rL pL cL rtL es ks sz md hTHL (some x9) (fun a h => by cases h; exact hDx9)) q1207 q1208 q75 q1209 (by decide +kernel) rfl ⟨Nat.le_of_ble_eq_true rfl, Nat.le_of_ble_eq_true rfl⟩ ⟨Nat.le_of_ble_eq_true rfl, Nat.le_of_ble_eq_true rfl⟩ (Nat.le_of_ble_eq_true rfl) dJ4_fixAfterInsertion_45 (kA (fun r129 σr129 H locs hp hG hS => ?_))
              obtain ⟨rfl, rfl⟩ := hp
              have hf130 : pL x9 = (some q1) := by rw [hq1]
              refine g_rwv (v := .ref q1) (congrArg va_rf hf130) ?_
              refine g_callS (As := [.ref q1]) (rest := []) 1 hx hb hml hown hts hK hG hS hl.1 (mJ4_parentOf l X σL tg mp n ad ps K Vv lL rL pL cL rtL es ks sz md hTHL (some q1) (fun a h => by cases h; exact hDq1)) q1207 q1208 q75 q1209 (by decide +kernel) rfl ⟨Nat.le_of_ble_eq_true rfl, Nat.le_of_ble_eq_true rfl⟩ ⟨Nat.le_of_ble_eq_true rfl, Nat.le_of_ble_eq_true rfl⟩ (Nat.le_of_ble_eq_true rfl) dJ4_fixAfterInsertion_48 (kA (fun r131 σr131 H locs hp hG hS => ?_))
              obtain ⟨rfl, rfl⟩ := hp
              have hf132 : pL q1 = (some z13) := by rw [ho14]
              refine g_rwv (v := .ref z13) (congrArg va_rf hf132) ?_
              refine g_callS (As := [.ref z13]) (rest := []) 1 hx hb hml hown hts hK hG hS hl.1 (mJ4_rightOf l X σL tg mp n ad ps K Vv lL rL pL cL rtL es ks sz md hTHL (some z13) (fun a h => by cases h; exact hD_z13)) q1213 q1214 q75 q1215 (by decide +kernel) rfl ⟨Nat.le_of_ble_eq_true rfl, Nat.le_of_ble_eq_true rfl⟩ ⟨Nat.le_of_ble_eq_true rfl, Nat.le_of_ble_eq_true rfl⟩ (Nat.le_of_ble_eq_true rfl) dJ4_fixAfterInsertion_51 (kA (fun r133 σr133 H locs hp hG hS => ?_))
              obtain ⟨rfl, rfl⟩ := hp
              refine g_rwv (v := va_rf (rL z13)) rfl ?_
              refine g_astore_nR (lv' := [(2, va_rf (rL z13)), (0, .ref mp), (1, .ref x9)]) hx hb dJ4_fixAfterInsertion_54 rfl hl (by decide) rfl (fun ls hl => ?_)
              refine g_aload_nR hx hb dJ4_fixAfterInsertion_55 rfl (lv_at hl 0 rfl) ?_
              refine g_callS (As := [va_rf (rL z13)]) (rest := []) 1 hx hb hml hown hts hK hG hS hl.1 (mJ4_colorOf l X σL tg mp n ad ps K Vv lL rL pL cL rtL es ks sz md hTHL (rL z13) (fun a h => (hokL.r1 hD_z13 h).1)) q1216 q1217 q75 q1218 (by decide +kernel) rfl ⟨Nat.le_of_ble_eq_true rfl, Nat.le_of_ble_eq_true rfl⟩ ⟨Nat.le_of_ble_eq_true rfl, Nat.le_of_ble_eq_true rfl⟩ (Nat.le_of_ble_eq_true rfl) dJ4_fixAfterInsertion_56 (kI (fun r134 σr134 H locs hp hG hS => ?_))
              obtain ⟨hr134, rfl⟩ := hp
              refine g_rw (b := (cO cL (rL z13))) hr134 ?_
              have hc135 : (cO cL (rL z13)) = 0 ∨ (cO cL (rL z13)) = 1 := cO_r (fun a h => hTHL.2.2 _ ((fun a h => (hokL.r1 hD_z13 h).1) a h))
              refine g_if_ne (tgt := 97) hx hb dJ4_fixAfterInsertion_59 (by decide) (by omega) (fun cq136 => ?_) (fun cq136 => ?_)
              · refine lv_aload_n hx hb dJ4_fixAfterInsertion_97 rfl (lv_at hl 2 rfl) ?_
                refine lv_aload_n hx hb dJ4_fixAfterInsertion_98 rfl (lv_at hl 2 rfl) ?_
                refine g_callS (As := [.ref x9]) (rest := [.ref x9]) 1 hx hb hml hown hts hK hG hS hl.1 (mJ4_parentOf l X σL tg mp n ad ps K Vv lL rL pL cL rtL es ks sz md hTHL (some x9) (fun a h => by cases h; exact hDx9)) q1207 q1208 q75 q1209 (by decide +kernel) rfl ⟨Nat.le_of_ble_eq_true rfl, Nat.le_of_ble_eq_true rfl⟩ ⟨Nat.le_of_ble_eq_true rfl, Nat.le_of_ble_eq_true rfl⟩ (Nat.le_of_ble_eq_true rfl) dJ4_fixAfterInsertion_99 (kA (fun r137 σr137 H locs hp hG hS => ?_))
                obtain ⟨rfl, rfl⟩ := hp
                have hf138 : pL x9 = (some q1) := by rw [hq1]
                refine g_rwv (v := .ref q1) (congrArg va_rf hf138) ?_
                refine g_callS (As := [.ref q1]) (rest := [.ref x9]) 1 hx hb hml hown hts hK hG hS hl.1 (mJ4_rightOf l X σL tg mp n ad ps K Vv lL rL pL cL rtL es ks sz md hTHL (some q1) (fun a h => by cases h; exact hDq1)) q1213 q1214 q75 q1215 (by decide +kernel) rfl ⟨Nat.le_of_ble_eq_true rfl, Nat.le_of_ble_eq_true rfl⟩ ⟨Nat.le_of_ble_eq_true rfl, Nat.le_of_ble_eq_true rfl⟩ (Nat.le_of_ble_eq_true rfl) dJ4_fixAfterInsertion_102 (kA (fun r139 σr139 H locs hp hG hS => ?_))
                obtain ⟨rfl, rfl⟩ := hp
                refine g_rwv (v := va_rf (rL q1)) rfl ?_
                refine lv_acmp_ne (tgt := 118) (rx := (some x9)) (ry := (rL q1)) hx hb dJ4_fixAfterInsertion_105 (by decide) (fun hq140 => ?_) (fun hq140 => ?_)
                · refine lv_aload_n hx hb dJ4_fixAfterInsertion_118 rfl (lv_at hl 2 rfl) ?_
                  refine g_callS (As := [.ref x9]) (rest := []) 1 hx hb hml hown hts hK hG hS hl.1 (mJ4_parentOf l X σL tg mp n ad ps K Vv lL rL pL cL rtL es ks sz md hTHL (some x9) (fun a h => by cases h; exact hDx9)) q1207 q1208 q75 q1209 (by decide +kernel) rfl ⟨Nat.le_of_ble_eq_true rfl, Nat.le_of_ble_eq_true rfl⟩ ⟨Nat.le_of_ble_eq_true rfl, Nat.le_of_ble_eq_true rfl⟩ (Nat.le_of_ble_eq_true rfl) dJ4_fixAfterInsertion_119 (kA (fun r141 σr141 H locs hp hG hS => ?_))
                  obtain ⟨rfl, rfl⟩ := hp
                  have hf142 : pL x9 = (some q1) := by rw [hq1]
                  refine g_rwv (v := .ref q1) (congrArg va_rf hf142) ?_
                  refine g_iconst hx hb dJ4_fixAfterInsertion_122 ?_
                  refine g_callS (As := [.ref q1, .int (iI 1)]) (rest := []) 2 hx hb hml hown hts hK hG hS hl.1 (mJ4_setColor l X σL tg mp n ad ps K Vv lL rL pL cL rtL es ks sz md hTHL (some q1) (fun a h => by cases h; exact hDq1) 1 (by omega)) q1219 q1220 q75 q1221 (by decide +kernel) rfl ⟨Nat.le_of_ble_eq_true rfl, Nat.le_of_ble_eq_true rfl⟩ ⟨Nat.le_of_ble_eq_true rfl, Nat.le_of_ble_eq_true rfl⟩ (Nat.le_of_ble_eq_true rfl) dJ4_fixAfterInsertion_123 (kV (fun σr143 H locs hp hG hS => ?_))
                  obtain ⟨hTH144, kp144⟩ := hp
                  have hkp144 := hkL.tr kp144
                  have hTH144 : TH σr143 tg mp (tIn n ad ps) K Vv lL rL pL (va_up cL q1 1) rtL es ks sz md := hTH144
                  obtain ⟨cc_144, ecc_144⟩ : ∃ z : Nat → Int, z = va_up cL q1 1 := ⟨_, rfl⟩
                  rw [← ecc_144] at hTH144
                  refine lv_aload_n hx hb dJ4_fixAfterInsertion_126 rfl (lv_at hl 2 rfl) ?_
                  refine g_callS (As := [.ref x9]) (rest := []) 1 hx hb hml hown hts hK hG hS hl.1 (mJ4_parentOf l X σr143 tg mp n ad ps K Vv lL rL pL cc_144 rtL es ks sz md hTH144 (some x9) (fun a h => by cases h; exact hDx9)) q1207 q1208 q75 q1209 (by decide +kernel) rfl ⟨Nat.le_of_ble_eq_true rfl, Nat.le_of_ble_eq_true rfl⟩ ⟨Nat.le_of_ble_eq_true rfl, Nat.le_of_ble_eq_true rfl⟩ (Nat.le_of_ble_eq_true rfl) dJ4_fixAfterInsertion_127 (kA (fun r145 σr145 H locs hp hG hS => ?_))
                  obtain ⟨rfl, rfl⟩ := hp
                  have hf146 : pL x9 = (some q1) := by rw [hq1]
                  refine g_rwv (v := .ref q1) (congrArg va_rf hf146) ?_
                  refine g_callS (As := [.ref q1]) (rest := []) 1 hx hb hml hown hts hK hG hS hl.1 (mJ4_parentOf l X σr143 tg mp n ad ps K Vv lL rL pL cc_144 rtL es ks sz md hTH144 (some q1) (fun a h => by cases h; exact hDq1)) q1207 q1208 q75 q1209 (by decide +kernel) rfl ⟨Nat.le_of_ble_eq_true rfl, Nat.le_of_ble_eq_true rfl⟩ ⟨Nat.le_of_ble_eq_true rfl, Nat.le_of_ble_eq_true rfl⟩ (Nat.le_of_ble_eq_true rfl) dJ4_fixAfterInsertion_130 (kA (fun r147 σr147 H locs hp hG hS => ?_))
                  obtain ⟨rfl, rfl⟩ := hp
                  have hf148 : pL q1 = (some z13) := by rw [ho14]
                  refine g_rwv (v := .ref z13) (congrArg va_rf hf148) ?_
                  refine g_iconst hx hb dJ4_fixAfterInsertion_133 ?_
                  refine g_callS (As := [.ref z13, .int (iI 0)]) (rest := []) 2 hx hb hml hown hts hK hG hS hl.1 (mJ4_setColor l X σr143 tg mp n ad ps K Vv lL rL pL cc_144 rtL es ks sz md hTH144 (some z13) (fun a h => by cases h; exact hD_z13) 0 (by omega)) q1219 q1220 q75 q1221 (by decide +kernel) rfl ⟨Nat.le_of_ble_eq_true rfl, Nat.le_of_ble_eq_true rfl⟩ ⟨Nat.le_of_ble_eq_true rfl, Nat.le_of_ble_eq_true rfl⟩ (Nat.le_of_ble_eq_true rfl) dJ4_fixAfterInsertion_134 (kV (fun σr149 H locs hp hG hS => ?_))
                  obtain ⟨hTH150, kp150⟩ := hp
                  have hkp150 := hkp144.tr kp150
                  have hTH150 : TH σr149 tg mp (tIn n ad ps) K Vv lL rL pL (va_up cc_144 z13 0) rtL es ks sz md := hTH150
                  obtain ⟨cc_150, ecc_150⟩ : ∃ z : Nat → Int, z = va_up cc_144 z13 0 := ⟨_, rfl⟩
                  rw [← ecc_150] at hTH150
                  refine lv_aload_n hx hb dJ4_fixAfterInsertion_137 rfl (lv_at hl 1 rfl) ?_
                  refine lv_aload_n hx hb dJ4_fixAfterInsertion_138 rfl (lv_at hl 2 rfl) ?_
                  refine g_callS (As := [.ref x9]) (rest := [.ref mp]) 1 hx hb hml hown hts hK hG hS hl.1 (mJ4_parentOf l X σr149 tg mp n ad ps K Vv lL rL pL cc_150 rtL es ks sz md hTH150 (some x9) (fun a h => by cases h; exact hDx9)) q1207 q1208 q75 q1209 (by decide +kernel) rfl ⟨Nat.le_of_ble_eq_true rfl, Nat.le_of_ble_eq_true rfl⟩ ⟨Nat.le_of_ble_eq_true rfl, Nat.le_of_ble_eq_true rfl⟩ (Nat.le_of_ble_eq_true rfl) dJ4_fixAfterInsertion_139 (kA (fun r151 σr151 H locs hp hG hS => ?_))
                  obtain ⟨rfl, rfl⟩ := hp
                  have hf152 : pL x9 = (some q1) := by rw [hq1]
                  refine g_rwv (v := .ref q1) (congrArg va_rf hf152) ?_
                  refine g_callS (As := [.ref q1]) (rest := [.ref mp]) 1 hx hb hml hown hts hK hG hS hl.1 (mJ4_parentOf l X σr149 tg mp n ad ps K Vv lL rL pL cc_150 rtL es ks sz md hTH150 (some q1) (fun a h => by cases h; exact hDq1)) q1207 q1208 q75 q1209 (by decide +kernel) rfl ⟨Nat.le_of_ble_eq_true rfl, Nat.le_of_ble_eq_true rfl⟩ ⟨Nat.le_of_ble_eq_true rfl, Nat.le_of_ble_eq_true rfl⟩ (Nat.le_of_ble_eq_true rfl) dJ4_fixAfterInsertion_142 (kA (fun r153 σr153 H locs hp hG hS => ?_))
                  obtain ⟨rfl, rfl⟩ := hp
                  have hf154 : pL q1 = (some z13) := by rw [ho14]
                  refine g_rwv (v := .ref z13) (congrArg va_rf hf154) ?_
                  have hchi : lL q1 = some x9 := hsd1.resolve_right (fun k => hq140 k.symm)
                  have hprv : pL x9 = some q1 := hq1
                  refine g_callV (As := [.ref z13]) (rest := []) 1 hx hb hml hown hts hK hG hS hl.1 (mJ4_rotateRight l X σr149 tg mp n ad ps K Vv lL rL pL cc_150 rtL es ks sz md hTH150 loL hiL hokL z13 q1 hD_z13 hq63.symm) hTH150.1 rfl q1226 q1228 qs34 q75 q1229 (by decide +kernel) rfl ⟨Nat.le_of_ble_eq_true rfl, Nat.le_of_ble_eq_true rfl⟩ ⟨Nat.le_of_ble_eq_true rfl, Nat.le_of_ble_eq_true rfl⟩ (Nat.le_of_ble_eq_true rfl) dJ4_fixAfterInsertion_145 (kV (fun σr155 H locs hp hG hS => ?_))
                  obtain ⟨l_156, r_156, p_156, rt_156, hTH156, kp156, hl_156, hr_156, hp_156, hrt_156⟩ := hp
                  have hkp156 := hkp150.tr kp156
                  have hok156 := hokL.rotR hD_z13 hq63.symm (hl := hl_156) (hr := hr_156) (hp := hp_156) (hrt := hrt_156)
                  obtain ⟨lo_156, elo_156⟩ : ∃ z, z = va_up (va_up loL q1 (loL z13)) z13 (ps q1 + 1) := ⟨_, rfl⟩
                  obtain ⟨hi_156, ehi_156⟩ : ∃ z, z = va_up hiL q1 (hiL z13) := ⟨_, rfl⟩
                  rw [← elo_156, ← ehi_156] at hok156
                  have hno : ¬ rL q1 = some x9 := fun k => by
                    have q5 := hokL.r1 hDq1 k
                    have q6 := hokL.l1 hDq1 hchi
                    have q7 := hokL.num hDx9
                    omega
                  have hpar : p_156 x9 = some q1 := by rw [hp_156 x9 hDx9, if_neg hxq, if_neg (Ne.symm hgx), if_neg hno]; exact hprv
                  refine lv_goto (tgt := 5) hx hb dJ4_fixAfterInsertion_148 (by decide) ?_
                  exact ih_5 σr155 l_156 r_156 p_156 cc_150 rt_156 lo_156 hi_156 x9 (f - 1) (by omega) (hTH156) (hok156) (hkp156) (hDx9) (Or.inl (fun q k => by rw [hpar] at k; have k2 := Option.some.inj k; rw [← k2, ecc_150, va_up_ne _ _ (Ne.symm hgq), ecc_144, va_up_self]))  _ _ _ hG hS (lv_sub hl [1, 2] rfl)
                · refine lv_aload_n hx hb dJ4_fixAfterInsertion_108 rfl (lv_at hl 2 rfl) ?_
                  refine g_callS (As := [.ref x9]) (rest := []) 1 hx hb hml hown hts hK hG hS hl.1 (mJ4_parentOf l X σL tg mp n ad ps K Vv lL rL pL cL rtL es ks sz md hTHL (some x9) (fun a h => by cases h; exact hDx9)) q1207 q1208 q75 q1209 (by decide +kernel) rfl ⟨Nat.le_of_ble_eq_true rfl, Nat.le_of_ble_eq_true rfl⟩ ⟨Nat.le_of_ble_eq_true rfl, Nat.le_of_ble_eq_true rfl⟩ (Nat.le_of_ble_eq_true rfl) dJ4_fixAfterInsertion_109 (kA (fun r157 σr157 H locs hp hG hS => ?_))
                  obtain ⟨rfl, rfl⟩ := hp
                  have hf158 : pL x9 = (some q1) := by rw [hq1]
                  refine g_rwv (v := .ref q1) (congrArg va_rf hf158) ?_
                  refine lv_astore_n (lv' := [(1, .ref q1), (2, va_rf (rL z13)), (0, .ref mp)]) hx hb dJ4_fixAfterInsertion_112 rfl hl (by decide) rfl (fun ls hl => ?_)
                  refine lv_aload_n hx hb dJ4_fixAfterInsertion_113 rfl (lv_at hl 2 rfl) ?_
                  refine lv_aload_n hx hb dJ4_fixAfterInsertion_114 rfl (lv_at hl 0 rfl) ?_
                  refine g_callV (As := [.ref q1]) (rest := []) 1 hx hb hml hown hts hK hG hS hl.1 (mJ4_rotateLeft l X σL tg mp n ad ps K Vv lL rL pL cL rtL es ks sz md hTHL loL hiL hokL q1 x9 hDq1 hq140.symm) hTHL.1 rfl q1222 q1224 qs33 q75 q1225 (by decide +kernel) rfl ⟨Nat.le_of_ble_eq_true rfl, Nat.le_of_ble_eq_true rfl⟩ ⟨Nat.le_of_ble_eq_true rfl, Nat.le_of_ble_eq_true rfl⟩ (Nat.le_of_ble_eq_true rfl) dJ4_fixAfterInsertion_115 (kV (fun σr159 H locs hp hG hS => ?_))
                  obtain ⟨l_160, r_160, p_160, rt_160, hTH160, kp160, hl_160, hr_160, hp_160, hrt_160⟩ := hp
                  have hkp160 := hkL.tr kp160
                  have hok160 := hokL.rotL hDq1 hq140.symm (hl := hl_160) (hr := hr_160) (hp := hp_160) (hrt := hrt_160)
                  obtain ⟨lo_160, elo_160⟩ : ∃ z, z = va_up loL x9 (loL q1) := ⟨_, rfl⟩
                  obtain ⟨hi_160, ehi_160⟩ : ∃ z, z = va_up (va_up hiL x9 (hiL q1)) q1 (ps x9) := ⟨_, rfl⟩
                  rw [← elo_160, ← ehi_160] at hok160
                  have hA : p_160 q1 = some x9 := by rw [hp_160 q1 hDq1, if_neg hxq.symm, if_pos rfl]
                  have hB : p_160 x9 = some z13 := by rw [hp_160 x9 hDx9, if_pos rfl]; exact ho14
                  have hCg : l_160 z13 = some x9 := by rw [hl_160 z13 hD_z13, if_neg hgx, if_pos hq63.symm]
                  refine lv_aload_n hx hb dJ4_fixAfterInsertion_118 rfl (lv_at hl 0 rfl) ?_
                  refine g_callS (As := [.ref q1]) (rest := []) 1 hx hb hml hown hts hK hG hS hl.1 (mJ4_parentOf l X σr159 tg mp n ad ps K Vv l_160 r_160 p_160 cL rt_160 es ks sz md hTH160 (some q1) (fun a h => by cases h; exact hDq1)) q1207 q1208 q75 q1209 (by decide +kernel) rfl ⟨Nat.le_of_ble_eq_true rfl, Nat.le_of_ble_eq_true rfl⟩ ⟨Nat.le_of_ble_eq_true rfl, Nat.le_of_ble_eq_true rfl⟩ (Nat.le_of_ble_eq_true rfl) dJ4_fixAfterInsertion_119 (kA (fun r161 σr161 H locs hp hG hS => ?_))
                  obtain ⟨rfl, rfl⟩ := hp
                  have hf162 : p_160 q1 = (some x9) := by rw [hA]
                  refine g_rwv (v := .ref x9) (congrArg va_rf hf162) ?_
                  refine g_iconst hx hb dJ4_fixAfterInsertion_122 ?_
                  refine g_callS (As := [.ref x9, .int (iI 1)]) (rest := []) 2 hx hb hml hown hts hK hG hS hl.1 (mJ4_setColor l X σr159 tg mp n ad ps K Vv l_160 r_160 p_160 cL rt_160 es ks sz md hTH160 (some x9) (fun a h => by cases h; exact hDx9) 1 (by omega)) q1219 q1220 q75 q1221 (by decide +kernel) rfl ⟨Nat.le_of_ble_eq_true rfl, Nat.le_of_ble_eq_true rfl⟩ ⟨Nat.le_of_ble_eq_true rfl, Nat.le_of_ble_eq_true rfl⟩ (Nat.le_of_ble_eq_true rfl) dJ4_fixAfterInsertion_123 (kV (fun σr163 H locs hp hG hS => ?_))
                  obtain ⟨hTH164, kp164⟩ := hp
                  have hkp164 := hkp160.tr kp164
                  have hTH164 : TH σr163 tg mp (tIn n ad ps) K Vv l_160 r_160 p_160 (va_up cL x9 1) rt_160 es ks sz md := hTH164
                  obtain ⟨cc_164, ecc_164⟩ : ∃ z : Nat → Int, z = va_up cL x9 1 := ⟨_, rfl⟩
                  rw [← ecc_164] at hTH164
                  refine lv_aload_n hx hb dJ4_fixAfterInsertion_126 rfl (lv_at hl 0 rfl) ?_
                  refine g_callS (As := [.ref q1]) (rest := []) 1 hx hb hml hown hts hK hG hS hl.1 (mJ4_parentOf l X σr163 tg mp n ad ps K Vv l_160 r_160 p_160 cc_164 rt_160 es ks sz md hTH164 (some q1) (fun a h => by cases h; exact hDq1)) q1207 q1208 q75 q1209 (by decide +kernel) rfl ⟨Nat.le_of_ble_eq_true rfl, Nat.le_of_ble_eq_true rfl⟩ ⟨Nat.le_of_ble_eq_true rfl, Nat.le_of_ble_eq_true rfl⟩ (Nat.le_of_ble_eq_true rfl) dJ4_fixAfterInsertion_127 (kA (fun r165 σr165 H locs hp hG hS => ?_))
                  obtain ⟨rfl, rfl⟩ := hp
                  have hf166 : p_160 q1 = (some x9) := by rw [hA]
                  refine g_rwv (v := .ref x9) (congrArg va_rf hf166) ?_
                  refine g_callS (As := [.ref x9]) (rest := []) 1 hx hb hml hown hts hK hG hS hl.1 (mJ4_parentOf l X σr163 tg mp n ad ps K Vv l_160 r_160 p_160 cc_164 rt_160 es ks sz md hTH164 (some x9) (fun a h => by cases h; exact hDx9)) q1207 q1208 q75 q1209 (by decide +kernel) rfl ⟨Nat.le_of_ble_eq_true rfl, Nat.le_of_ble_eq_true rfl⟩ ⟨Nat.le_of_ble_eq_true rfl, Nat.le_of_ble_eq_true rfl⟩ (Nat.le_of_ble_eq_true rfl) dJ4_fixAfterInsertion_130 (kA (fun r167 σr167 H locs hp hG hS => ?_))
                  obtain ⟨rfl, rfl⟩ := hp
                  have hf168 : p_160 x9 = (some z13) := by rw [hB]
                  refine g_rwv (v := .ref z13) (congrArg va_rf hf168) ?_
                  refine g_iconst hx hb dJ4_fixAfterInsertion_133 ?_
                  refine g_callS (As := [.ref z13, .int (iI 0)]) (rest := []) 2 hx hb hml hown hts hK hG hS hl.1 (mJ4_setColor l X σr163 tg mp n ad ps K Vv l_160 r_160 p_160 cc_164 rt_160 es ks sz md hTH164 (some z13) (fun a h => by cases h; exact hD_z13) 0 (by omega)) q1219 q1220 q75 q1221 (by decide +kernel) rfl ⟨Nat.le_of_ble_eq_true rfl, Nat.le_of_ble_eq_true rfl⟩ ⟨Nat.le_of_ble_eq_true rfl, Nat.le_of_ble_eq_true rfl⟩ (Nat.le_of_ble_eq_true rfl) dJ4_fixAfterInsertion_134 (kV (fun σr169 H locs hp hG hS => ?_))
                  obtain ⟨hTH170, kp170⟩ := hp
                  have hkp170 := hkp164.tr kp170
                  have hTH170 : TH σr169 tg mp (tIn n ad ps) K Vv l_160 r_160 p_160 (va_up cc_164 z13 0) rt_160 es ks sz md := hTH170
                  obtain ⟨cc_170, ecc_170⟩ : ∃ z : Nat → Int, z = va_up cc_164 z13 0 := ⟨_, rfl⟩
                  rw [← ecc_170] at hTH170
                  refine lv_aload_n hx hb dJ4_fixAfterInsertion_137 rfl (lv_at hl 2 rfl) ?_
                  refine lv_aload_n hx hb dJ4_fixAfterInsertion_138 rfl (lv_at hl 0 rfl) ?_
                  refine g_callS (As := [.ref q1]) (rest := [.ref mp]) 1 hx hb hml hown hts hK hG hS hl.1 (mJ4_parentOf l X σr169 tg mp n ad ps K Vv l_160 r_160 p_160 cc_170 rt_160 es ks sz md hTH170 (some q1) (fun a h => by cases h; exact hDq1)) q1207 q1208 q75 q1209 (by decide +kernel) rfl ⟨Nat.le_of_ble_eq_true rfl, Nat.le_of_ble_eq_true rfl⟩ ⟨Nat.le_of_ble_eq_true rfl, Nat.le_of_ble_eq_true rfl⟩ (Nat.le_of_ble_eq_true rfl) dJ4_fixAfterInsertion_139 (kA (fun r171 σr171 H locs hp hG hS => ?_))
                  obtain ⟨rfl, rfl⟩ := hp
                  have hf172 : p_160 q1 = (some x9) := by rw [hA]
                  refine g_rwv (v := .ref x9) (congrArg va_rf hf172) ?_
                  refine g_callS (As := [.ref x9]) (rest := [.ref mp]) 1 hx hb hml hown hts hK hG hS hl.1 (mJ4_parentOf l X σr169 tg mp n ad ps K Vv l_160 r_160 p_160 cc_170 rt_160 es ks sz md hTH170 (some x9) (fun a h => by cases h; exact hDx9)) q1207 q1208 q75 q1209 (by decide +kernel) rfl ⟨Nat.le_of_ble_eq_true rfl, Nat.le_of_ble_eq_true rfl⟩ ⟨Nat.le_of_ble_eq_true rfl, Nat.le_of_ble_eq_true rfl⟩ (Nat.le_of_ble_eq_true rfl) dJ4_fixAfterInsertion_142 (kA (fun r173 σr173 H locs hp hG hS => ?_))
                  obtain ⟨rfl, rfl⟩ := hp
                  have hf174 : p_160 x9 = (some z13) := by rw [hB]
                  refine g_rwv (v := .ref z13) (congrArg va_rf hf174) ?_
                  have hchi : l_160 x9 = some q1 := by rw [hl_160 x9 hDx9, if_pos rfl]
                  have hprv : p_160 q1 = some x9 := hA
                  refine g_callV (As := [.ref z13]) (rest := []) 1 hx hb hml hown hts hK hG hS hl.1 (mJ4_rotateRight l X σr169 tg mp n ad ps K Vv l_160 r_160 p_160 cc_170 rt_160 es ks sz md hTH170 lo_160 hi_160 hok160 z13 x9 hD_z13 hCg) hTH170.1 rfl q1226 q1228 qs34 q75 q1229 (by decide +kernel) rfl ⟨Nat.le_of_ble_eq_true rfl, Nat.le_of_ble_eq_true rfl⟩ ⟨Nat.le_of_ble_eq_true rfl, Nat.le_of_ble_eq_true rfl⟩ (Nat.le_of_ble_eq_true rfl) dJ4_fixAfterInsertion_145 (kV (fun σr175 H locs hp hG hS => ?_))
                  obtain ⟨l_176, r_176, p_176, rt_176, hTH176, kp176, hl_176, hr_176, hp_176, hrt_176⟩ := hp
                  have hkp176 := hkp170.tr kp176
                  have hok176 := hok160.rotR hD_z13 hCg (hl := hl_176) (hr := hr_176) (hp := hp_176) (hrt := hrt_176)
                  obtain ⟨lo_176, elo_176⟩ : ∃ z, z = va_up (va_up lo_160 x9 (lo_160 z13)) z13 (ps x9 + 1) := ⟨_, rfl⟩
                  obtain ⟨hi_176, ehi_176⟩ : ∃ z, z = va_up hi_160 x9 (hi_160 z13) := ⟨_, rfl⟩
                  rw [← elo_176, ← ehi_176] at hok176
                  have hno : ¬ r_160 x9 = some q1 := fun k => by
                    have q5 := hok160.r1 hDx9 k
                    have q6 := hok160.l1 hDx9 hchi
                    have q7 := hok160.num hDq1
                    omega
                  have hpar : p_176 q1 = some x9 := by rw [hp_176 q1 hDq1, if_neg (Ne.symm hxq), if_neg (Ne.symm hgq), if_neg hno]; exact hprv
                  refine lv_goto (tgt := 5) hx hb dJ4_fixAfterInsertion_148 (by decide) ?_
                  exact ih_5 σr175 l_176 r_176 p_176 cc_170 rt_176 lo_176 hi_176 q1 (f - 1) (by omega) (hTH176) (hok176) (hkp176) (hDq1) (Or.inl (fun q k => by rw [hpar] at k; have k2 := Option.some.inj k; rw [← k2, ecc_170, va_up_ne _ _ (Ne.symm hgx), ecc_164, va_up_self]))  _ _ _ hG hS (lv_sub hl [2, 0] rfl)
              · obtain ⟨y177, hy177⟩ := cO_some (C := cL) (o := rL z13) (by omega)
                have hD_y177 := (hokL.r1 hD_z13 hy177).1
                have hl : lv_has ls 3 [(2, .ref y177), (0, .ref mp), (1, .ref x9)] := by first | exact hl | (rw [hy177] at hl; exact hl)
                refine lv_aload_n hx hb dJ4_fixAfterInsertion_62 rfl (lv_at hl 2 rfl) ?_
                refine g_callS (As := [.ref x9]) (rest := []) 1 hx hb hml hown hts hK hG hS hl.1 (mJ4_parentOf l X σL tg mp n ad ps K Vv lL rL pL cL rtL es ks sz md hTHL (some x9) (fun a h => by cases h; exact hDx9)) q1207 q1208 q75 q1209 (by decide +kernel) rfl ⟨Nat.le_of_ble_eq_true rfl, Nat.le_of_ble_eq_true rfl⟩ ⟨Nat.le_of_ble_eq_true rfl, Nat.le_of_ble_eq_true rfl⟩ (Nat.le_of_ble_eq_true rfl) dJ4_fixAfterInsertion_63 (kA (fun r178 σr178 H locs hp hG hS => ?_))
                obtain ⟨rfl, rfl⟩ := hp
                have hf179 : pL x9 = (some q1) := by rw [hq1]
                refine g_rwv (v := .ref q1) (congrArg va_rf hf179) ?_
                refine g_iconst hx hb dJ4_fixAfterInsertion_66 ?_
                refine g_callS (As := [.ref q1, .int (iI 1)]) (rest := []) 2 hx hb hml hown hts hK hG hS hl.1 (mJ4_setColor l X σL tg mp n ad ps K Vv lL rL pL cL rtL es ks sz md hTHL (some q1) (fun a h => by cases h; exact hDq1) 1 (by omega)) q1219 q1220 q75 q1221 (by decide +kernel) rfl ⟨Nat.le_of_ble_eq_true rfl, Nat.le_of_ble_eq_true rfl⟩ ⟨Nat.le_of_ble_eq_true rfl, Nat.le_of_ble_eq_true rfl⟩ (Nat.le_of_ble_eq_true rfl) dJ4_fixAfterInsertion_67 (kV (fun σr180 H locs hp hG hS => ?_))
                obtain ⟨hTH181, kp181⟩ := hp
                have hkp181 := hkL.tr kp181
                have hTH181 : TH σr180 tg mp (tIn n ad ps) K Vv lL rL pL (va_up cL q1 1) rtL es ks sz md := hTH181
                obtain ⟨cc_181, ecc_181⟩ : ∃ z : Nat → Int, z = va_up cL q1 1 := ⟨_, rfl⟩
                rw [← ecc_181] at hTH181
                refine lv_aload_n hx hb dJ4_fixAfterInsertion_70 rfl (lv_at hl 0 rfl) ?_
                refine g_iconst hx hb dJ4_fixAfterInsertion_71 ?_
                refine g_callS (As := [.ref y177, .int (iI 1)]) (rest := []) 2 hx hb hml hown hts hK hG hS hl.1 (mJ4_setColor l X σr180 tg mp n ad ps K Vv lL rL pL cc_181 rtL es ks sz md hTH181 (some y177) (fun a h => by cases h; exact hD_y177) 1 (by omega)) q1219 q1220 q75 q1221 (by decide +kernel) rfl ⟨Nat.le_of_ble_eq_true rfl, Nat.le_of_ble_eq_true rfl⟩ ⟨Nat.le_of_ble_eq_true rfl, Nat.le_of_ble_eq_true rfl⟩ (Nat.le_of_ble_eq_true rfl) dJ4_fixAfterInsertion_72 (kV (fun σr182 H locs hp hG hS => ?_))
                obtain ⟨hTH183, kp183⟩ := hp
                have hkp183 := hkp181.tr kp183
                have hTH183 : TH σr182 tg mp (tIn n ad ps) K Vv lL rL pL (va_up cc_181 y177 1) rtL es ks sz md := hTH183
                obtain ⟨cc_183, ecc_183⟩ : ∃ z : Nat → Int, z = va_up cc_181 y177 1 := ⟨_, rfl⟩
                rw [← ecc_183] at hTH183
                refine lv_aload_n hx hb dJ4_fixAfterInsertion_75 rfl (lv_at hl 2 rfl) ?_
                refine g_callS (As := [.ref x9]) (rest := []) 1 hx hb hml hown hts hK hG hS hl.1 (mJ4_parentOf l X σr182 tg mp n ad ps K Vv lL rL pL cc_183 rtL es ks sz md hTH183 (some x9) (fun a h => by cases h; exact hDx9)) q1207 q1208 q75 q1209 (by decide +kernel) rfl ⟨Nat.le_of_ble_eq_true rfl, Nat.le_of_ble_eq_true rfl⟩ ⟨Nat.le_of_ble_eq_true rfl, Nat.le_of_ble_eq_true rfl⟩ (Nat.le_of_ble_eq_true rfl) dJ4_fixAfterInsertion_76 (kA (fun r184 σr184 H locs hp hG hS => ?_))
                obtain ⟨rfl, rfl⟩ := hp
                have hf185 : pL x9 = (some q1) := by rw [hq1]
                refine g_rwv (v := .ref q1) (congrArg va_rf hf185) ?_
                refine g_callS (As := [.ref q1]) (rest := []) 1 hx hb hml hown hts hK hG hS hl.1 (mJ4_parentOf l X σr182 tg mp n ad ps K Vv lL rL pL cc_183 rtL es ks sz md hTH183 (some q1) (fun a h => by cases h; exact hDq1)) q1207 q1208 q75 q1209 (by decide +kernel) rfl ⟨Nat.le_of_ble_eq_true rfl, Nat.le_of_ble_eq_true rfl⟩ ⟨Nat.le_of_ble_eq_true rfl, Nat.le_of_ble_eq_true rfl⟩ (Nat.le_of_ble_eq_true rfl) dJ4_fixAfterInsertion_79 (kA (fun r186 σr186 H locs hp hG hS => ?_))
                obtain ⟨rfl, rfl⟩ := hp
                have hf187 : pL q1 = (some z13) := by rw [ho14]
                refine g_rwv (v := .ref z13) (congrArg va_rf hf187) ?_
                refine g_iconst hx hb dJ4_fixAfterInsertion_82 ?_
                refine g_callS (As := [.ref z13, .int (iI 0)]) (rest := []) 2 hx hb hml hown hts hK hG hS hl.1 (mJ4_setColor l X σr182 tg mp n ad ps K Vv lL rL pL cc_183 rtL es ks sz md hTH183 (some z13) (fun a h => by cases h; exact hD_z13) 0 (by omega)) q1219 q1220 q75 q1221 (by decide +kernel) rfl ⟨Nat.le_of_ble_eq_true rfl, Nat.le_of_ble_eq_true rfl⟩ ⟨Nat.le_of_ble_eq_true rfl, Nat.le_of_ble_eq_true rfl⟩ (Nat.le_of_ble_eq_true rfl) dJ4_fixAfterInsertion_83 (kV (fun σr188 H locs hp hG hS => ?_))
                obtain ⟨hTH189, kp189⟩ := hp
                have hkp189 := hkp183.tr kp189
                have hTH189 : TH σr188 tg mp (tIn n ad ps) K Vv lL rL pL (va_up cc_183 z13 0) rtL es ks sz md := hTH189
                obtain ⟨cc_189, ecc_189⟩ : ∃ z : Nat → Int, z = va_up cc_183 z13 0 := ⟨_, rfl⟩
                rw [← ecc_189] at hTH189
                refine lv_aload_n hx hb dJ4_fixAfterInsertion_86 rfl (lv_at hl 2 rfl) ?_
                refine g_callS (As := [.ref x9]) (rest := []) 1 hx hb hml hown hts hK hG hS hl.1 (mJ4_parentOf l X σr188 tg mp n ad ps K Vv lL rL pL cc_189 rtL es ks sz md hTH189 (some x9) (fun a h => by cases h; exact hDx9)) q1207 q1208 q75 q1209 (by decide +kernel) rfl ⟨Nat.le_of_ble_eq_true rfl, Nat.le_of_ble_eq_true rfl⟩ ⟨Nat.le_of_ble_eq_true rfl, Nat.le_of_ble_eq_true rfl⟩ (Nat.le_of_ble_eq_true rfl) dJ4_fixAfterInsertion_87 (kA (fun r190 σr190 H locs hp hG hS => ?_))
                obtain ⟨rfl, rfl⟩ := hp
                have hf191 : pL x9 = (some q1) := by rw [hq1]
                refine g_rwv (v := .ref q1) (congrArg va_rf hf191) ?_
                refine g_callS (As := [.ref q1]) (rest := []) 1 hx hb hml hown hts hK hG hS hl.1 (mJ4_parentOf l X σr188 tg mp n ad ps K Vv lL rL pL cc_189 rtL es ks sz md hTH189 (some q1) (fun a h => by cases h; exact hDq1)) q1207 q1208 q75 q1209 (by decide +kernel) rfl ⟨Nat.le_of_ble_eq_true rfl, Nat.le_of_ble_eq_true rfl⟩ ⟨Nat.le_of_ble_eq_true rfl, Nat.le_of_ble_eq_true rfl⟩ (Nat.le_of_ble_eq_true rfl) dJ4_fixAfterInsertion_90 (kA (fun r192 σr192 H locs hp hG hS => ?_))
                obtain ⟨rfl, rfl⟩ := hp
                have hf193 : pL q1 = (some z13) := by rw [ho14]
                refine g_rwv (v := .ref z13) (congrArg va_rf hf193) ?_
                refine lv_astore_n (lv' := [(1, .ref z13), (2, .ref y177), (0, .ref mp)]) hx hb dJ4_fixAfterInsertion_93 rfl hl (by decide) rfl (fun ls hl => ?_)
                refine lv_goto (tgt := 148) hx hb dJ4_fixAfterInsertion_94 (by decide) ?_
                refine lv_goto (tgt := 5) hx hb dJ4_fixAfterInsertion_148 (by decide) ?_
                exact ih_5 σr188 lL rL pL cc_189 rtL loL hiL z13 (f - 1) (by omega) (hTH189) (hokL) (hkp189) (hD_z13) (Or.inr (by omega))  _ _ _ hG hS (lv_sub hl [2, 0] rfl)
  exact loop_5 _ σ1 l_ r_ p_ cc_1 rt lo hi x0 (n + 1) (Nat.lt_succ_self _) (hTH1) (hok) (hkp1) (hDx) (Or.inr (by have := hok.num hDx; omega))  _ _ _ hG hS (lv_sub hl [0, 1] rfl)

