set_option maxHeartbeats 32000000 in
theorem mJ4_fixAfterDeletion (l : Launch) (X : gX) (σ : gS) (tg mp n : Nat) (ad ps : Nat → Nat) (K : Nat → Nat) (Vv l_ r_ p_ : Nat → Option Nat) (C : Nat → Int) (rt es ks : Option Nat) (sz md : Int) (hTH : TH σ tg mp (tIn n ad ps) K Vv l_ r_ p_ C rt es ks sz md) (lo hi : Nat → Nat) (hok : tOk n ad ps l_ r_ p_ lo hi rt) (S : Nat → Prop) (x0 : Nat) (hDx : tIn n ad ps x0) (hlf0 : ∀ z, S z → l_ z = none ∧ r_ z = none ∧ tIn n ad ps z ∧ lo x0 ≤ ps z ∧ ps z < hi x0) : gMet l X yJ4_fixAfterDeletion cJ4_fixAfterDeletion 3 none 1 0 0 22 σ [.ref mp, .ref x0] (oV (fun σ' => ∃ (l2 r2 p2 : Nat → Option Nat) (C2 : Nat → Int) (rt2 : Option Nat) (lo2 hi2 : Nat → Nat), TH σ' tg mp (tIn n ad ps) K Vv l2 r2 p2 C2 rt2 es ks sz md ∧ tOk n ad ps l2 r2 p2 lo2 hi2 rt2 ∧ gKeep (fun t => t = tg) σ σ' ∧ ∀ z, S z → l2 z = none ∧ r2 z = none)) := by
  refine gMet.of (by decide) (Nat.le_of_ble_eq_true rfl) ?_
  intro pp ee ss mm args below meth cd Q H locs ls hargs hx hb hr hlocks hml hown hnm hts hK hG hS hQ hl
  have hown : ss.vm.findClass RJ4 = some mm.cls := hown
  have hl : lv_has ls 3 [(0, .ref mp), (1, .ref x0)] := hl
  have hkp : gKeep (fun t => t = tg) σ σ := gKeep.rf
  have loop_0 : ∀ (nF : Nat) (σL : gS) (lL : Nat → Option Nat) (rL : Nat → Option Nat) (pL : Nat → Option Nat) (cL : Nat → Int) (rtL : Option Nat) (loL : Nat → Nat) (hiL : Nat → Nat) (x9 : Nat) (f : Nat), (f : Nat) < nF → (TH σL tg mp (tIn n ad ps) K Vv lL rL pL cL rtL es ks sz md) → (tOk n ad ps lL rL pL loL hiL rtL) → (gKeep (fun t => t = tg) σ σL) → (tIn n ad ps x9) → (cL x9 = 0 ∨ rtL = some x9 ∨ n + loL x9 < f + hiL x9) → (∀ z, S z → lL z = none ∧ rL z = none ∧ tIn n ad ps z ∧ loL x9 ≤ ps z ∧ ps z < hiL x9) → ∀ (H : Heap) (locs : List Loc) (ls : Array Slot), gSat X σL H → va_S (gA X) ss.heap H locs → lv_has ls 3 [(0, .ref mp), (1, .ref x9)] → W pp l ee (gR 1 0 0 22) ss mm args below meth cd H locs 0 0 Q (F0 mm 0 ls []) := by
    intro nF
    induction nF with
    | zero => intro σL lL rL pL cL rtL loL hiL x9 f hm; exact absurd hm (Nat.not_lt_zero _)
    | succ nF ih_0 =>
      intro σL lL rL pL cL rtL loL hiL x9 f hm hTHL hokL hkL hDx9 hfu hlf H locs ls hG hS hl
      refine lv_aload_n hx hb dJ4_fixAfterDeletion_0 rfl (lv_at hl 1 rfl) ?_
      refine lv_aload_n hx hb dJ4_fixAfterDeletion_1 rfl (lv_at hl 0 rfl) ?_
      refine g_get (C := RJ4) (T := TJ4) (N := 9) (v := va_rf rtL) hx hb hts hown hK hG hTHL.1 rfl in_J4 3 (by decide) q146 rfl rfl dJ4_fixAfterDeletion_2 ?_
      refine lv_acmp_eq (tgt := 345) (rx := (some x9)) (ry := rtL) hx hb dJ4_fixAfterDeletion_5 (by decide) (fun hq1 => ?_) (fun hq1 => ?_)
      · refine lv_aload_n hx hb dJ4_fixAfterDeletion_345 rfl (lv_at hl 1 rfl) ?_
        refine g_iconst hx hb dJ4_fixAfterDeletion_346 ?_
        refine g_callS (As := [.ref x9, .int (iI 1)]) (rest := []) 2 hx hb hml hown hts hK hG hS hl.1 (mJ4_setColor l X σL tg mp n ad ps K Vv lL rL pL cL rtL es ks sz md hTHL (some x9) (fun a h => by cases h; exact hDx9) 1 (by omega)) q1219 q1220 q75 q1221 (by decide +kernel) rfl ⟨Nat.le_of_ble_eq_true rfl, Nat.le_of_ble_eq_true rfl⟩ ⟨Nat.le_of_ble_eq_true rfl, Nat.le_of_ble_eq_true rfl⟩ (Nat.le_of_ble_eq_true rfl) dJ4_fixAfterDeletion_347 (kV (fun σr2 H locs hp hG hS => ?_))
        obtain ⟨hTH3, kp3⟩ := hp
        have hkp3 := hkL.tr kp3
        have hTH3 : TH σr2 tg mp (tIn n ad ps) K Vv lL rL pL (va_up cL x9 1) rtL es ks sz md := hTH3
        obtain ⟨cc_3, ecc_3⟩ : ∃ z : Nat → Int, z = va_up cL x9 1 := ⟨_, rfl⟩
        rw [← ecc_3] at hTH3
        exact g_vret hx hb hr hlocks hQ hG hS (Nat.zero_le _) (Nat.zero_le _) ⟨rfl, lL, rL, pL, cc_3, rtL, loL, hiL, hTH3, hokL, hkp3, fun z hz => ⟨(hlf z hz).1, (hlf z hz).2.1⟩⟩ dJ4_fixAfterDeletion_350
      · obtain ⟨q1, hqP, hDq1, hsd1⟩ := hokL.par hDx9 hq1
        have hup1 := hokL.up hDx9 hqP
        have hnx := hokL.num hDx9
        have hnq := hokL.num hDq1
        have hxq : x9 ≠ q1 := fun e => by rw [← e] at hup1; omega
        refine lv_aload_n hx hb dJ4_fixAfterDeletion_8 rfl (lv_at hl 1 rfl) ?_
        refine g_callS (As := [.ref x9]) (rest := []) 1 hx hb hml hown hts hK hG hS hl.1 (mJ4_colorOf l X σL tg mp n ad ps K Vv lL rL pL cL rtL es ks sz md hTHL (some x9) (fun a h => by cases h; exact hDx9)) q1216 q1217 q75 q1218 (by decide +kernel) rfl ⟨Nat.le_of_ble_eq_true rfl, Nat.le_of_ble_eq_true rfl⟩ ⟨Nat.le_of_ble_eq_true rfl, Nat.le_of_ble_eq_true rfl⟩ (Nat.le_of_ble_eq_true rfl) dJ4_fixAfterDeletion_9 (kI (fun r4 σr4 H locs hp hG hS => ?_))
        obtain ⟨hr4, rfl⟩ := hp
        refine g_rw (b := (cL x9)) (hr4) ?_
        have hc5 := hTHL.2.2 _ hDx9
        refine g_iconst hx hb dJ4_fixAfterDeletion_12 ?_
        refine g_icmp_ne (tgt := 345) hx hb dJ4_fixAfterDeletion_13 (by decide) (by omega) (by omega) (fun cq6 => ?_) (fun cq6 => ?_)
        · refine lv_aload_n hx hb dJ4_fixAfterDeletion_345 rfl (lv_at hl 1 rfl) ?_
          refine g_iconst hx hb dJ4_fixAfterDeletion_346 ?_
          refine g_callS (As := [.ref x9, .int (iI 1)]) (rest := []) 2 hx hb hml hown hts hK hG hS hl.1 (mJ4_setColor l X σL tg mp n ad ps K Vv lL rL pL cL rtL es ks sz md hTHL (some x9) (fun a h => by cases h; exact hDx9) 1 (by omega)) q1219 q1220 q75 q1221 (by decide +kernel) rfl ⟨Nat.le_of_ble_eq_true rfl, Nat.le_of_ble_eq_true rfl⟩ ⟨Nat.le_of_ble_eq_true rfl, Nat.le_of_ble_eq_true rfl⟩ (Nat.le_of_ble_eq_true rfl) dJ4_fixAfterDeletion_347 (kV (fun σr7 H locs hp hG hS => ?_))
          obtain ⟨hTH8, kp8⟩ := hp
          have hkp8 := hkL.tr kp8
          have hTH8 : TH σr7 tg mp (tIn n ad ps) K Vv lL rL pL (va_up cL x9 1) rtL es ks sz md := hTH8
          obtain ⟨cc_8, ecc_8⟩ : ∃ z : Nat → Int, z = va_up cL x9 1 := ⟨_, rfl⟩
          rw [← ecc_8] at hTH8
          exact g_vret hx hb hr hlocks hQ hG hS (Nat.zero_le _) (Nat.zero_le _) ⟨rfl, lL, rL, pL, cc_8, rtL, loL, hiL, hTH8, hokL, hkp8, fun z hz => ⟨(hlf z hz).1, (hlf z hz).2.1⟩⟩ dJ4_fixAfterDeletion_350
        · have hfu2 : n + loL x9 < f + hiL x9 := by
            rcases hfu with k | k | k
            · omega
            · exact absurd k.symm hq1
            · exact k
          refine lv_aload_n hx hb dJ4_fixAfterDeletion_16 rfl (lv_at hl 1 rfl) ?_
          refine lv_aload_n hx hb dJ4_fixAfterDeletion_17 rfl (lv_at hl 1 rfl) ?_
          refine g_callS (As := [.ref x9]) (rest := [.ref x9]) 1 hx hb hml hown hts hK hG hS hl.1 (mJ4_parentOf l X σL tg mp n ad ps K Vv lL rL pL cL rtL es ks sz md hTHL (some x9) (fun a h => by cases h; exact hDx9)) q1207 q1208 q75 q1209 (by decide +kernel) rfl ⟨Nat.le_of_ble_eq_true rfl, Nat.le_of_ble_eq_true rfl⟩ ⟨Nat.le_of_ble_eq_true rfl, Nat.le_of_ble_eq_true rfl⟩ (Nat.le_of_ble_eq_true rfl) dJ4_fixAfterDeletion_18 (kA (fun r9 σr9 H locs hp hG hS => ?_))
          obtain ⟨rfl, rfl⟩ := hp
          have hf10 : pL x9 = (some q1) := by rw [hqP]
          refine g_rwv (v := .ref q1) (congrArg va_rf hf10) ?_
          refine g_callS (As := [.ref q1]) (rest := [.ref x9]) 1 hx hb hml hown hts hK hG hS hl.1 (mJ4_leftOf l X σL tg mp n ad ps K Vv lL rL pL cL rtL es ks sz md hTHL (some q1) (fun a h => by cases h; exact hDq1)) q1210 q1211 q75 q1212 (by decide +kernel) rfl ⟨Nat.le_of_ble_eq_true rfl, Nat.le_of_ble_eq_true rfl⟩ ⟨Nat.le_of_ble_eq_true rfl, Nat.le_of_ble_eq_true rfl⟩ (Nat.le_of_ble_eq_true rfl) dJ4_fixAfterDeletion_21 (kA (fun r11 σr11 H locs hp hG hS => ?_))
          obtain ⟨rfl, rfl⟩ := hp
          refine g_rwv (v := va_rf (lL q1)) rfl ?_
          refine lv_acmp_ne (tgt := 186) (rx := (some x9)) (ry := (lL q1)) hx hb dJ4_fixAfterDeletion_24 (by decide) (fun hq12 => ?_) (fun hq12 => ?_)
          · have hch : rL q1 = some x9 := hsd1.resolve_left (fun k => hq12 k.symm)
            have hx1 := hokL.r1 hDq1 hch
            refine lv_aload_n hx hb dJ4_fixAfterDeletion_186 rfl (lv_at hl 1 rfl) ?_
            refine g_callS (As := [.ref x9]) (rest := []) 1 hx hb hml hown hts hK hG hS hl.1 (mJ4_parentOf l X σL tg mp n ad ps K Vv lL rL pL cL rtL es ks sz md hTHL (some x9) (fun a h => by cases h; exact hDx9)) q1207 q1208 q75 q1209 (by decide +kernel) rfl ⟨Nat.le_of_ble_eq_true rfl, Nat.le_of_ble_eq_true rfl⟩ ⟨Nat.le_of_ble_eq_true rfl, Nat.le_of_ble_eq_true rfl⟩ (Nat.le_of_ble_eq_true rfl) dJ4_fixAfterDeletion_187 (kA (fun r13 σr13 H locs hp hG hS => ?_))
            obtain ⟨rfl, rfl⟩ := hp
            have hf14 : pL x9 = (some q1) := by rw [hqP]
            refine g_rwv (v := .ref q1) (congrArg va_rf hf14) ?_
            refine g_callS (As := [.ref q1]) (rest := []) 1 hx hb hml hown hts hK hG hS hl.1 (mJ4_leftOf l X σL tg mp n ad ps K Vv lL rL pL cL rtL es ks sz md hTHL (some q1) (fun a h => by cases h; exact hDq1)) q1210 q1211 q75 q1212 (by decide +kernel) rfl ⟨Nat.le_of_ble_eq_true rfl, Nat.le_of_ble_eq_true rfl⟩ ⟨Nat.le_of_ble_eq_true rfl, Nat.le_of_ble_eq_true rfl⟩ (Nat.le_of_ble_eq_true rfl) dJ4_fixAfterDeletion_190 (kA (fun r15 σr15 H locs hp hG hS => ?_))
            obtain ⟨rfl, rfl⟩ := hp
            refine g_rwv (v := va_rf (lL q1)) rfl ?_
            refine g_astore_nR (lv' := [(2, va_rf (lL q1)), (0, .ref mp), (1, .ref x9)]) hx hb dJ4_fixAfterDeletion_193 rfl hl (by decide) rfl (fun ls hl => ?_)
            refine g_aload_nR hx hb dJ4_fixAfterDeletion_194 rfl (lv_at hl 0 rfl) ?_
            refine g_callS (As := [va_rf (lL q1)]) (rest := []) 1 hx hb hml hown hts hK hG hS hl.1 (mJ4_colorOf l X σL tg mp n ad ps K Vv lL rL pL cL rtL es ks sz md hTHL (lL q1) (fun a h => (hokL.l1 hDq1 h).1)) q1216 q1217 q75 q1218 (by decide +kernel) rfl ⟨Nat.le_of_ble_eq_true rfl, Nat.le_of_ble_eq_true rfl⟩ ⟨Nat.le_of_ble_eq_true rfl, Nat.le_of_ble_eq_true rfl⟩ (Nat.le_of_ble_eq_true rfl) dJ4_fixAfterDeletion_195 (kI (fun r16 σr16 H locs hp hG hS => ?_))
            obtain ⟨hr16, rfl⟩ := hp
            refine g_rw (b := (cO cL (lL q1))) hr16 ?_
            have hc17 : (cO cL (lL q1)) = 0 ∨ (cO cL (lL q1)) = 1 := cO_r (fun a h => hTHL.2.2 _ ((fun a h => (hokL.l1 hDq1 h).1) a h))
            refine g_if_ne (tgt := 230) hx hb dJ4_fixAfterDeletion_198 (by decide) (by omega) (fun cq18 => ?_) (fun cq18 => ?_)
            · refine g_aload_nR hx hb dJ4_fixAfterDeletion_230 rfl (lv_at hl 0 rfl) ?_
              refine g_callS (As := [va_rf (lL q1)]) (rest := []) 1 hx hb hml hown hts hK hG hS hl.1 (mJ4_rightOf l X σL tg mp n ad ps K Vv lL rL pL cL rtL es ks sz md hTHL (lL q1) (fun a h => (hokL.l1 hDq1 h).1)) q1213 q1214 q75 q1215 (by decide +kernel) rfl ⟨Nat.le_of_ble_eq_true rfl, Nat.le_of_ble_eq_true rfl⟩ ⟨Nat.le_of_ble_eq_true rfl, Nat.le_of_ble_eq_true rfl⟩ (Nat.le_of_ble_eq_true rfl) dJ4_fixAfterDeletion_231 (kA (fun r19 σr19 H locs hp hG hS => ?_))
              obtain ⟨rfl, rfl⟩ := hp
              refine g_callS (As := [va_rf ((lL q1).bind rL)]) (rest := []) 1 hx hb hml hown hts hK hG hS hl.1 (mJ4_colorOf l X σL tg mp n ad ps K Vv lL rL pL cL rtL es ks sz md hTHL ((lL q1).bind rL) (fun a h => by obtain ⟨z, h1, h2⟩ := Option.bind_eq_some_iff.mp h; exact (hokL.r1 ((fun a h => (hokL.l1 hDq1 h).1) z h1) h2).1)) q1216 q1217 q75 q1218 (by decide +kernel) rfl ⟨Nat.le_of_ble_eq_true rfl, Nat.le_of_ble_eq_true rfl⟩ ⟨Nat.le_of_ble_eq_true rfl, Nat.le_of_ble_eq_true rfl⟩ (Nat.le_of_ble_eq_true rfl) dJ4_fixAfterDeletion_234 (kI (fun r20 σr20 H locs hp hG hS => ?_))
              obtain ⟨hr20, rfl⟩ := hp
              refine g_rw (b := (cO cL ((lL q1).bind rL))) hr20 ?_
              have hc21 : (cO cL ((lL q1).bind rL)) = 0 ∨ (cO cL ((lL q1).bind rL)) = 1 := cO_r (fun a h => hTHL.2.2 _ ((fun a h => by obtain ⟨z, h1, h2⟩ := Option.bind_eq_some_iff.mp h; exact (hokL.r1 ((fun a h => (hokL.l1 hDq1 h).1) z h1) h2).1) a h))
              refine g_iconst hx hb dJ4_fixAfterDeletion_237 ?_
              refine g_icmp_ne (tgt := 265) hx hb dJ4_fixAfterDeletion_238 (by decide) (by omega) (by omega) (fun cq22 => ?_) (fun cq22 => ?_)
              · obtain ⟨c23, hc23⟩ := cO_some (C := cL) (o := ((lL q1).bind rL)) (by omega)
                obtain ⟨s24, hs24, gc23⟩ := Option.bind_eq_some_iff.mp hc23
                have nbc23 : ¬ cL c23 = 1 := by
                  intro k
                  have q5 : cO cL ((lL q1).bind rL) = 1 := by rw [hc23]; exact k
                  omega
                have hD_s24 := (hokL.l1 hDq1 hs24).1
                have hl : lv_has ls 3 [(2, .ref s24), (0, .ref mp), (1, .ref x9)] := by first | exact hl | (rw [hs24] at hl; exact hl)
                have ks25 := hokL.l1 hDq1 hs24
                have ks25n := hokL.num ks25.1
                have ks25x : rL q1 = some x9 := hch
                have ks25y := hokL.r1 hDq1 ks25x
                have ks25z := hokL.num ks25y.1
                have hn26 : q1 ≠ s24 := tIn.ne (ps := ps) (by omega)
                have hn27 : x9 ≠ s24 := tIn.ne (ps := ps) (by omega)
                have hD_c23 := (hokL.r1 hD_s24 gc23).1
                have kc28 := hokL.r1 hD_s24 gc23
                have kc28n := hokL.num kc28.1
                have hn29 : q1 ≠ c23 := tIn.ne (ps := ps) (by omega)
                have hn30 : x9 ≠ c23 := tIn.ne (ps := ps) (by omega)
                have hn31 : s24 ≠ c23 := tIn.ne (ps := ps) (by omega)
                refine lv_aload_n hx hb dJ4_fixAfterDeletion_265 rfl (lv_at hl 0 rfl) ?_
                refine g_callS (As := [.ref s24]) (rest := []) 1 hx hb hml hown hts hK hG hS hl.1 (mJ4_leftOf l X σL tg mp n ad ps K Vv lL rL pL cL rtL es ks sz md hTHL (some s24) (fun a h => by cases h; exact hD_s24)) q1210 q1211 q75 q1212 (by decide +kernel) rfl ⟨Nat.le_of_ble_eq_true rfl, Nat.le_of_ble_eq_true rfl⟩ ⟨Nat.le_of_ble_eq_true rfl, Nat.le_of_ble_eq_true rfl⟩ (Nat.le_of_ble_eq_true rfl) dJ4_fixAfterDeletion_266 (kA (fun r32 σr32 H locs hp hG hS => ?_))
                obtain ⟨rfl, rfl⟩ := hp
                refine g_rwv (v := va_rf (lL s24)) rfl ?_
                refine g_callS (As := [va_rf (lL s24)]) (rest := []) 1 hx hb hml hown hts hK hG hS hl.1 (mJ4_colorOf l X σL tg mp n ad ps K Vv lL rL pL cL rtL es ks sz md hTHL (lL s24) (fun a h => (hokL.l1 hD_s24 h).1)) q1216 q1217 q75 q1218 (by decide +kernel) rfl ⟨Nat.le_of_ble_eq_true rfl, Nat.le_of_ble_eq_true rfl⟩ ⟨Nat.le_of_ble_eq_true rfl, Nat.le_of_ble_eq_true rfl⟩ (Nat.le_of_ble_eq_true rfl) dJ4_fixAfterDeletion_269 (kI (fun r33 σr33 H locs hp hG hS => ?_))
                obtain ⟨hr33, rfl⟩ := hp
                refine g_rw (b := (cO cL (lL s24))) hr33 ?_
                have hc34 : (cO cL (lL s24)) = 0 ∨ (cO cL (lL s24)) = 1 := cO_r (fun a h => hTHL.2.2 _ ((fun a h => (hokL.l1 hD_s24 h).1) a h))
                refine g_iconst hx hb dJ4_fixAfterDeletion_272 ?_
                refine g_icmp_ne (tgt := 302) hx hb dJ4_fixAfterDeletion_273 (by decide) (by omega) (by omega) (fun cq35 => ?_) (fun cq35 => ?_)
                · refine lv_aload_n hx hb dJ4_fixAfterDeletion_302 rfl (lv_at hl 0 rfl) ?_
                  refine lv_aload_n hx hb dJ4_fixAfterDeletion_303 rfl (lv_at hl 2 rfl) ?_
                  refine g_callS (As := [.ref x9]) (rest := [.ref s24]) 1 hx hb hml hown hts hK hG hS hl.1 (mJ4_parentOf l X σL tg mp n ad ps K Vv lL rL pL cL rtL es ks sz md hTHL (some x9) (fun a h => by cases h; exact hDx9)) q1207 q1208 q75 q1209 (by decide +kernel) rfl ⟨Nat.le_of_ble_eq_true rfl, Nat.le_of_ble_eq_true rfl⟩ ⟨Nat.le_of_ble_eq_true rfl, Nat.le_of_ble_eq_true rfl⟩ (Nat.le_of_ble_eq_true rfl) dJ4_fixAfterDeletion_304 (kA (fun r36 σr36 H locs hp hG hS => ?_))
                  obtain ⟨rfl, rfl⟩ := hp
                  have hf37 : pL x9 = (some q1) := by rw [hqP]
                  refine g_rwv (v := .ref q1) (congrArg va_rf hf37) ?_
                  refine g_callS (As := [.ref q1]) (rest := [.ref s24]) 1 hx hb hml hown hts hK hG hS hl.1 (mJ4_colorOf l X σL tg mp n ad ps K Vv lL rL pL cL rtL es ks sz md hTHL (some q1) (fun a h => by cases h; exact hDq1)) q1216 q1217 q75 q1218 (by decide +kernel) rfl ⟨Nat.le_of_ble_eq_true rfl, Nat.le_of_ble_eq_true rfl⟩ ⟨Nat.le_of_ble_eq_true rfl, Nat.le_of_ble_eq_true rfl⟩ (Nat.le_of_ble_eq_true rfl) dJ4_fixAfterDeletion_307 (kI (fun r38 σr38 H locs hp hG hS => ?_))
                  obtain ⟨hr38, rfl⟩ := hp
                  refine g_rw (b := (cL q1)) (hr38) ?_
                  have hc39 := hTHL.2.2 _ hDq1
                  refine g_callS (As := [.ref s24, .int (iI (cL q1))]) (rest := []) 2 hx hb hml hown hts hK hG hS hl.1 (mJ4_setColor l X σL tg mp n ad ps K Vv lL rL pL cL rtL es ks sz md hTHL (some s24) (fun a h => by cases h; exact hD_s24) (cL q1) (by omega)) q1219 q1220 q75 q1221 (by decide +kernel) rfl ⟨Nat.le_of_ble_eq_true rfl, Nat.le_of_ble_eq_true rfl⟩ ⟨Nat.le_of_ble_eq_true rfl, Nat.le_of_ble_eq_true rfl⟩ (Nat.le_of_ble_eq_true rfl) dJ4_fixAfterDeletion_310 (kV (fun σr40 H locs hp hG hS => ?_))
                  obtain ⟨hTH41, kp41⟩ := hp
                  have hkp41 := hkL.tr kp41
                  have hTH41 : TH σr40 tg mp (tIn n ad ps) K Vv lL rL pL (va_up cL s24 (cL q1)) rtL es ks sz md := hTH41
                  obtain ⟨cc_41, ecc_41⟩ : ∃ z : Nat → Int, z = va_up cL s24 (cL q1) := ⟨_, rfl⟩
                  rw [← ecc_41] at hTH41
                  refine lv_aload_n hx hb dJ4_fixAfterDeletion_313 rfl (lv_at hl 2 rfl) ?_
                  refine g_callS (As := [.ref x9]) (rest := []) 1 hx hb hml hown hts hK hG hS hl.1 (mJ4_parentOf l X σr40 tg mp n ad ps K Vv lL rL pL cc_41 rtL es ks sz md hTH41 (some x9) (fun a h => by cases h; exact hDx9)) q1207 q1208 q75 q1209 (by decide +kernel) rfl ⟨Nat.le_of_ble_eq_true rfl, Nat.le_of_ble_eq_true rfl⟩ ⟨Nat.le_of_ble_eq_true rfl, Nat.le_of_ble_eq_true rfl⟩ (Nat.le_of_ble_eq_true rfl) dJ4_fixAfterDeletion_314 (kA (fun r42 σr42 H locs hp hG hS => ?_))
                  obtain ⟨rfl, rfl⟩ := hp
                  have hf43 : pL x9 = (some q1) := by rw [hqP]
                  refine g_rwv (v := .ref q1) (congrArg va_rf hf43) ?_
                  refine g_iconst hx hb dJ4_fixAfterDeletion_317 ?_
                  refine g_callS (As := [.ref q1, .int (iI 1)]) (rest := []) 2 hx hb hml hown hts hK hG hS hl.1 (mJ4_setColor l X σr40 tg mp n ad ps K Vv lL rL pL cc_41 rtL es ks sz md hTH41 (some q1) (fun a h => by cases h; exact hDq1) 1 (by omega)) q1219 q1220 q75 q1221 (by decide +kernel) rfl ⟨Nat.le_of_ble_eq_true rfl, Nat.le_of_ble_eq_true rfl⟩ ⟨Nat.le_of_ble_eq_true rfl, Nat.le_of_ble_eq_true rfl⟩ (Nat.le_of_ble_eq_true rfl) dJ4_fixAfterDeletion_318 (kV (fun σr44 H locs hp hG hS => ?_))
                  obtain ⟨hTH45, kp45⟩ := hp
                  have hkp45 := hkp41.tr kp45
                  have hTH45 : TH σr44 tg mp (tIn n ad ps) K Vv lL rL pL (va_up cc_41 q1 1) rtL es ks sz md := hTH45
                  obtain ⟨cc_45, ecc_45⟩ : ∃ z : Nat → Int, z = va_up cc_41 q1 1 := ⟨_, rfl⟩
                  rw [← ecc_45] at hTH45
                  refine lv_aload_n hx hb dJ4_fixAfterDeletion_321 rfl (lv_at hl 0 rfl) ?_
                  refine g_callS (As := [.ref s24]) (rest := []) 1 hx hb hml hown hts hK hG hS hl.1 (mJ4_leftOf l X σr44 tg mp n ad ps K Vv lL rL pL cc_45 rtL es ks sz md hTH45 (some s24) (fun a h => by cases h; exact hD_s24)) q1210 q1211 q75 q1212 (by decide +kernel) rfl ⟨Nat.le_of_ble_eq_true rfl, Nat.le_of_ble_eq_true rfl⟩ ⟨Nat.le_of_ble_eq_true rfl, Nat.le_of_ble_eq_true rfl⟩ (Nat.le_of_ble_eq_true rfl) dJ4_fixAfterDeletion_322 (kA (fun r46 σr46 H locs hp hG hS => ?_))
                  obtain ⟨rfl, rfl⟩ := hp
                  refine g_rwv (v := va_rf (lL s24)) rfl ?_
                  refine g_iconst hx hb dJ4_fixAfterDeletion_325 ?_
                  refine g_callS (As := [va_rf (lL s24), .int (iI 1)]) (rest := []) 2 hx hb hml hown hts hK hG hS hl.1 (mJ4_setColor l X σr44 tg mp n ad ps K Vv lL rL pL cc_45 rtL es ks sz md hTH45 (lL s24) (fun a h => (hokL.l1 hD_s24 h).1) 1 (by omega)) q1219 q1220 q75 q1221 (by decide +kernel) rfl ⟨Nat.le_of_ble_eq_true rfl, Nat.le_of_ble_eq_true rfl⟩ ⟨Nat.le_of_ble_eq_true rfl, Nat.le_of_ble_eq_true rfl⟩ (Nat.le_of_ble_eq_true rfl) dJ4_fixAfterDeletion_326 (kV (fun σr47 H locs hp hG hS => ?_))
                  obtain ⟨hTH48, kp48⟩ := hp
                  have hkp48 := hkp45.tr kp48
                  obtain ⟨cc_48, ecc_48⟩ : ∃ z : Nat → Int, z = cUp cc_45 (lL s24) 1 := ⟨_, rfl⟩
                  rw [← ecc_48] at hTH48
                  refine lv_aload_n hx hb dJ4_fixAfterDeletion_329 rfl (lv_at hl 1 rfl) ?_
                  refine lv_aload_n hx hb dJ4_fixAfterDeletion_330 rfl (lv_at hl 2 rfl) ?_
                  refine g_callS (As := [.ref x9]) (rest := [.ref mp]) 1 hx hb hml hown hts hK hG hS hl.1 (mJ4_parentOf l X σr47 tg mp n ad ps K Vv lL rL pL cc_48 rtL es ks sz md hTH48 (some x9) (fun a h => by cases h; exact hDx9)) q1207 q1208 q75 q1209 (by decide +kernel) rfl ⟨Nat.le_of_ble_eq_true rfl, Nat.le_of_ble_eq_true rfl⟩ ⟨Nat.le_of_ble_eq_true rfl, Nat.le_of_ble_eq_true rfl⟩ (Nat.le_of_ble_eq_true rfl) dJ4_fixAfterDeletion_331 (kA (fun r49 σr49 H locs hp hG hS => ?_))
                  obtain ⟨rfl, rfl⟩ := hp
                  have hf50 : pL x9 = (some q1) := by rw [hqP]
                  refine g_rwv (v := .ref q1) (congrArg va_rf hf50) ?_
                  refine g_callV (As := [.ref q1]) (rest := []) 1 hx hb hml hown hts hK hG hS hl.1 (mJ4_rotateRight l X σr47 tg mp n ad ps K Vv lL rL pL cc_48 rtL es ks sz md hTH48 loL hiL hokL q1 s24 hDq1 hs24) hTH48.1 rfl q1226 q1228 qs34 q75 q1229 (by decide +kernel) rfl ⟨Nat.le_of_ble_eq_true rfl, Nat.le_of_ble_eq_true rfl⟩ ⟨Nat.le_of_ble_eq_true rfl, Nat.le_of_ble_eq_true rfl⟩ (Nat.le_of_ble_eq_true rfl) dJ4_fixAfterDeletion_334 (kV (fun σr51 H locs hp hG hS => ?_))
                  obtain ⟨l_52, r_52, p_52, rt_52, hTH52, kp52, hl_52, hr_52, hp_52, hrt_52⟩ := hp
                  have hkp52 := hkp48.tr kp52
                  have hok52 := hokL.rotR hDq1 hs24 (hl := hl_52) (hr := hr_52) (hp := hp_52) (hrt := hrt_52)
                  obtain ⟨lo_52, elo_52⟩ : ∃ z, z = va_up (va_up loL s24 (loL q1)) q1 (ps s24 + 1) := ⟨_, rfl⟩
                  obtain ⟨hi_52, ehi_52⟩ : ∃ z, z = va_up hiL s24 (hiL q1) := ⟨_, rfl⟩
                  rw [← elo_52, ← ehi_52] at hok52
                  have hlf52 : ∀ z, S z → l_52 z = none ∧ r_52 z = none ∧ tIn n ad ps z ∧ loL x9 ≤ ps z ∧ ps z < hiL x9 := fun z hz => by
                    obtain ⟨k1, k2, k3, k4, k5⟩ := hlf z hz
                    have za : z ≠ q1 := fun e => by rw [e, hs24] at k1; cases k1
                    have zb : z ≠ s24 := tIn.ne (ps := ps) (by omega)
                    exact ⟨by rw [hl_52 z k3, if_neg za, k1, if_neg (fun e => by cases e)], by rw [hr_52 z k3, if_neg zb, k2, if_neg (fun e => by cases e)], k3, k4, k5⟩
                  obtain ⟨ρ, hρ⟩ := hok52.root hDx9
                  have hρr := hok52.rx hρ
                  have hD_ρ := (hok52.rx hρ).1
                  refine lv_aload_n hx hb dJ4_fixAfterDeletion_337 rfl (lv_at hl 1 rfl) ?_
                  refine g_get (C := RJ4) (T := TJ4) (N := 9) (v := .ref ρ) hx hb hts hown hK hG hTH52.1 rfl in_J4 3 (by decide) q146 rfl (congrArg (fun q9 => some (va_rf q9)) hρ) dJ4_fixAfterDeletion_338 ?_
                  refine lv_astore_n (lv' := [(1, .ref ρ), (2, .ref s24), (0, .ref mp)]) hx hb dJ4_fixAfterDeletion_341 rfl hl (by decide) rfl (fun ls hl => ?_)
                  refine lv_goto (tgt := 0) hx hb dJ4_fixAfterDeletion_342 (by decide) ?_
                  exact ih_0 σr51 l_52 r_52 p_52 cc_48 rt_52 lo_52 hi_52 ρ (f - 1) (by omega) (hTH52) (hok52) (hkp52) (hD_ρ) (Or.inr (Or.inl hρ)) (fun z hz => by obtain ⟨k1, k2, k3, k4, k5⟩ := hlf52 z hz; exact ⟨k1, k2, k3, by omega, by have := k3.1; omega⟩)  _ _ _ hG hS (lv_sub hl [2, 0] rfl)
                · refine lv_aload_n hx hb dJ4_fixAfterDeletion_276 rfl (lv_at hl 0 rfl) ?_
                  refine g_callS (As := [.ref s24]) (rest := []) 1 hx hb hml hown hts hK hG hS hl.1 (mJ4_rightOf l X σL tg mp n ad ps K Vv lL rL pL cL rtL es ks sz md hTHL (some s24) (fun a h => by cases h; exact hD_s24)) q1213 q1214 q75 q1215 (by decide +kernel) rfl ⟨Nat.le_of_ble_eq_true rfl, Nat.le_of_ble_eq_true rfl⟩ ⟨Nat.le_of_ble_eq_true rfl, Nat.le_of_ble_eq_true rfl⟩ (Nat.le_of_ble_eq_true rfl) dJ4_fixAfterDeletion_277 (kA (fun r53 σr53 H locs hp hG hS => ?_))
                  obtain ⟨rfl, rfl⟩ := hp
                  have hf54 : rL s24 = (some c23) := by rw [gc23]
                  refine g_rwv (v := .ref c23) (congrArg va_rf hf54) ?_
                  refine g_iconst hx hb dJ4_fixAfterDeletion_280 ?_
                  refine g_callS (As := [.ref c23, .int (iI 1)]) (rest := []) 2 hx hb hml hown hts hK hG hS hl.1 (mJ4_setColor l X σL tg mp n ad ps K Vv lL rL pL cL rtL es ks sz md hTHL (some c23) (fun a h => by cases h; exact hD_c23) 1 (by omega)) q1219 q1220 q75 q1221 (by decide +kernel) rfl ⟨Nat.le_of_ble_eq_true rfl, Nat.le_of_ble_eq_true rfl⟩ ⟨Nat.le_of_ble_eq_true rfl, Nat.le_of_ble_eq_true rfl⟩ (Nat.le_of_ble_eq_true rfl) dJ4_fixAfterDeletion_281 (kV (fun σr55 H locs hp hG hS => ?_))
                  obtain ⟨hTH56, kp56⟩ := hp
                  have hkp56 := hkL.tr kp56
                  have hTH56 : TH σr55 tg mp (tIn n ad ps) K Vv lL rL pL (va_up cL c23 1) rtL es ks sz md := hTH56
                  obtain ⟨cc_56, ecc_56⟩ : ∃ z : Nat → Int, z = va_up cL c23 1 := ⟨_, rfl⟩
                  rw [← ecc_56] at hTH56
                  refine lv_aload_n hx hb dJ4_fixAfterDeletion_284 rfl (lv_at hl 0 rfl) ?_
                  refine g_iconst hx hb dJ4_fixAfterDeletion_285 ?_
                  refine g_callS (As := [.ref s24, .int (iI 0)]) (rest := []) 2 hx hb hml hown hts hK hG hS hl.1 (mJ4_setColor l X σr55 tg mp n ad ps K Vv lL rL pL cc_56 rtL es ks sz md hTH56 (some s24) (fun a h => by cases h; exact hD_s24) 0 (by omega)) q1219 q1220 q75 q1221 (by decide +kernel) rfl ⟨Nat.le_of_ble_eq_true rfl, Nat.le_of_ble_eq_true rfl⟩ ⟨Nat.le_of_ble_eq_true rfl, Nat.le_of_ble_eq_true rfl⟩ (Nat.le_of_ble_eq_true rfl) dJ4_fixAfterDeletion_286 (kV (fun σr57 H locs hp hG hS => ?_))
                  obtain ⟨hTH58, kp58⟩ := hp
                  have hkp58 := hkp56.tr kp58
                  have hTH58 : TH σr57 tg mp (tIn n ad ps) K Vv lL rL pL (va_up cc_56 s24 0) rtL es ks sz md := hTH58
                  obtain ⟨cc_58, ecc_58⟩ : ∃ z : Nat → Int, z = va_up cc_56 s24 0 := ⟨_, rfl⟩
                  rw [← ecc_58] at hTH58
                  refine lv_aload_n hx hb dJ4_fixAfterDeletion_289 rfl (lv_at hl 1 rfl) ?_
                  refine lv_aload_n hx hb dJ4_fixAfterDeletion_290 rfl (lv_at hl 0 rfl) ?_
                  refine g_callV (As := [.ref s24]) (rest := []) 1 hx hb hml hown hts hK hG hS hl.1 (mJ4_rotateLeft l X σr57 tg mp n ad ps K Vv lL rL pL cc_58 rtL es ks sz md hTH58 loL hiL hokL s24 c23 hD_s24 gc23) hTH58.1 rfl q1222 q1224 qs33 q75 q1225 (by decide +kernel) rfl ⟨Nat.le_of_ble_eq_true rfl, Nat.le_of_ble_eq_true rfl⟩ ⟨Nat.le_of_ble_eq_true rfl, Nat.le_of_ble_eq_true rfl⟩ (Nat.le_of_ble_eq_true rfl) dJ4_fixAfterDeletion_291 (kV (fun σr59 H locs hp hG hS => ?_))
                  obtain ⟨l_60, r_60, p_60, rt_60, hTH60, kp60, hl_60, hr_60, hp_60, hrt_60⟩ := hp
                  have hkp60 := hkp58.tr kp60
                  have hok60 := hokL.rotL hD_s24 gc23 (hl := hl_60) (hr := hr_60) (hp := hp_60) (hrt := hrt_60)
                  obtain ⟨lo_60, elo_60⟩ : ∃ z, z = va_up loL c23 (loL s24) := ⟨_, rfl⟩
                  obtain ⟨hi_60, ehi_60⟩ : ∃ z, z = va_up (va_up hiL c23 (hiL s24)) s24 (ps c23) := ⟨_, rfl⟩
                  rw [← elo_60, ← ehi_60] at hok60
                  have hlf60 : ∀ z, S z → l_60 z = none ∧ r_60 z = none ∧ tIn n ad ps z ∧ loL x9 ≤ ps z ∧ ps z < hiL x9 := fun z hz => by
                    obtain ⟨k1, k2, k3, k4, k5⟩ := hlf z hz
                    have za : z ≠ s24 := fun e => by rw [e, gc23] at k2; cases k2
                    have zb : z ≠ c23 := tIn.ne (ps := ps) (by omega)
                    exact ⟨by rw [hl_60 z k3, if_neg zb, k1, if_neg (fun e => by cases e)], by rw [hr_60 z k3, if_neg za, k2, if_neg (fun e => by cases e)], k3, k4, k5⟩
                  have hno60 : ¬ lL c23 = some x9 := fun k => by have q5 := (hokL.l1 hD_c23 k).2.2.2; rw [hqP] at q5; exact hn29 (Option.some.inj q5)
                  have hpx60 : p_60 x9 = some q1 := by rw [hp_60 x9 hDx9, if_neg hn30, if_neg hn27, if_neg hno60]; exact hqP
                  have hfar60 : l_60 q1 = some c23 := by rw [hl_60 q1 hDq1, if_neg hn29, if_pos hs24]
                  have hq860 := hok60.l1 hDq1 hfar60
                  have hq960 := hok60.num hq860.1
                  refine lv_aload_n hx hb dJ4_fixAfterDeletion_294 rfl (lv_at hl 2 rfl) ?_
                  refine g_callS (As := [.ref x9]) (rest := []) 1 hx hb hml hown hts hK hG hS hl.1 (mJ4_parentOf l X σr59 tg mp n ad ps K Vv l_60 r_60 p_60 cc_58 rt_60 es ks sz md hTH60 (some x9) (fun a h => by cases h; exact hDx9)) q1207 q1208 q75 q1209 (by decide +kernel) rfl ⟨Nat.le_of_ble_eq_true rfl, Nat.le_of_ble_eq_true rfl⟩ ⟨Nat.le_of_ble_eq_true rfl, Nat.le_of_ble_eq_true rfl⟩ (Nat.le_of_ble_eq_true rfl) dJ4_fixAfterDeletion_295 (kA (fun r61 σr61 H locs hp hG hS => ?_))
                  obtain ⟨rfl, rfl⟩ := hp
                  have hf62 : p_60 x9 = (some q1) := by rw [hpx60]
                  refine g_rwv (v := .ref q1) (congrArg va_rf hf62) ?_
                  refine g_callS (As := [.ref q1]) (rest := []) 1 hx hb hml hown hts hK hG hS hl.1 (mJ4_leftOf l X σr59 tg mp n ad ps K Vv l_60 r_60 p_60 cc_58 rt_60 es ks sz md hTH60 (some q1) (fun a h => by cases h; exact hDq1)) q1210 q1211 q75 q1212 (by decide +kernel) rfl ⟨Nat.le_of_ble_eq_true rfl, Nat.le_of_ble_eq_true rfl⟩ ⟨Nat.le_of_ble_eq_true rfl, Nat.le_of_ble_eq_true rfl⟩ (Nat.le_of_ble_eq_true rfl) dJ4_fixAfterDeletion_298 (kA (fun r63 σr63 H locs hp hG hS => ?_))
                  obtain ⟨rfl, rfl⟩ := hp
                  have hf64 : l_60 q1 = (some c23) := by rw [hfar60]
                  refine g_rwv (v := .ref c23) (congrArg va_rf hf64) ?_
                  refine lv_astore_n (lv' := [(2, .ref c23), (0, .ref mp), (1, .ref x9)]) hx hb dJ4_fixAfterDeletion_301 rfl hl (by decide) rfl (fun ls hl => ?_)
                  refine lv_aload_n hx hb dJ4_fixAfterDeletion_302 rfl (lv_at hl 0 rfl) ?_
                  refine lv_aload_n hx hb dJ4_fixAfterDeletion_303 rfl (lv_at hl 2 rfl) ?_
                  refine g_callS (As := [.ref x9]) (rest := [.ref c23]) 1 hx hb hml hown hts hK hG hS hl.1 (mJ4_parentOf l X σr59 tg mp n ad ps K Vv l_60 r_60 p_60 cc_58 rt_60 es ks sz md hTH60 (some x9) (fun a h => by cases h; exact hDx9)) q1207 q1208 q75 q1209 (by decide +kernel) rfl ⟨Nat.le_of_ble_eq_true rfl, Nat.le_of_ble_eq_true rfl⟩ ⟨Nat.le_of_ble_eq_true rfl, Nat.le_of_ble_eq_true rfl⟩ (Nat.le_of_ble_eq_true rfl) dJ4_fixAfterDeletion_304 (kA (fun r65 σr65 H locs hp hG hS => ?_))
                  obtain ⟨rfl, rfl⟩ := hp
                  have hf66 : p_60 x9 = (some q1) := by rw [hpx60]
                  refine g_rwv (v := .ref q1) (congrArg va_rf hf66) ?_
                  refine g_callS (As := [.ref q1]) (rest := [.ref c23]) 1 hx hb hml hown hts hK hG hS hl.1 (mJ4_colorOf l X σr59 tg mp n ad ps K Vv l_60 r_60 p_60 cc_58 rt_60 es ks sz md hTH60 (some q1) (fun a h => by cases h; exact hDq1)) q1216 q1217 q75 q1218 (by decide +kernel) rfl ⟨Nat.le_of_ble_eq_true rfl, Nat.le_of_ble_eq_true rfl⟩ ⟨Nat.le_of_ble_eq_true rfl, Nat.le_of_ble_eq_true rfl⟩ (Nat.le_of_ble_eq_true rfl) dJ4_fixAfterDeletion_307 (kI (fun r67 σr67 H locs hp hG hS => ?_))
                  obtain ⟨hr67, rfl⟩ := hp
                  have hf68 : cc_58 q1 = (cL q1) := by rw [ecc_58, va_up_ne _ _ hn26, ecc_56, va_up_ne _ _ hn29]
                  refine g_rw (b := (cL q1)) (hr67.trans hf68) ?_
                  have hc69 := hTH60.2.2 _ hDq1
                  rw [hf68] at hc69
                  refine g_callS (As := [.ref c23, .int (iI (cL q1))]) (rest := []) 2 hx hb hml hown hts hK hG hS hl.1 (mJ4_setColor l X σr59 tg mp n ad ps K Vv l_60 r_60 p_60 cc_58 rt_60 es ks sz md hTH60 (some c23) (fun a h => by cases h; exact hD_c23) (cL q1) (by omega)) q1219 q1220 q75 q1221 (by decide +kernel) rfl ⟨Nat.le_of_ble_eq_true rfl, Nat.le_of_ble_eq_true rfl⟩ ⟨Nat.le_of_ble_eq_true rfl, Nat.le_of_ble_eq_true rfl⟩ (Nat.le_of_ble_eq_true rfl) dJ4_fixAfterDeletion_310 (kV (fun σr70 H locs hp hG hS => ?_))
                  obtain ⟨hTH71, kp71⟩ := hp
                  have hkp71 := hkp60.tr kp71
                  have hTH71 : TH σr70 tg mp (tIn n ad ps) K Vv l_60 r_60 p_60 (va_up cc_58 c23 (cL q1)) rt_60 es ks sz md := hTH71
                  obtain ⟨cc_71, ecc_71⟩ : ∃ z : Nat → Int, z = va_up cc_58 c23 (cL q1) := ⟨_, rfl⟩
                  rw [← ecc_71] at hTH71
                  refine lv_aload_n hx hb dJ4_fixAfterDeletion_313 rfl (lv_at hl 2 rfl) ?_
                  refine g_callS (As := [.ref x9]) (rest := []) 1 hx hb hml hown hts hK hG hS hl.1 (mJ4_parentOf l X σr70 tg mp n ad ps K Vv l_60 r_60 p_60 cc_71 rt_60 es ks sz md hTH71 (some x9) (fun a h => by cases h; exact hDx9)) q1207 q1208 q75 q1209 (by decide +kernel) rfl ⟨Nat.le_of_ble_eq_true rfl, Nat.le_of_ble_eq_true rfl⟩ ⟨Nat.le_of_ble_eq_true rfl, Nat.le_of_ble_eq_true rfl⟩ (Nat.le_of_ble_eq_true rfl) dJ4_fixAfterDeletion_314 (kA (fun r72 σr72 H locs hp hG hS => ?_))
                  obtain ⟨rfl, rfl⟩ := hp
                  have hf73 : p_60 x9 = (some q1) := by rw [hpx60]
                  refine g_rwv (v := .ref q1) (congrArg va_rf hf73) ?_
                  refine g_iconst hx hb dJ4_fixAfterDeletion_317 ?_
                  refine g_callS (As := [.ref q1, .int (iI 1)]) (rest := []) 2 hx hb hml hown hts hK hG hS hl.1 (mJ4_setColor l X σr70 tg mp n ad ps K Vv l_60 r_60 p_60 cc_71 rt_60 es ks sz md hTH71 (some q1) (fun a h => by cases h; exact hDq1) 1 (by omega)) q1219 q1220 q75 q1221 (by decide +kernel) rfl ⟨Nat.le_of_ble_eq_true rfl, Nat.le_of_ble_eq_true rfl⟩ ⟨Nat.le_of_ble_eq_true rfl, Nat.le_of_ble_eq_true rfl⟩ (Nat.le_of_ble_eq_true rfl) dJ4_fixAfterDeletion_318 (kV (fun σr74 H locs hp hG hS => ?_))
                  obtain ⟨hTH75, kp75⟩ := hp
                  have hkp75 := hkp71.tr kp75
                  have hTH75 : TH σr74 tg mp (tIn n ad ps) K Vv l_60 r_60 p_60 (va_up cc_71 q1 1) rt_60 es ks sz md := hTH75
                  obtain ⟨cc_75, ecc_75⟩ : ∃ z : Nat → Int, z = va_up cc_71 q1 1 := ⟨_, rfl⟩
                  rw [← ecc_75] at hTH75
                  refine lv_aload_n hx hb dJ4_fixAfterDeletion_321 rfl (lv_at hl 0 rfl) ?_
                  refine g_callS (As := [.ref c23]) (rest := []) 1 hx hb hml hown hts hK hG hS hl.1 (mJ4_leftOf l X σr74 tg mp n ad ps K Vv l_60 r_60 p_60 cc_75 rt_60 es ks sz md hTH75 (some c23) (fun a h => by cases h; exact hD_c23)) q1210 q1211 q75 q1212 (by decide +kernel) rfl ⟨Nat.le_of_ble_eq_true rfl, Nat.le_of_ble_eq_true rfl⟩ ⟨Nat.le_of_ble_eq_true rfl, Nat.le_of_ble_eq_true rfl⟩ (Nat.le_of_ble_eq_true rfl) dJ4_fixAfterDeletion_322 (kA (fun r76 σr76 H locs hp hG hS => ?_))
                  obtain ⟨rfl, rfl⟩ := hp
                  refine g_rwv (v := va_rf (l_60 c23)) rfl ?_
                  refine g_iconst hx hb dJ4_fixAfterDeletion_325 ?_
                  refine g_callS (As := [va_rf (l_60 c23), .int (iI 1)]) (rest := []) 2 hx hb hml hown hts hK hG hS hl.1 (mJ4_setColor l X σr74 tg mp n ad ps K Vv l_60 r_60 p_60 cc_75 rt_60 es ks sz md hTH75 (l_60 c23) (fun a h => (hok60.l1 hD_c23 h).1) 1 (by omega)) q1219 q1220 q75 q1221 (by decide +kernel) rfl ⟨Nat.le_of_ble_eq_true rfl, Nat.le_of_ble_eq_true rfl⟩ ⟨Nat.le_of_ble_eq_true rfl, Nat.le_of_ble_eq_true rfl⟩ (Nat.le_of_ble_eq_true rfl) dJ4_fixAfterDeletion_326 (kV (fun σr77 H locs hp hG hS => ?_))
                  obtain ⟨hTH78, kp78⟩ := hp
                  have hkp78 := hkp75.tr kp78
                  obtain ⟨cc_78, ecc_78⟩ : ∃ z : Nat → Int, z = cUp cc_75 (l_60 c23) 1 := ⟨_, rfl⟩
                  rw [← ecc_78] at hTH78
                  refine lv_aload_n hx hb dJ4_fixAfterDeletion_329 rfl (lv_at hl 1 rfl) ?_
                  refine lv_aload_n hx hb dJ4_fixAfterDeletion_330 rfl (lv_at hl 2 rfl) ?_
                  refine g_callS (As := [.ref x9]) (rest := [.ref mp]) 1 hx hb hml hown hts hK hG hS hl.1 (mJ4_parentOf l X σr77 tg mp n ad ps K Vv l_60 r_60 p_60 cc_78 rt_60 es ks sz md hTH78 (some x9) (fun a h => by cases h; exact hDx9)) q1207 q1208 q75 q1209 (by decide +kernel) rfl ⟨Nat.le_of_ble_eq_true rfl, Nat.le_of_ble_eq_true rfl⟩ ⟨Nat.le_of_ble_eq_true rfl, Nat.le_of_ble_eq_true rfl⟩ (Nat.le_of_ble_eq_true rfl) dJ4_fixAfterDeletion_331 (kA (fun r79 σr79 H locs hp hG hS => ?_))
                  obtain ⟨rfl, rfl⟩ := hp
                  have hf80 : p_60 x9 = (some q1) := by rw [hpx60]
                  refine g_rwv (v := .ref q1) (congrArg va_rf hf80) ?_
                  refine g_callV (As := [.ref q1]) (rest := []) 1 hx hb hml hown hts hK hG hS hl.1 (mJ4_rotateRight l X σr77 tg mp n ad ps K Vv l_60 r_60 p_60 cc_78 rt_60 es ks sz md hTH78 lo_60 hi_60 hok60 q1 c23 hDq1 hfar60) hTH78.1 rfl q1226 q1228 qs34 q75 q1229 (by decide +kernel) rfl ⟨Nat.le_of_ble_eq_true rfl, Nat.le_of_ble_eq_true rfl⟩ ⟨Nat.le_of_ble_eq_true rfl, Nat.le_of_ble_eq_true rfl⟩ (Nat.le_of_ble_eq_true rfl) dJ4_fixAfterDeletion_334 (kV (fun σr81 H locs hp hG hS => ?_))
                  obtain ⟨l_82, r_82, p_82, rt_82, hTH82, kp82, hl_82, hr_82, hp_82, hrt_82⟩ := hp
                  have hkp82 := hkp78.tr kp82
                  have hok82 := hok60.rotR hDq1 hfar60 (hl := hl_82) (hr := hr_82) (hp := hp_82) (hrt := hrt_82)
                  obtain ⟨lo_82, elo_82⟩ : ∃ z, z = va_up (va_up lo_60 c23 (lo_60 q1)) q1 (ps c23 + 1) := ⟨_, rfl⟩
                  obtain ⟨hi_82, ehi_82⟩ : ∃ z, z = va_up hi_60 c23 (hi_60 q1) := ⟨_, rfl⟩
                  rw [← elo_82, ← ehi_82] at hok82
                  have hlf82 : ∀ z, S z → l_82 z = none ∧ r_82 z = none ∧ tIn n ad ps z ∧ loL x9 ≤ ps z ∧ ps z < hiL x9 := fun z hz => by
                    obtain ⟨k1, k2, k3, k4, k5⟩ := hlf60 z hz
                    have za : z ≠ q1 := fun e => by rw [e, hfar60] at k1; cases k1
                    have zb : z ≠ c23 := tIn.ne (ps := ps) (by omega)
                    exact ⟨by rw [hl_82 z k3, if_neg za, k1, if_neg (fun e => by cases e)], by rw [hr_82 z k3, if_neg zb, k2, if_neg (fun e => by cases e)], k3, k4, k5⟩
                  obtain ⟨ρ, hρ⟩ := hok82.root hDx9
                  have hρr := hok82.rx hρ
                  have hD_ρ := (hok82.rx hρ).1
                  refine lv_aload_n hx hb dJ4_fixAfterDeletion_337 rfl (lv_at hl 1 rfl) ?_
                  refine g_get (C := RJ4) (T := TJ4) (N := 9) (v := .ref ρ) hx hb hts hown hK hG hTH82.1 rfl in_J4 3 (by decide) q146 rfl (congrArg (fun q9 => some (va_rf q9)) hρ) dJ4_fixAfterDeletion_338 ?_
                  refine lv_astore_n (lv' := [(1, .ref ρ), (2, .ref c23), (0, .ref mp)]) hx hb dJ4_fixAfterDeletion_341 rfl hl (by decide) rfl (fun ls hl => ?_)
                  refine lv_goto (tgt := 0) hx hb dJ4_fixAfterDeletion_342 (by decide) ?_
                  exact ih_0 σr81 l_82 r_82 p_82 cc_78 rt_82 lo_82 hi_82 ρ (f - 1) (by omega) (hTH82) (hok82) (hkp82) (hD_ρ) (Or.inr (Or.inl hρ)) (fun z hz => by obtain ⟨k1, k2, k3, k4, k5⟩ := hlf82 z hz; exact ⟨k1, k2, k3, by omega, by have := k3.1; omega⟩)  _ _ _ hG hS (lv_sub hl [2, 0] rfl)
              · refine g_aload_nR hx hb dJ4_fixAfterDeletion_241 rfl (lv_at hl 0 rfl) ?_
                refine g_callS (As := [va_rf (lL q1)]) (rest := []) 1 hx hb hml hown hts hK hG hS hl.1 (mJ4_leftOf l X σL tg mp n ad ps K Vv lL rL pL cL rtL es ks sz md hTHL (lL q1) (fun a h => (hokL.l1 hDq1 h).1)) q1210 q1211 q75 q1212 (by decide +kernel) rfl ⟨Nat.le_of_ble_eq_true rfl, Nat.le_of_ble_eq_true rfl⟩ ⟨Nat.le_of_ble_eq_true rfl, Nat.le_of_ble_eq_true rfl⟩ (Nat.le_of_ble_eq_true rfl) dJ4_fixAfterDeletion_242 (kA (fun r83 σr83 H locs hp hG hS => ?_))
                obtain ⟨rfl, rfl⟩ := hp
                refine g_callS (As := [va_rf ((lL q1).bind lL)]) (rest := []) 1 hx hb hml hown hts hK hG hS hl.1 (mJ4_colorOf l X σL tg mp n ad ps K Vv lL rL pL cL rtL es ks sz md hTHL ((lL q1).bind lL) (fun a h => by obtain ⟨z, h1, h2⟩ := Option.bind_eq_some_iff.mp h; exact (hokL.l1 ((fun a h => (hokL.l1 hDq1 h).1) z h1) h2).1)) q1216 q1217 q75 q1218 (by decide +kernel) rfl ⟨Nat.le_of_ble_eq_true rfl, Nat.le_of_ble_eq_true rfl⟩ ⟨Nat.le_of_ble_eq_true rfl, Nat.le_of_ble_eq_true rfl⟩ (Nat.le_of_ble_eq_true rfl) dJ4_fixAfterDeletion_245 (kI (fun r84 σr84 H locs hp hG hS => ?_))
                obtain ⟨hr84, rfl⟩ := hp
                refine g_rw (b := (cO cL ((lL q1).bind lL))) hr84 ?_
                have hc85 : (cO cL ((lL q1).bind lL)) = 0 ∨ (cO cL ((lL q1).bind lL)) = 1 := cO_r (fun a h => hTHL.2.2 _ ((fun a h => by obtain ⟨z, h1, h2⟩ := Option.bind_eq_some_iff.mp h; exact (hokL.l1 ((fun a h => (hokL.l1 hDq1 h).1) z h1) h2).1) a h))
                refine g_iconst hx hb dJ4_fixAfterDeletion_248 ?_
                refine g_icmp_ne (tgt := 265) hx hb dJ4_fixAfterDeletion_249 (by decide) (by omega) (by omega) (fun cq86 => ?_) (fun cq86 => ?_)
                · obtain ⟨c87, hc87⟩ := cO_some (C := cL) (o := ((lL q1).bind lL)) (by omega)
                  obtain ⟨s88, hs88, gc87⟩ := Option.bind_eq_some_iff.mp hc87
                  have nbc87 : ¬ cL c87 = 1 := by
                    intro k
                    have q5 : cO cL ((lL q1).bind lL) = 1 := by rw [hc87]; exact k
                    omega
                  have hD_s88 := (hokL.l1 hDq1 hs88).1
                  have hl : lv_has ls 3 [(2, .ref s88), (0, .ref mp), (1, .ref x9)] := by first | exact hl | (rw [hs88] at hl; exact hl)
                  have ks89 := hokL.l1 hDq1 hs88
                  have ks89n := hokL.num ks89.1
                  have ks89x : rL q1 = some x9 := hch
                  have ks89y := hokL.r1 hDq1 ks89x
                  have ks89z := hokL.num ks89y.1
                  have hn90 : q1 ≠ s88 := tIn.ne (ps := ps) (by omega)
                  have hn91 : x9 ≠ s88 := tIn.ne (ps := ps) (by omega)
                  have hD_c87 := (hokL.l1 hD_s88 gc87).1
                  have kc92 := hokL.l1 hD_s88 gc87
                  have kc92n := hokL.num kc92.1
                  have hn93 : q1 ≠ c87 := tIn.ne (ps := ps) (by omega)
                  have hn94 : x9 ≠ c87 := tIn.ne (ps := ps) (by omega)
                  have hn95 : s88 ≠ c87 := tIn.ne (ps := ps) (by omega)
                  refine lv_aload_n hx hb dJ4_fixAfterDeletion_265 rfl (lv_at hl 0 rfl) ?_
                  refine g_callS (As := [.ref s88]) (rest := []) 1 hx hb hml hown hts hK hG hS hl.1 (mJ4_leftOf l X σL tg mp n ad ps K Vv lL rL pL cL rtL es ks sz md hTHL (some s88) (fun a h => by cases h; exact hD_s88)) q1210 q1211 q75 q1212 (by decide +kernel) rfl ⟨Nat.le_of_ble_eq_true rfl, Nat.le_of_ble_eq_true rfl⟩ ⟨Nat.le_of_ble_eq_true rfl, Nat.le_of_ble_eq_true rfl⟩ (Nat.le_of_ble_eq_true rfl) dJ4_fixAfterDeletion_266 (kA (fun r96 σr96 H locs hp hG hS => ?_))
                  obtain ⟨rfl, rfl⟩ := hp
                  have hf97 : lL s88 = (some c87) := by rw [gc87]
                  refine g_rwv (v := .ref c87) (congrArg va_rf hf97) ?_
                  refine g_callS (As := [.ref c87]) (rest := []) 1 hx hb hml hown hts hK hG hS hl.1 (mJ4_colorOf l X σL tg mp n ad ps K Vv lL rL pL cL rtL es ks sz md hTHL (some c87) (fun a h => by cases h; exact hD_c87)) q1216 q1217 q75 q1218 (by decide +kernel) rfl ⟨Nat.le_of_ble_eq_true rfl, Nat.le_of_ble_eq_true rfl⟩ ⟨Nat.le_of_ble_eq_true rfl, Nat.le_of_ble_eq_true rfl⟩ (Nat.le_of_ble_eq_true rfl) dJ4_fixAfterDeletion_269 (kI (fun r98 σr98 H locs hp hG hS => ?_))
                  obtain ⟨hr98, rfl⟩ := hp
                  refine g_rw (b := (cL c87)) (hr98) ?_
                  have hc99 := hTHL.2.2 _ hD_c87
                  refine g_iconst hx hb dJ4_fixAfterDeletion_272 ?_
                  refine g_icmp_ne (tgt := 302) hx hb dJ4_fixAfterDeletion_273 (by decide) (by omega) (by omega) (fun cq100 => ?_) (fun cq100 => ?_)
                  · refine lv_aload_n hx hb dJ4_fixAfterDeletion_302 rfl (lv_at hl 0 rfl) ?_
                    refine lv_aload_n hx hb dJ4_fixAfterDeletion_303 rfl (lv_at hl 2 rfl) ?_
                    refine g_callS (As := [.ref x9]) (rest := [.ref s88]) 1 hx hb hml hown hts hK hG hS hl.1 (mJ4_parentOf l X σL tg mp n ad ps K Vv lL rL pL cL rtL es ks sz md hTHL (some x9) (fun a h => by cases h; exact hDx9)) q1207 q1208 q75 q1209 (by decide +kernel) rfl ⟨Nat.le_of_ble_eq_true rfl, Nat.le_of_ble_eq_true rfl⟩ ⟨Nat.le_of_ble_eq_true rfl, Nat.le_of_ble_eq_true rfl⟩ (Nat.le_of_ble_eq_true rfl) dJ4_fixAfterDeletion_304 (kA (fun r101 σr101 H locs hp hG hS => ?_))
                    obtain ⟨rfl, rfl⟩ := hp
                    have hf102 : pL x9 = (some q1) := by rw [hqP]
                    refine g_rwv (v := .ref q1) (congrArg va_rf hf102) ?_
                    refine g_callS (As := [.ref q1]) (rest := [.ref s88]) 1 hx hb hml hown hts hK hG hS hl.1 (mJ4_colorOf l X σL tg mp n ad ps K Vv lL rL pL cL rtL es ks sz md hTHL (some q1) (fun a h => by cases h; exact hDq1)) q1216 q1217 q75 q1218 (by decide +kernel) rfl ⟨Nat.le_of_ble_eq_true rfl, Nat.le_of_ble_eq_true rfl⟩ ⟨Nat.le_of_ble_eq_true rfl, Nat.le_of_ble_eq_true rfl⟩ (Nat.le_of_ble_eq_true rfl) dJ4_fixAfterDeletion_307 (kI (fun r103 σr103 H locs hp hG hS => ?_))
                    obtain ⟨hr103, rfl⟩ := hp
                    refine g_rw (b := (cL q1)) (hr103) ?_
                    have hc104 := hTHL.2.2 _ hDq1
                    refine g_callS (As := [.ref s88, .int (iI (cL q1))]) (rest := []) 2 hx hb hml hown hts hK hG hS hl.1 (mJ4_setColor l X σL tg mp n ad ps K Vv lL rL pL cL rtL es ks sz md hTHL (some s88) (fun a h => by cases h; exact hD_s88) (cL q1) (by omega)) q1219 q1220 q75 q1221 (by decide +kernel) rfl ⟨Nat.le_of_ble_eq_true rfl, Nat.le_of_ble_eq_true rfl⟩ ⟨Nat.le_of_ble_eq_true rfl, Nat.le_of_ble_eq_true rfl⟩ (Nat.le_of_ble_eq_true rfl) dJ4_fixAfterDeletion_310 (kV (fun σr105 H locs hp hG hS => ?_))
                    obtain ⟨hTH106, kp106⟩ := hp
                    have hkp106 := hkL.tr kp106
                    have hTH106 : TH σr105 tg mp (tIn n ad ps) K Vv lL rL pL (va_up cL s88 (cL q1)) rtL es ks sz md := hTH106
                    obtain ⟨cc_106, ecc_106⟩ : ∃ z : Nat → Int, z = va_up cL s88 (cL q1) := ⟨_, rfl⟩
                    rw [← ecc_106] at hTH106
                    refine lv_aload_n hx hb dJ4_fixAfterDeletion_313 rfl (lv_at hl 2 rfl) ?_
                    refine g_callS (As := [.ref x9]) (rest := []) 1 hx hb hml hown hts hK hG hS hl.1 (mJ4_parentOf l X σr105 tg mp n ad ps K Vv lL rL pL cc_106 rtL es ks sz md hTH106 (some x9) (fun a h => by cases h; exact hDx9)) q1207 q1208 q75 q1209 (by decide +kernel) rfl ⟨Nat.le_of_ble_eq_true rfl, Nat.le_of_ble_eq_true rfl⟩ ⟨Nat.le_of_ble_eq_true rfl, Nat.le_of_ble_eq_true rfl⟩ (Nat.le_of_ble_eq_true rfl) dJ4_fixAfterDeletion_314 (kA (fun r107 σr107 H locs hp hG hS => ?_))
                    obtain ⟨rfl, rfl⟩ := hp
                    have hf108 : pL x9 = (some q1) := by rw [hqP]
                    refine g_rwv (v := .ref q1) (congrArg va_rf hf108) ?_
                    refine g_iconst hx hb dJ4_fixAfterDeletion_317 ?_
                    refine g_callS (As := [.ref q1, .int (iI 1)]) (rest := []) 2 hx hb hml hown hts hK hG hS hl.1 (mJ4_setColor l X σr105 tg mp n ad ps K Vv lL rL pL cc_106 rtL es ks sz md hTH106 (some q1) (fun a h => by cases h; exact hDq1) 1 (by omega)) q1219 q1220 q75 q1221 (by decide +kernel) rfl ⟨Nat.le_of_ble_eq_true rfl, Nat.le_of_ble_eq_true rfl⟩ ⟨Nat.le_of_ble_eq_true rfl, Nat.le_of_ble_eq_true rfl⟩ (Nat.le_of_ble_eq_true rfl) dJ4_fixAfterDeletion_318 (kV (fun σr109 H locs hp hG hS => ?_))
                    obtain ⟨hTH110, kp110⟩ := hp
                    have hkp110 := hkp106.tr kp110
                    have hTH110 : TH σr109 tg mp (tIn n ad ps) K Vv lL rL pL (va_up cc_106 q1 1) rtL es ks sz md := hTH110
                    obtain ⟨cc_110, ecc_110⟩ : ∃ z : Nat → Int, z = va_up cc_106 q1 1 := ⟨_, rfl⟩
                    rw [← ecc_110] at hTH110
                    refine lv_aload_n hx hb dJ4_fixAfterDeletion_321 rfl (lv_at hl 0 rfl) ?_
                    refine g_callS (As := [.ref s88]) (rest := []) 1 hx hb hml hown hts hK hG hS hl.1 (mJ4_leftOf l X σr109 tg mp n ad ps K Vv lL rL pL cc_110 rtL es ks sz md hTH110 (some s88) (fun a h => by cases h; exact hD_s88)) q1210 q1211 q75 q1212 (by decide +kernel) rfl ⟨Nat.le_of_ble_eq_true rfl, Nat.le_of_ble_eq_true rfl⟩ ⟨Nat.le_of_ble_eq_true rfl, Nat.le_of_ble_eq_true rfl⟩ (Nat.le_of_ble_eq_true rfl) dJ4_fixAfterDeletion_322 (kA (fun r111 σr111 H locs hp hG hS => ?_))
                    obtain ⟨rfl, rfl⟩ := hp
                    have hf112 : lL s88 = (some c87) := by rw [gc87]
                    refine g_rwv (v := .ref c87) (congrArg va_rf hf112) ?_
                    refine g_iconst hx hb dJ4_fixAfterDeletion_325 ?_
                    refine g_callS (As := [.ref c87, .int (iI 1)]) (rest := []) 2 hx hb hml hown hts hK hG hS hl.1 (mJ4_setColor l X σr109 tg mp n ad ps K Vv lL rL pL cc_110 rtL es ks sz md hTH110 (some c87) (fun a h => by cases h; exact hD_c87) 1 (by omega)) q1219 q1220 q75 q1221 (by decide +kernel) rfl ⟨Nat.le_of_ble_eq_true rfl, Nat.le_of_ble_eq_true rfl⟩ ⟨Nat.le_of_ble_eq_true rfl, Nat.le_of_ble_eq_true rfl⟩ (Nat.le_of_ble_eq_true rfl) dJ4_fixAfterDeletion_326 (kV (fun σr113 H locs hp hG hS => ?_))
                    obtain ⟨hTH114, kp114⟩ := hp
                    have hkp114 := hkp110.tr kp114
                    have hTH114 : TH σr113 tg mp (tIn n ad ps) K Vv lL rL pL (va_up cc_110 c87 1) rtL es ks sz md := hTH114
                    obtain ⟨cc_114, ecc_114⟩ : ∃ z : Nat → Int, z = va_up cc_110 c87 1 := ⟨_, rfl⟩
                    rw [← ecc_114] at hTH114
                    refine lv_aload_n hx hb dJ4_fixAfterDeletion_329 rfl (lv_at hl 1 rfl) ?_
                    refine lv_aload_n hx hb dJ4_fixAfterDeletion_330 rfl (lv_at hl 2 rfl) ?_
                    refine g_callS (As := [.ref x9]) (rest := [.ref mp]) 1 hx hb hml hown hts hK hG hS hl.1 (mJ4_parentOf l X σr113 tg mp n ad ps K Vv lL rL pL cc_114 rtL es ks sz md hTH114 (some x9) (fun a h => by cases h; exact hDx9)) q1207 q1208 q75 q1209 (by decide +kernel) rfl ⟨Nat.le_of_ble_eq_true rfl, Nat.le_of_ble_eq_true rfl⟩ ⟨Nat.le_of_ble_eq_true rfl, Nat.le_of_ble_eq_true rfl⟩ (Nat.le_of_ble_eq_true rfl) dJ4_fixAfterDeletion_331 (kA (fun r115 σr115 H locs hp hG hS => ?_))
                    obtain ⟨rfl, rfl⟩ := hp
                    have hf116 : pL x9 = (some q1) := by rw [hqP]
                    refine g_rwv (v := .ref q1) (congrArg va_rf hf116) ?_
                    refine g_callV (As := [.ref q1]) (rest := []) 1 hx hb hml hown hts hK hG hS hl.1 (mJ4_rotateRight l X σr113 tg mp n ad ps K Vv lL rL pL cc_114 rtL es ks sz md hTH114 loL hiL hokL q1 s88 hDq1 hs88) hTH114.1 rfl q1226 q1228 qs34 q75 q1229 (by decide +kernel) rfl ⟨Nat.le_of_ble_eq_true rfl, Nat.le_of_ble_eq_true rfl⟩ ⟨Nat.le_of_ble_eq_true rfl, Nat.le_of_ble_eq_true rfl⟩ (Nat.le_of_ble_eq_true rfl) dJ4_fixAfterDeletion_334 (kV (fun σr117 H locs hp hG hS => ?_))
                    obtain ⟨l_118, r_118, p_118, rt_118, hTH118, kp118, hl_118, hr_118, hp_118, hrt_118⟩ := hp
                    have hkp118 := hkp114.tr kp118
                    have hok118 := hokL.rotR hDq1 hs88 (hl := hl_118) (hr := hr_118) (hp := hp_118) (hrt := hrt_118)
                    obtain ⟨lo_118, elo_118⟩ : ∃ z, z = va_up (va_up loL s88 (loL q1)) q1 (ps s88 + 1) := ⟨_, rfl⟩
                    obtain ⟨hi_118, ehi_118⟩ : ∃ z, z = va_up hiL s88 (hiL q1) := ⟨_, rfl⟩
                    rw [← elo_118, ← ehi_118] at hok118
                    have hlf118 : ∀ z, S z → l_118 z = none ∧ r_118 z = none ∧ tIn n ad ps z ∧ loL x9 ≤ ps z ∧ ps z < hiL x9 := fun z hz => by
                      obtain ⟨k1, k2, k3, k4, k5⟩ := hlf z hz
                      have za : z ≠ q1 := fun e => by rw [e, hs88] at k1; cases k1
                      have zb : z ≠ s88 := tIn.ne (ps := ps) (by omega)
                      exact ⟨by rw [hl_118 z k3, if_neg za, k1, if_neg (fun e => by cases e)], by rw [hr_118 z k3, if_neg zb, k2, if_neg (fun e => by cases e)], k3, k4, k5⟩
                    obtain ⟨ρ, hρ⟩ := hok118.root hDx9
                    have hρr := hok118.rx hρ
                    have hD_ρ := (hok118.rx hρ).1
                    refine lv_aload_n hx hb dJ4_fixAfterDeletion_337 rfl (lv_at hl 1 rfl) ?_
                    refine g_get (C := RJ4) (T := TJ4) (N := 9) (v := .ref ρ) hx hb hts hown hK hG hTH118.1 rfl in_J4 3 (by decide) q146 rfl (congrArg (fun q9 => some (va_rf q9)) hρ) dJ4_fixAfterDeletion_338 ?_
                    refine lv_astore_n (lv' := [(1, .ref ρ), (2, .ref s88), (0, .ref mp)]) hx hb dJ4_fixAfterDeletion_341 rfl hl (by decide) rfl (fun ls hl => ?_)
                    refine lv_goto (tgt := 0) hx hb dJ4_fixAfterDeletion_342 (by decide) ?_
                    exact ih_0 σr117 l_118 r_118 p_118 cc_114 rt_118 lo_118 hi_118 ρ (f - 1) (by omega) (hTH118) (hok118) (hkp118) (hD_ρ) (Or.inr (Or.inl hρ)) (fun z hz => by obtain ⟨k1, k2, k3, k4, k5⟩ := hlf118 z hz; exact ⟨k1, k2, k3, by omega, by have := k3.1; omega⟩)  _ _ _ hG hS (lv_sub hl [2, 0] rfl)
                  · exfalso; omega
                · refine g_aload_nR hx hb dJ4_fixAfterDeletion_252 rfl (lv_at hl 0 rfl) ?_
                  refine g_iconst hx hb dJ4_fixAfterDeletion_253 ?_
                  refine g_callS (As := [va_rf (lL q1), .int (iI 0)]) (rest := []) 2 hx hb hml hown hts hK hG hS hl.1 (mJ4_setColor l X σL tg mp n ad ps K Vv lL rL pL cL rtL es ks sz md hTHL (lL q1) (fun a h => (hokL.l1 hDq1 h).1) 0 (by omega)) q1219 q1220 q75 q1221 (by decide +kernel) rfl ⟨Nat.le_of_ble_eq_true rfl, Nat.le_of_ble_eq_true rfl⟩ ⟨Nat.le_of_ble_eq_true rfl, Nat.le_of_ble_eq_true rfl⟩ (Nat.le_of_ble_eq_true rfl) dJ4_fixAfterDeletion_254 (kV (fun σr119 H locs hp hG hS => ?_))
                  obtain ⟨hTH120, kp120⟩ := hp
                  have hkp120 := hkL.tr kp120
                  obtain ⟨cc_120, ecc_120⟩ : ∃ z : Nat → Int, z = cUp cL (lL q1) 0 := ⟨_, rfl⟩
                  rw [← ecc_120] at hTH120
                  refine lv_aload_n hx hb dJ4_fixAfterDeletion_257 rfl (lv_at hl 2 rfl) ?_
                  refine g_callS (As := [.ref x9]) (rest := []) 1 hx hb hml hown hts hK hG hS hl.1 (mJ4_parentOf l X σr119 tg mp n ad ps K Vv lL rL pL cc_120 rtL es ks sz md hTH120 (some x9) (fun a h => by cases h; exact hDx9)) q1207 q1208 q75 q1209 (by decide +kernel) rfl ⟨Nat.le_of_ble_eq_true rfl, Nat.le_of_ble_eq_true rfl⟩ ⟨Nat.le_of_ble_eq_true rfl, Nat.le_of_ble_eq_true rfl⟩ (Nat.le_of_ble_eq_true rfl) dJ4_fixAfterDeletion_258 (kA (fun r121 σr121 H locs hp hG hS => ?_))
                  obtain ⟨rfl, rfl⟩ := hp
                  have hf122 : pL x9 = (some q1) := by rw [hqP]
                  refine g_rwv (v := .ref q1) (congrArg va_rf hf122) ?_
                  refine lv_astore_n (lv' := [(1, .ref q1), (2, va_rf (lL q1)), (0, .ref mp)]) hx hb dJ4_fixAfterDeletion_261 rfl hl (by decide) rfl (fun ls hl => ?_)
                  refine lv_goto (tgt := 342) hx hb dJ4_fixAfterDeletion_262 (by decide) ?_
                  refine lv_goto (tgt := 0) hx hb dJ4_fixAfterDeletion_342 (by decide) ?_
                  exact ih_0 σr119 lL rL pL cc_120 rtL loL hiL q1 (f - 1) (by omega) (hTH120) (hokL) (hkp120) (hDq1) (Or.inr (Or.inr (by omega))) (fun z hz => by obtain ⟨k1, k2, k3, k4, k5⟩ := hlf z hz; exact ⟨k1, k2, k3, by omega, by omega⟩)  _ _ _ hG hS (lv_sub hl [2, 0] rfl)
            · obtain ⟨s123, hs123⟩ := cO_some (C := cL) (o := (lL q1)) (by omega)
              have hD_s123 := (hokL.l1 hDq1 hs123).1
              have hl : lv_has ls 3 [(2, .ref s123), (0, .ref mp), (1, .ref x9)] := by first | exact hl | (rw [hs123] at hl; exact hl)
              have ks124 := hokL.l1 hDq1 hs123
              have ks124n := hokL.num ks124.1
              have ks124x : rL q1 = some x9 := hch
              have ks124y := hokL.r1 hDq1 ks124x
              have ks124z := hokL.num ks124y.1
              have hn125 : q1 ≠ s123 := tIn.ne (ps := ps) (by omega)
              have hn126 : x9 ≠ s123 := tIn.ne (ps := ps) (by omega)
              refine lv_aload_n hx hb dJ4_fixAfterDeletion_201 rfl (lv_at hl 0 rfl) ?_
              refine g_iconst hx hb dJ4_fixAfterDeletion_202 ?_
              refine g_callS (As := [.ref s123, .int (iI 1)]) (rest := []) 2 hx hb hml hown hts hK hG hS hl.1 (mJ4_setColor l X σL tg mp n ad ps K Vv lL rL pL cL rtL es ks sz md hTHL (some s123) (fun a h => by cases h; exact hD_s123) 1 (by omega)) q1219 q1220 q75 q1221 (by decide +kernel) rfl ⟨Nat.le_of_ble_eq_true rfl, Nat.le_of_ble_eq_true rfl⟩ ⟨Nat.le_of_ble_eq_true rfl, Nat.le_of_ble_eq_true rfl⟩ (Nat.le_of_ble_eq_true rfl) dJ4_fixAfterDeletion_203 (kV (fun σr127 H locs hp hG hS => ?_))
              obtain ⟨hTH128, kp128⟩ := hp
              have hkp128 := hkL.tr kp128
              have hTH128 : TH σr127 tg mp (tIn n ad ps) K Vv lL rL pL (va_up cL s123 1) rtL es ks sz md := hTH128
              obtain ⟨cc_128, ecc_128⟩ : ∃ z : Nat → Int, z = va_up cL s123 1 := ⟨_, rfl⟩
              rw [← ecc_128] at hTH128
              refine lv_aload_n hx hb dJ4_fixAfterDeletion_206 rfl (lv_at hl 2 rfl) ?_
              refine g_callS (As := [.ref x9]) (rest := []) 1 hx hb hml hown hts hK hG hS hl.1 (mJ4_parentOf l X σr127 tg mp n ad ps K Vv lL rL pL cc_128 rtL es ks sz md hTH128 (some x9) (fun a h => by cases h; exact hDx9)) q1207 q1208 q75 q1209 (by decide +kernel) rfl ⟨Nat.le_of_ble_eq_true rfl, Nat.le_of_ble_eq_true rfl⟩ ⟨Nat.le_of_ble_eq_true rfl, Nat.le_of_ble_eq_true rfl⟩ (Nat.le_of_ble_eq_true rfl) dJ4_fixAfterDeletion_207 (kA (fun r129 σr129 H locs hp hG hS => ?_))
              obtain ⟨rfl, rfl⟩ := hp
              have hf130 : pL x9 = (some q1) := by rw [hqP]
              refine g_rwv (v := .ref q1) (congrArg va_rf hf130) ?_
              refine g_iconst hx hb dJ4_fixAfterDeletion_210 ?_
              refine g_callS (As := [.ref q1, .int (iI 0)]) (rest := []) 2 hx hb hml hown hts hK hG hS hl.1 (mJ4_setColor l X σr127 tg mp n ad ps K Vv lL rL pL cc_128 rtL es ks sz md hTH128 (some q1) (fun a h => by cases h; exact hDq1) 0 (by omega)) q1219 q1220 q75 q1221 (by decide +kernel) rfl ⟨Nat.le_of_ble_eq_true rfl, Nat.le_of_ble_eq_true rfl⟩ ⟨Nat.le_of_ble_eq_true rfl, Nat.le_of_ble_eq_true rfl⟩ (Nat.le_of_ble_eq_true rfl) dJ4_fixAfterDeletion_211 (kV (fun σr131 H locs hp hG hS => ?_))
              obtain ⟨hTH132, kp132⟩ := hp
              have hkp132 := hkp128.tr kp132
              have hTH132 : TH σr131 tg mp (tIn n ad ps) K Vv lL rL pL (va_up cc_128 q1 0) rtL es ks sz md := hTH132
              obtain ⟨cc_132, ecc_132⟩ : ∃ z : Nat → Int, z = va_up cc_128 q1 0 := ⟨_, rfl⟩
              rw [← ecc_132] at hTH132
              refine lv_aload_n hx hb dJ4_fixAfterDeletion_214 rfl (lv_at hl 1 rfl) ?_
              refine lv_aload_n hx hb dJ4_fixAfterDeletion_215 rfl (lv_at hl 2 rfl) ?_
              refine g_callS (As := [.ref x9]) (rest := [.ref mp]) 1 hx hb hml hown hts hK hG hS hl.1 (mJ4_parentOf l X σr131 tg mp n ad ps K Vv lL rL pL cc_132 rtL es ks sz md hTH132 (some x9) (fun a h => by cases h; exact hDx9)) q1207 q1208 q75 q1209 (by decide +kernel) rfl ⟨Nat.le_of_ble_eq_true rfl, Nat.le_of_ble_eq_true rfl⟩ ⟨Nat.le_of_ble_eq_true rfl, Nat.le_of_ble_eq_true rfl⟩ (Nat.le_of_ble_eq_true rfl) dJ4_fixAfterDeletion_216 (kA (fun r133 σr133 H locs hp hG hS => ?_))
              obtain ⟨rfl, rfl⟩ := hp
              have hf134 : pL x9 = (some q1) := by rw [hqP]
              refine g_rwv (v := .ref q1) (congrArg va_rf hf134) ?_
              refine g_callV (As := [.ref q1]) (rest := []) 1 hx hb hml hown hts hK hG hS hl.1 (mJ4_rotateRight l X σr131 tg mp n ad ps K Vv lL rL pL cc_132 rtL es ks sz md hTH132 loL hiL hokL q1 s123 hDq1 hs123) hTH132.1 rfl q1226 q1228 qs34 q75 q1229 (by decide +kernel) rfl ⟨Nat.le_of_ble_eq_true rfl, Nat.le_of_ble_eq_true rfl⟩ ⟨Nat.le_of_ble_eq_true rfl, Nat.le_of_ble_eq_true rfl⟩ (Nat.le_of_ble_eq_true rfl) dJ4_fixAfterDeletion_219 (kV (fun σr135 H locs hp hG hS => ?_))
              obtain ⟨l_136, r_136, p_136, rt_136, hTH136, kp136, hl_136, hr_136, hp_136, hrt_136⟩ := hp
              have hkp136 := hkp132.tr kp136
              have hok136 := hokL.rotR hDq1 hs123 (hl := hl_136) (hr := hr_136) (hp := hp_136) (hrt := hrt_136)
              obtain ⟨lo_136, elo_136⟩ : ∃ z, z = va_up (va_up loL s123 (loL q1)) q1 (ps s123 + 1) := ⟨_, rfl⟩
              obtain ⟨hi_136, ehi_136⟩ : ∃ z, z = va_up hiL s123 (hiL q1) := ⟨_, rfl⟩
              rw [← elo_136, ← ehi_136] at hok136
              have hlf136 : ∀ z, S z → l_136 z = none ∧ r_136 z = none ∧ tIn n ad ps z ∧ loL x9 ≤ ps z ∧ ps z < hiL x9 := fun z hz => by
                obtain ⟨k1, k2, k3, k4, k5⟩ := hlf z hz
                have za : z ≠ q1 := fun e => by rw [e, hs123] at k1; cases k1
                have zb : z ≠ s123 := tIn.ne (ps := ps) (by omega)
                exact ⟨by rw [hl_136 z k3, if_neg za, k1, if_neg (fun e => by cases e)], by rw [hr_136 z k3, if_neg zb, k2, if_neg (fun e => by cases e)], k3, k4, k5⟩
              have hno136 : ¬ rL s123 = some x9 := fun k => by have q5 := (hokL.r1 hD_s123 k).2.2.2; rw [hqP] at q5; exact hn125 (Option.some.inj q5)
              have hpx136 : p_136 x9 = some q1 := by rw [hp_136 x9 hDx9, if_neg hn126, if_neg hxq, if_neg hno136]; exact hqP
              have hch136 : r_136 q1 = some x9 := by rw [hr_136 q1 hDq1, if_neg hn125, hch, if_neg (some_ne hxq)]
              have hq5136 := hok136.r1 hDq1 hch136
              have hq6136 := hok136.num hDq1
              have hq7136 : hi_136 q1 = hiL q1 := by rw [ehi_136, va_up_ne _ _ hn125]
              have hq8136 : lo_136 q1 = ps s123 + 1 := by rw [elo_136, va_up_self]
              refine lv_aload_n hx hb dJ4_fixAfterDeletion_222 rfl (lv_at hl 2 rfl) ?_
              refine g_callS (As := [.ref x9]) (rest := []) 1 hx hb hml hown hts hK hG hS hl.1 (mJ4_parentOf l X σr135 tg mp n ad ps K Vv l_136 r_136 p_136 cc_132 rt_136 es ks sz md hTH136 (some x9) (fun a h => by cases h; exact hDx9)) q1207 q1208 q75 q1209 (by decide +kernel) rfl ⟨Nat.le_of_ble_eq_true rfl, Nat.le_of_ble_eq_true rfl⟩ ⟨Nat.le_of_ble_eq_true rfl, Nat.le_of_ble_eq_true rfl⟩ (Nat.le_of_ble_eq_true rfl) dJ4_fixAfterDeletion_223 (kA (fun r137 σr137 H locs hp hG hS => ?_))
              obtain ⟨rfl, rfl⟩ := hp
              have hf138 : p_136 x9 = (some q1) := by rw [hpx136]
              refine g_rwv (v := .ref q1) (congrArg va_rf hf138) ?_
              refine g_callS (As := [.ref q1]) (rest := []) 1 hx hb hml hown hts hK hG hS hl.1 (mJ4_leftOf l X σr135 tg mp n ad ps K Vv l_136 r_136 p_136 cc_132 rt_136 es ks sz md hTH136 (some q1) (fun a h => by cases h; exact hDq1)) q1210 q1211 q75 q1212 (by decide +kernel) rfl ⟨Nat.le_of_ble_eq_true rfl, Nat.le_of_ble_eq_true rfl⟩ ⟨Nat.le_of_ble_eq_true rfl, Nat.le_of_ble_eq_true rfl⟩ (Nat.le_of_ble_eq_true rfl) dJ4_fixAfterDeletion_226 (kA (fun r139 σr139 H locs hp hG hS => ?_))
              obtain ⟨rfl, rfl⟩ := hp
              refine g_rwv (v := va_rf (l_136 q1)) rfl ?_
              refine g_astore_nR (lv' := [(2, va_rf (l_136 q1)), (0, .ref mp), (1, .ref x9)]) hx hb dJ4_fixAfterDeletion_229 rfl hl (by decide) rfl (fun ls hl => ?_)
              refine g_aload_nR hx hb dJ4_fixAfterDeletion_230 rfl (lv_at hl 0 rfl) ?_
              refine g_callS (As := [va_rf (l_136 q1)]) (rest := []) 1 hx hb hml hown hts hK hG hS hl.1 (mJ4_rightOf l X σr135 tg mp n ad ps K Vv l_136 r_136 p_136 cc_132 rt_136 es ks sz md hTH136 (l_136 q1) (fun a h => (hok136.l1 hDq1 h).1)) q1213 q1214 q75 q1215 (by decide +kernel) rfl ⟨Nat.le_of_ble_eq_true rfl, Nat.le_of_ble_eq_true rfl⟩ ⟨Nat.le_of_ble_eq_true rfl, Nat.le_of_ble_eq_true rfl⟩ (Nat.le_of_ble_eq_true rfl) dJ4_fixAfterDeletion_231 (kA (fun r140 σr140 H locs hp hG hS => ?_))
              obtain ⟨rfl, rfl⟩ := hp
              refine g_callS (As := [va_rf ((l_136 q1).bind r_136)]) (rest := []) 1 hx hb hml hown hts hK hG hS hl.1 (mJ4_colorOf l X σr135 tg mp n ad ps K Vv l_136 r_136 p_136 cc_132 rt_136 es ks sz md hTH136 ((l_136 q1).bind r_136) (fun a h => by obtain ⟨z, h1, h2⟩ := Option.bind_eq_some_iff.mp h; exact (hok136.r1 ((fun a h => (hok136.l1 hDq1 h).1) z h1) h2).1)) q1216 q1217 q75 q1218 (by decide +kernel) rfl ⟨Nat.le_of_ble_eq_true rfl, Nat.le_of_ble_eq_true rfl⟩ ⟨Nat.le_of_ble_eq_true rfl, Nat.le_of_ble_eq_true rfl⟩ (Nat.le_of_ble_eq_true rfl) dJ4_fixAfterDeletion_234 (kI (fun r141 σr141 H locs hp hG hS => ?_))
              obtain ⟨hr141, rfl⟩ := hp
              refine g_rw (b := (cO cc_132 ((l_136 q1).bind r_136))) hr141 ?_
              have hc142 : (cO cc_132 ((l_136 q1).bind r_136)) = 0 ∨ (cO cc_132 ((l_136 q1).bind r_136)) = 1 := cO_r (fun a h => hTH136.2.2 _ ((fun a h => by obtain ⟨z, h1, h2⟩ := Option.bind_eq_some_iff.mp h; exact (hok136.r1 ((fun a h => (hok136.l1 hDq1 h).1) z h1) h2).1) a h))
              refine g_iconst hx hb dJ4_fixAfterDeletion_237 ?_
              refine g_icmp_ne (tgt := 265) hx hb dJ4_fixAfterDeletion_238 (by decide) (by omega) (by omega) (fun cq143 => ?_) (fun cq143 => ?_)
              · obtain ⟨c144, hc144⟩ := cO_some (C := cc_132) (o := ((l_136 q1).bind r_136)) (by omega)
                obtain ⟨s145, hs145, gc144⟩ := Option.bind_eq_some_iff.mp hc144
                have nbc144 : ¬ cc_132 c144 = 1 := by
                  intro k
                  have q5 : cO cc_132 ((l_136 q1).bind r_136) = 1 := by rw [hc144]; exact k
                  omega
                have hD_s145 := (hok136.l1 hDq1 hs145).1
                have hl : lv_has ls 3 [(2, .ref s145), (0, .ref mp), (1, .ref x9)] := by first | exact hl | (rw [hs145] at hl; exact hl)
                have ks146 := hok136.l1 hDq1 hs145
                have ks146n := hok136.num ks146.1
                have ks146x : r_136 q1 = some x9 := hch136
                have ks146y := hok136.r1 hDq1 ks146x
                have ks146z := hok136.num ks146y.1
                have hn147 : q1 ≠ s145 := tIn.ne (ps := ps) (by omega)
                have hn148 : x9 ≠ s145 := tIn.ne (ps := ps) (by omega)
                have hn149 : s123 ≠ s145 := tIn.ne (ps := ps) (by omega)
                have hD_c144 := (hok136.r1 hD_s145 gc144).1
                have kc150 := hok136.r1 hD_s145 gc144
                have kc150n := hok136.num kc150.1
                have hn151 : q1 ≠ c144 := tIn.ne (ps := ps) (by omega)
                have hn152 : x9 ≠ c144 := tIn.ne (ps := ps) (by omega)
                have hn153 : s145 ≠ c144 := tIn.ne (ps := ps) (by omega)
                have hn154 : s123 ≠ c144 := tIn.ne (ps := ps) (by omega)
                refine lv_aload_n hx hb dJ4_fixAfterDeletion_265 rfl (lv_at hl 0 rfl) ?_
                refine g_callS (As := [.ref s145]) (rest := []) 1 hx hb hml hown hts hK hG hS hl.1 (mJ4_leftOf l X σr135 tg mp n ad ps K Vv l_136 r_136 p_136 cc_132 rt_136 es ks sz md hTH136 (some s145) (fun a h => by cases h; exact hD_s145)) q1210 q1211 q75 q1212 (by decide +kernel) rfl ⟨Nat.le_of_ble_eq_true rfl, Nat.le_of_ble_eq_true rfl⟩ ⟨Nat.le_of_ble_eq_true rfl, Nat.le_of_ble_eq_true rfl⟩ (Nat.le_of_ble_eq_true rfl) dJ4_fixAfterDeletion_266 (kA (fun r155 σr155 H locs hp hG hS => ?_))
                obtain ⟨rfl, rfl⟩ := hp
                refine g_rwv (v := va_rf (l_136 s145)) rfl ?_
                refine g_callS (As := [va_rf (l_136 s145)]) (rest := []) 1 hx hb hml hown hts hK hG hS hl.1 (mJ4_colorOf l X σr135 tg mp n ad ps K Vv l_136 r_136 p_136 cc_132 rt_136 es ks sz md hTH136 (l_136 s145) (fun a h => (hok136.l1 hD_s145 h).1)) q1216 q1217 q75 q1218 (by decide +kernel) rfl ⟨Nat.le_of_ble_eq_true rfl, Nat.le_of_ble_eq_true rfl⟩ ⟨Nat.le_of_ble_eq_true rfl, Nat.le_of_ble_eq_true rfl⟩ (Nat.le_of_ble_eq_true rfl) dJ4_fixAfterDeletion_269 (kI (fun r156 σr156 H locs hp hG hS => ?_))
                obtain ⟨hr156, rfl⟩ := hp
                refine g_rw (b := (cO cc_132 (l_136 s145))) hr156 ?_
                have hc157 : (cO cc_132 (l_136 s145)) = 0 ∨ (cO cc_132 (l_136 s145)) = 1 := cO_r (fun a h => hTH136.2.2 _ ((fun a h => (hok136.l1 hD_s145 h).1) a h))
                refine g_iconst hx hb dJ4_fixAfterDeletion_272 ?_
                refine g_icmp_ne (tgt := 302) hx hb dJ4_fixAfterDeletion_273 (by decide) (by omega) (by omega) (fun cq158 => ?_) (fun cq158 => ?_)
                · refine lv_aload_n hx hb dJ4_fixAfterDeletion_302 rfl (lv_at hl 0 rfl) ?_
                  refine lv_aload_n hx hb dJ4_fixAfterDeletion_303 rfl (lv_at hl 2 rfl) ?_
                  refine g_callS (As := [.ref x9]) (rest := [.ref s145]) 1 hx hb hml hown hts hK hG hS hl.1 (mJ4_parentOf l X σr135 tg mp n ad ps K Vv l_136 r_136 p_136 cc_132 rt_136 es ks sz md hTH136 (some x9) (fun a h => by cases h; exact hDx9)) q1207 q1208 q75 q1209 (by decide +kernel) rfl ⟨Nat.le_of_ble_eq_true rfl, Nat.le_of_ble_eq_true rfl⟩ ⟨Nat.le_of_ble_eq_true rfl, Nat.le_of_ble_eq_true rfl⟩ (Nat.le_of_ble_eq_true rfl) dJ4_fixAfterDeletion_304 (kA (fun r159 σr159 H locs hp hG hS => ?_))
                  obtain ⟨rfl, rfl⟩ := hp
                  have hf160 : p_136 x9 = (some q1) := by rw [hpx136]
                  refine g_rwv (v := .ref q1) (congrArg va_rf hf160) ?_
                  refine g_callS (As := [.ref q1]) (rest := [.ref s145]) 1 hx hb hml hown hts hK hG hS hl.1 (mJ4_colorOf l X σr135 tg mp n ad ps K Vv l_136 r_136 p_136 cc_132 rt_136 es ks sz md hTH136 (some q1) (fun a h => by cases h; exact hDq1)) q1216 q1217 q75 q1218 (by decide +kernel) rfl ⟨Nat.le_of_ble_eq_true rfl, Nat.le_of_ble_eq_true rfl⟩ ⟨Nat.le_of_ble_eq_true rfl, Nat.le_of_ble_eq_true rfl⟩ (Nat.le_of_ble_eq_true rfl) dJ4_fixAfterDeletion_307 (kI (fun r161 σr161 H locs hp hG hS => ?_))
                  obtain ⟨hr161, rfl⟩ := hp
                  have hf162 : cc_132 q1 = 0 := by rw [ecc_132, va_up_self]
                  refine g_rw (b := 0) (hr161.trans hf162) ?_
                  have hc163 := hTH136.2.2 _ hDq1
                  rw [hf162] at hc163
                  refine g_callS (As := [.ref s145, .int (iI 0)]) (rest := []) 2 hx hb hml hown hts hK hG hS hl.1 (mJ4_setColor l X σr135 tg mp n ad ps K Vv l_136 r_136 p_136 cc_132 rt_136 es ks sz md hTH136 (some s145) (fun a h => by cases h; exact hD_s145) 0 (by omega)) q1219 q1220 q75 q1221 (by decide +kernel) rfl ⟨Nat.le_of_ble_eq_true rfl, Nat.le_of_ble_eq_true rfl⟩ ⟨Nat.le_of_ble_eq_true rfl, Nat.le_of_ble_eq_true rfl⟩ (Nat.le_of_ble_eq_true rfl) dJ4_fixAfterDeletion_310 (kV (fun σr164 H locs hp hG hS => ?_))
                  obtain ⟨hTH165, kp165⟩ := hp
                  have hkp165 := hkp136.tr kp165
                  have hTH165 : TH σr164 tg mp (tIn n ad ps) K Vv l_136 r_136 p_136 (va_up cc_132 s145 0) rt_136 es ks sz md := hTH165
                  obtain ⟨cc_165, ecc_165⟩ : ∃ z : Nat → Int, z = va_up cc_132 s145 0 := ⟨_, rfl⟩
                  rw [← ecc_165] at hTH165
                  refine lv_aload_n hx hb dJ4_fixAfterDeletion_313 rfl (lv_at hl 2 rfl) ?_
                  refine g_callS (As := [.ref x9]) (rest := []) 1 hx hb hml hown hts hK hG hS hl.1 (mJ4_parentOf l X σr164 tg mp n ad ps K Vv l_136 r_136 p_136 cc_165 rt_136 es ks sz md hTH165 (some x9) (fun a h => by cases h; exact hDx9)) q1207 q1208 q75 q1209 (by decide +kernel) rfl ⟨Nat.le_of_ble_eq_true rfl, Nat.le_of_ble_eq_true rfl⟩ ⟨Nat.le_of_ble_eq_true rfl, Nat.le_of_ble_eq_true rfl⟩ (Nat.le_of_ble_eq_true rfl) dJ4_fixAfterDeletion_314 (kA (fun r166 σr166 H locs hp hG hS => ?_))
                  obtain ⟨rfl, rfl⟩ := hp
                  have hf167 : p_136 x9 = (some q1) := by rw [hpx136]
                  refine g_rwv (v := .ref q1) (congrArg va_rf hf167) ?_
                  refine g_iconst hx hb dJ4_fixAfterDeletion_317 ?_
                  refine g_callS (As := [.ref q1, .int (iI 1)]) (rest := []) 2 hx hb hml hown hts hK hG hS hl.1 (mJ4_setColor l X σr164 tg mp n ad ps K Vv l_136 r_136 p_136 cc_165 rt_136 es ks sz md hTH165 (some q1) (fun a h => by cases h; exact hDq1) 1 (by omega)) q1219 q1220 q75 q1221 (by decide +kernel) rfl ⟨Nat.le_of_ble_eq_true rfl, Nat.le_of_ble_eq_true rfl⟩ ⟨Nat.le_of_ble_eq_true rfl, Nat.le_of_ble_eq_true rfl⟩ (Nat.le_of_ble_eq_true rfl) dJ4_fixAfterDeletion_318 (kV (fun σr168 H locs hp hG hS => ?_))
                  obtain ⟨hTH169, kp169⟩ := hp
                  have hkp169 := hkp165.tr kp169
                  have hTH169 : TH σr168 tg mp (tIn n ad ps) K Vv l_136 r_136 p_136 (va_up cc_165 q1 1) rt_136 es ks sz md := hTH169
                  obtain ⟨cc_169, ecc_169⟩ : ∃ z : Nat → Int, z = va_up cc_165 q1 1 := ⟨_, rfl⟩
                  rw [← ecc_169] at hTH169
                  refine lv_aload_n hx hb dJ4_fixAfterDeletion_321 rfl (lv_at hl 0 rfl) ?_
                  refine g_callS (As := [.ref s145]) (rest := []) 1 hx hb hml hown hts hK hG hS hl.1 (mJ4_leftOf l X σr168 tg mp n ad ps K Vv l_136 r_136 p_136 cc_169 rt_136 es ks sz md hTH169 (some s145) (fun a h => by cases h; exact hD_s145)) q1210 q1211 q75 q1212 (by decide +kernel) rfl ⟨Nat.le_of_ble_eq_true rfl, Nat.le_of_ble_eq_true rfl⟩ ⟨Nat.le_of_ble_eq_true rfl, Nat.le_of_ble_eq_true rfl⟩ (Nat.le_of_ble_eq_true rfl) dJ4_fixAfterDeletion_322 (kA (fun r170 σr170 H locs hp hG hS => ?_))
                  obtain ⟨rfl, rfl⟩ := hp
                  refine g_rwv (v := va_rf (l_136 s145)) rfl ?_
                  refine g_iconst hx hb dJ4_fixAfterDeletion_325 ?_
                  refine g_callS (As := [va_rf (l_136 s145), .int (iI 1)]) (rest := []) 2 hx hb hml hown hts hK hG hS hl.1 (mJ4_setColor l X σr168 tg mp n ad ps K Vv l_136 r_136 p_136 cc_169 rt_136 es ks sz md hTH169 (l_136 s145) (fun a h => (hok136.l1 hD_s145 h).1) 1 (by omega)) q1219 q1220 q75 q1221 (by decide +kernel) rfl ⟨Nat.le_of_ble_eq_true rfl, Nat.le_of_ble_eq_true rfl⟩ ⟨Nat.le_of_ble_eq_true rfl, Nat.le_of_ble_eq_true rfl⟩ (Nat.le_of_ble_eq_true rfl) dJ4_fixAfterDeletion_326 (kV (fun σr171 H locs hp hG hS => ?_))
                  obtain ⟨hTH172, kp172⟩ := hp
                  have hkp172 := hkp169.tr kp172
                  obtain ⟨cc_172, ecc_172⟩ : ∃ z : Nat → Int, z = cUp cc_169 (l_136 s145) 1 := ⟨_, rfl⟩
                  rw [← ecc_172] at hTH172
                  refine lv_aload_n hx hb dJ4_fixAfterDeletion_329 rfl (lv_at hl 1 rfl) ?_
                  refine lv_aload_n hx hb dJ4_fixAfterDeletion_330 rfl (lv_at hl 2 rfl) ?_
                  refine g_callS (As := [.ref x9]) (rest := [.ref mp]) 1 hx hb hml hown hts hK hG hS hl.1 (mJ4_parentOf l X σr171 tg mp n ad ps K Vv l_136 r_136 p_136 cc_172 rt_136 es ks sz md hTH172 (some x9) (fun a h => by cases h; exact hDx9)) q1207 q1208 q75 q1209 (by decide +kernel) rfl ⟨Nat.le_of_ble_eq_true rfl, Nat.le_of_ble_eq_true rfl⟩ ⟨Nat.le_of_ble_eq_true rfl, Nat.le_of_ble_eq_true rfl⟩ (Nat.le_of_ble_eq_true rfl) dJ4_fixAfterDeletion_331 (kA (fun r173 σr173 H locs hp hG hS => ?_))
                  obtain ⟨rfl, rfl⟩ := hp
                  have hf174 : p_136 x9 = (some q1) := by rw [hpx136]
                  refine g_rwv (v := .ref q1) (congrArg va_rf hf174) ?_
                  refine g_callV (As := [.ref q1]) (rest := []) 1 hx hb hml hown hts hK hG hS hl.1 (mJ4_rotateRight l X σr171 tg mp n ad ps K Vv l_136 r_136 p_136 cc_172 rt_136 es ks sz md hTH172 lo_136 hi_136 hok136 q1 s145 hDq1 hs145) hTH172.1 rfl q1226 q1228 qs34 q75 q1229 (by decide +kernel) rfl ⟨Nat.le_of_ble_eq_true rfl, Nat.le_of_ble_eq_true rfl⟩ ⟨Nat.le_of_ble_eq_true rfl, Nat.le_of_ble_eq_true rfl⟩ (Nat.le_of_ble_eq_true rfl) dJ4_fixAfterDeletion_334 (kV (fun σr175 H locs hp hG hS => ?_))
                  obtain ⟨l_176, r_176, p_176, rt_176, hTH176, kp176, hl_176, hr_176, hp_176, hrt_176⟩ := hp
                  have hkp176 := hkp172.tr kp176
                  have hok176 := hok136.rotR hDq1 hs145 (hl := hl_176) (hr := hr_176) (hp := hp_176) (hrt := hrt_176)
                  obtain ⟨lo_176, elo_176⟩ : ∃ z, z = va_up (va_up lo_136 s145 (lo_136 q1)) q1 (ps s145 + 1) := ⟨_, rfl⟩
                  obtain ⟨hi_176, ehi_176⟩ : ∃ z, z = va_up hi_136 s145 (hi_136 q1) := ⟨_, rfl⟩
                  rw [← elo_176, ← ehi_176] at hok176
                  have hlf176 : ∀ z, S z → l_176 z = none ∧ r_176 z = none ∧ tIn n ad ps z ∧ loL x9 ≤ ps z ∧ ps z < hiL x9 := fun z hz => by
                    obtain ⟨k1, k2, k3, k4, k5⟩ := hlf136 z hz
                    have za : z ≠ q1 := fun e => by rw [e, hs145] at k1; cases k1
                    have zb : z ≠ s145 := tIn.ne (ps := ps) (by omega)
                    exact ⟨by rw [hl_176 z k3, if_neg za, k1, if_neg (fun e => by cases e)], by rw [hr_176 z k3, if_neg zb, k2, if_neg (fun e => by cases e)], k3, k4, k5⟩
                  obtain ⟨ρ, hρ⟩ := hok176.root hDx9
                  have hρr := hok176.rx hρ
                  have hD_ρ := (hok176.rx hρ).1
                  refine lv_aload_n hx hb dJ4_fixAfterDeletion_337 rfl (lv_at hl 1 rfl) ?_
                  refine g_get (C := RJ4) (T := TJ4) (N := 9) (v := .ref ρ) hx hb hts hown hK hG hTH176.1 rfl in_J4 3 (by decide) q146 rfl (congrArg (fun q9 => some (va_rf q9)) hρ) dJ4_fixAfterDeletion_338 ?_
                  refine lv_astore_n (lv' := [(1, .ref ρ), (2, .ref s145), (0, .ref mp)]) hx hb dJ4_fixAfterDeletion_341 rfl hl (by decide) rfl (fun ls hl => ?_)
                  refine lv_goto (tgt := 0) hx hb dJ4_fixAfterDeletion_342 (by decide) ?_
                  exact ih_0 σr175 l_176 r_176 p_176 cc_172 rt_176 lo_176 hi_176 ρ (f - 1) (by omega) (hTH176) (hok176) (hkp176) (hD_ρ) (Or.inr (Or.inl hρ)) (fun z hz => by obtain ⟨k1, k2, k3, k4, k5⟩ := hlf176 z hz; exact ⟨k1, k2, k3, by omega, by have := k3.1; omega⟩)  _ _ _ hG hS (lv_sub hl [2, 0] rfl)
                · refine lv_aload_n hx hb dJ4_fixAfterDeletion_276 rfl (lv_at hl 0 rfl) ?_
                  refine g_callS (As := [.ref s145]) (rest := []) 1 hx hb hml hown hts hK hG hS hl.1 (mJ4_rightOf l X σr135 tg mp n ad ps K Vv l_136 r_136 p_136 cc_132 rt_136 es ks sz md hTH136 (some s145) (fun a h => by cases h; exact hD_s145)) q1213 q1214 q75 q1215 (by decide +kernel) rfl ⟨Nat.le_of_ble_eq_true rfl, Nat.le_of_ble_eq_true rfl⟩ ⟨Nat.le_of_ble_eq_true rfl, Nat.le_of_ble_eq_true rfl⟩ (Nat.le_of_ble_eq_true rfl) dJ4_fixAfterDeletion_277 (kA (fun r177 σr177 H locs hp hG hS => ?_))
                  obtain ⟨rfl, rfl⟩ := hp
                  have hf178 : r_136 s145 = (some c144) := by rw [gc144]
                  refine g_rwv (v := .ref c144) (congrArg va_rf hf178) ?_
                  refine g_iconst hx hb dJ4_fixAfterDeletion_280 ?_
                  refine g_callS (As := [.ref c144, .int (iI 1)]) (rest := []) 2 hx hb hml hown hts hK hG hS hl.1 (mJ4_setColor l X σr135 tg mp n ad ps K Vv l_136 r_136 p_136 cc_132 rt_136 es ks sz md hTH136 (some c144) (fun a h => by cases h; exact hD_c144) 1 (by omega)) q1219 q1220 q75 q1221 (by decide +kernel) rfl ⟨Nat.le_of_ble_eq_true rfl, Nat.le_of_ble_eq_true rfl⟩ ⟨Nat.le_of_ble_eq_true rfl, Nat.le_of_ble_eq_true rfl⟩ (Nat.le_of_ble_eq_true rfl) dJ4_fixAfterDeletion_281 (kV (fun σr179 H locs hp hG hS => ?_))
                  obtain ⟨hTH180, kp180⟩ := hp
                  have hkp180 := hkp136.tr kp180
                  have hTH180 : TH σr179 tg mp (tIn n ad ps) K Vv l_136 r_136 p_136 (va_up cc_132 c144 1) rt_136 es ks sz md := hTH180
                  obtain ⟨cc_180, ecc_180⟩ : ∃ z : Nat → Int, z = va_up cc_132 c144 1 := ⟨_, rfl⟩
                  rw [← ecc_180] at hTH180
                  refine lv_aload_n hx hb dJ4_fixAfterDeletion_284 rfl (lv_at hl 0 rfl) ?_
                  refine g_iconst hx hb dJ4_fixAfterDeletion_285 ?_
                  refine g_callS (As := [.ref s145, .int (iI 0)]) (rest := []) 2 hx hb hml hown hts hK hG hS hl.1 (mJ4_setColor l X σr179 tg mp n ad ps K Vv l_136 r_136 p_136 cc_180 rt_136 es ks sz md hTH180 (some s145) (fun a h => by cases h; exact hD_s145) 0 (by omega)) q1219 q1220 q75 q1221 (by decide +kernel) rfl ⟨Nat.le_of_ble_eq_true rfl, Nat.le_of_ble_eq_true rfl⟩ ⟨Nat.le_of_ble_eq_true rfl, Nat.le_of_ble_eq_true rfl⟩ (Nat.le_of_ble_eq_true rfl) dJ4_fixAfterDeletion_286 (kV (fun σr181 H locs hp hG hS => ?_))
                  obtain ⟨hTH182, kp182⟩ := hp
                  have hkp182 := hkp180.tr kp182
                  have hTH182 : TH σr181 tg mp (tIn n ad ps) K Vv l_136 r_136 p_136 (va_up cc_180 s145 0) rt_136 es ks sz md := hTH182
                  obtain ⟨cc_182, ecc_182⟩ : ∃ z : Nat → Int, z = va_up cc_180 s145 0 := ⟨_, rfl⟩
                  rw [← ecc_182] at hTH182
                  refine lv_aload_n hx hb dJ4_fixAfterDeletion_289 rfl (lv_at hl 1 rfl) ?_
                  refine lv_aload_n hx hb dJ4_fixAfterDeletion_290 rfl (lv_at hl 0 rfl) ?_
                  refine g_callV (As := [.ref s145]) (rest := []) 1 hx hb hml hown hts hK hG hS hl.1 (mJ4_rotateLeft l X σr181 tg mp n ad ps K Vv l_136 r_136 p_136 cc_182 rt_136 es ks sz md hTH182 lo_136 hi_136 hok136 s145 c144 hD_s145 gc144) hTH182.1 rfl q1222 q1224 qs33 q75 q1225 (by decide +kernel) rfl ⟨Nat.le_of_ble_eq_true rfl, Nat.le_of_ble_eq_true rfl⟩ ⟨Nat.le_of_ble_eq_true rfl, Nat.le_of_ble_eq_true rfl⟩ (Nat.le_of_ble_eq_true rfl) dJ4_fixAfterDeletion_291 (kV (fun σr183 H locs hp hG hS => ?_))
                  obtain ⟨l_184, r_184, p_184, rt_184, hTH184, kp184, hl_184, hr_184, hp_184, hrt_184⟩ := hp
                  have hkp184 := hkp182.tr kp184
                  have hok184 := hok136.rotL hD_s145 gc144 (hl := hl_184) (hr := hr_184) (hp := hp_184) (hrt := hrt_184)
                  obtain ⟨lo_184, elo_184⟩ : ∃ z, z = va_up lo_136 c144 (lo_136 s145) := ⟨_, rfl⟩
                  obtain ⟨hi_184, ehi_184⟩ : ∃ z, z = va_up (va_up hi_136 c144 (hi_136 s145)) s145 (ps c144) := ⟨_, rfl⟩
                  rw [← elo_184, ← ehi_184] at hok184
                  have hlf184 : ∀ z, S z → l_184 z = none ∧ r_184 z = none ∧ tIn n ad ps z ∧ loL x9 ≤ ps z ∧ ps z < hiL x9 := fun z hz => by
                    obtain ⟨k1, k2, k3, k4, k5⟩ := hlf136 z hz
                    have za : z ≠ s145 := fun e => by rw [e, gc144] at k2; cases k2
                    have zb : z ≠ c144 := tIn.ne (ps := ps) (by omega)
                    exact ⟨by rw [hl_184 z k3, if_neg zb, k1, if_neg (fun e => by cases e)], by rw [hr_184 z k3, if_neg za, k2, if_neg (fun e => by cases e)], k3, k4, k5⟩
                  have hno184 : ¬ l_136 c144 = some x9 := fun k => by have q5 := (hok136.l1 hD_c144 k).2.2.2; rw [hpx136] at q5; exact hn151 (Option.some.inj q5)
                  have hpx184 : p_184 x9 = some q1 := by rw [hp_184 x9 hDx9, if_neg hn152, if_neg hn148, if_neg hno184]; exact hpx136
                  have hfar184 : l_184 q1 = some c144 := by rw [hl_184 q1 hDq1, if_neg hn151, if_pos hs145]
                  have hq8184 := hok184.l1 hDq1 hfar184
                  have hq9184 := hok184.num hq8184.1
                  refine lv_aload_n hx hb dJ4_fixAfterDeletion_294 rfl (lv_at hl 2 rfl) ?_
                  refine g_callS (As := [.ref x9]) (rest := []) 1 hx hb hml hown hts hK hG hS hl.1 (mJ4_parentOf l X σr183 tg mp n ad ps K Vv l_184 r_184 p_184 cc_182 rt_184 es ks sz md hTH184 (some x9) (fun a h => by cases h; exact hDx9)) q1207 q1208 q75 q1209 (by decide +kernel) rfl ⟨Nat.le_of_ble_eq_true rfl, Nat.le_of_ble_eq_true rfl⟩ ⟨Nat.le_of_ble_eq_true rfl, Nat.le_of_ble_eq_true rfl⟩ (Nat.le_of_ble_eq_true rfl) dJ4_fixAfterDeletion_295 (kA (fun r185 σr185 H locs hp hG hS => ?_))
                  obtain ⟨rfl, rfl⟩ := hp
                  have hf186 : p_184 x9 = (some q1) := by rw [hpx184]
                  refine g_rwv (v := .ref q1) (congrArg va_rf hf186) ?_
                  refine g_callS (As := [.ref q1]) (rest := []) 1 hx hb hml hown hts hK hG hS hl.1 (mJ4_leftOf l X σr183 tg mp n ad ps K Vv l_184 r_184 p_184 cc_182 rt_184 es ks sz md hTH184 (some q1) (fun a h => by cases h; exact hDq1)) q1210 q1211 q75 q1212 (by decide +kernel) rfl ⟨Nat.le_of_ble_eq_true rfl, Nat.le_of_ble_eq_true rfl⟩ ⟨Nat.le_of_ble_eq_true rfl, Nat.le_of_ble_eq_true rfl⟩ (Nat.le_of_ble_eq_true rfl) dJ4_fixAfterDeletion_298 (kA (fun r187 σr187 H locs hp hG hS => ?_))
                  obtain ⟨rfl, rfl⟩ := hp
                  have hf188 : l_184 q1 = (some c144) := by rw [hfar184]
                  refine g_rwv (v := .ref c144) (congrArg va_rf hf188) ?_
                  refine lv_astore_n (lv' := [(2, .ref c144), (0, .ref mp), (1, .ref x9)]) hx hb dJ4_fixAfterDeletion_301 rfl hl (by decide) rfl (fun ls hl => ?_)
                  refine lv_aload_n hx hb dJ4_fixAfterDeletion_302 rfl (lv_at hl 0 rfl) ?_
                  refine lv_aload_n hx hb dJ4_fixAfterDeletion_303 rfl (lv_at hl 2 rfl) ?_
                  refine g_callS (As := [.ref x9]) (rest := [.ref c144]) 1 hx hb hml hown hts hK hG hS hl.1 (mJ4_parentOf l X σr183 tg mp n ad ps K Vv l_184 r_184 p_184 cc_182 rt_184 es ks sz md hTH184 (some x9) (fun a h => by cases h; exact hDx9)) q1207 q1208 q75 q1209 (by decide +kernel) rfl ⟨Nat.le_of_ble_eq_true rfl, Nat.le_of_ble_eq_true rfl⟩ ⟨Nat.le_of_ble_eq_true rfl, Nat.le_of_ble_eq_true rfl⟩ (Nat.le_of_ble_eq_true rfl) dJ4_fixAfterDeletion_304 (kA (fun r189 σr189 H locs hp hG hS => ?_))
                  obtain ⟨rfl, rfl⟩ := hp
                  have hf190 : p_184 x9 = (some q1) := by rw [hpx184]
                  refine g_rwv (v := .ref q1) (congrArg va_rf hf190) ?_
                  refine g_callS (As := [.ref q1]) (rest := [.ref c144]) 1 hx hb hml hown hts hK hG hS hl.1 (mJ4_colorOf l X σr183 tg mp n ad ps K Vv l_184 r_184 p_184 cc_182 rt_184 es ks sz md hTH184 (some q1) (fun a h => by cases h; exact hDq1)) q1216 q1217 q75 q1218 (by decide +kernel) rfl ⟨Nat.le_of_ble_eq_true rfl, Nat.le_of_ble_eq_true rfl⟩ ⟨Nat.le_of_ble_eq_true rfl, Nat.le_of_ble_eq_true rfl⟩ (Nat.le_of_ble_eq_true rfl) dJ4_fixAfterDeletion_307 (kI (fun r191 σr191 H locs hp hG hS => ?_))
                  obtain ⟨hr191, rfl⟩ := hp
                  have hf192 : cc_182 q1 = 0 := by rw [ecc_182, va_up_ne _ _ hn147, ecc_180, va_up_ne _ _ hn151, ecc_132, va_up_self]
                  refine g_rw (b := 0) (hr191.trans hf192) ?_
                  have hc193 := hTH184.2.2 _ hDq1
                  rw [hf192] at hc193
                  refine g_callS (As := [.ref c144, .int (iI 0)]) (rest := []) 2 hx hb hml hown hts hK hG hS hl.1 (mJ4_setColor l X σr183 tg mp n ad ps K Vv l_184 r_184 p_184 cc_182 rt_184 es ks sz md hTH184 (some c144) (fun a h => by cases h; exact hD_c144) 0 (by omega)) q1219 q1220 q75 q1221 (by decide +kernel) rfl ⟨Nat.le_of_ble_eq_true rfl, Nat.le_of_ble_eq_true rfl⟩ ⟨Nat.le_of_ble_eq_true rfl, Nat.le_of_ble_eq_true rfl⟩ (Nat.le_of_ble_eq_true rfl) dJ4_fixAfterDeletion_310 (kV (fun σr194 H locs hp hG hS => ?_))
                  obtain ⟨hTH195, kp195⟩ := hp
                  have hkp195 := hkp184.tr kp195
                  have hTH195 : TH σr194 tg mp (tIn n ad ps) K Vv l_184 r_184 p_184 (va_up cc_182 c144 0) rt_184 es ks sz md := hTH195
                  obtain ⟨cc_195, ecc_195⟩ : ∃ z : Nat → Int, z = va_up cc_182 c144 0 := ⟨_, rfl⟩
                  rw [← ecc_195] at hTH195
                  refine lv_aload_n hx hb dJ4_fixAfterDeletion_313 rfl (lv_at hl 2 rfl) ?_
                  refine g_callS (As := [.ref x9]) (rest := []) 1 hx hb hml hown hts hK hG hS hl.1 (mJ4_parentOf l X σr194 tg mp n ad ps K Vv l_184 r_184 p_184 cc_195 rt_184 es ks sz md hTH195 (some x9) (fun a h => by cases h; exact hDx9)) q1207 q1208 q75 q1209 (by decide +kernel) rfl ⟨Nat.le_of_ble_eq_true rfl, Nat.le_of_ble_eq_true rfl⟩ ⟨Nat.le_of_ble_eq_true rfl, Nat.le_of_ble_eq_true rfl⟩ (Nat.le_of_ble_eq_true rfl) dJ4_fixAfterDeletion_314 (kA (fun r196 σr196 H locs hp hG hS => ?_))
                  obtain ⟨rfl, rfl⟩ := hp
                  have hf197 : p_184 x9 = (some q1) := by rw [hpx184]
                  refine g_rwv (v := .ref q1) (congrArg va_rf hf197) ?_
                  refine g_iconst hx hb dJ4_fixAfterDeletion_317 ?_
                  refine g_callS (As := [.ref q1, .int (iI 1)]) (rest := []) 2 hx hb hml hown hts hK hG hS hl.1 (mJ4_setColor l X σr194 tg mp n ad ps K Vv l_184 r_184 p_184 cc_195 rt_184 es ks sz md hTH195 (some q1) (fun a h => by cases h; exact hDq1) 1 (by omega)) q1219 q1220 q75 q1221 (by decide +kernel) rfl ⟨Nat.le_of_ble_eq_true rfl, Nat.le_of_ble_eq_true rfl⟩ ⟨Nat.le_of_ble_eq_true rfl, Nat.le_of_ble_eq_true rfl⟩ (Nat.le_of_ble_eq_true rfl) dJ4_fixAfterDeletion_318 (kV (fun σr198 H locs hp hG hS => ?_))
                  obtain ⟨hTH199, kp199⟩ := hp
                  have hkp199 := hkp195.tr kp199
                  have hTH199 : TH σr198 tg mp (tIn n ad ps) K Vv l_184 r_184 p_184 (va_up cc_195 q1 1) rt_184 es ks sz md := hTH199
                  obtain ⟨cc_199, ecc_199⟩ : ∃ z : Nat → Int, z = va_up cc_195 q1 1 := ⟨_, rfl⟩
                  rw [← ecc_199] at hTH199
                  refine lv_aload_n hx hb dJ4_fixAfterDeletion_321 rfl (lv_at hl 0 rfl) ?_
                  refine g_callS (As := [.ref c144]) (rest := []) 1 hx hb hml hown hts hK hG hS hl.1 (mJ4_leftOf l X σr198 tg mp n ad ps K Vv l_184 r_184 p_184 cc_199 rt_184 es ks sz md hTH199 (some c144) (fun a h => by cases h; exact hD_c144)) q1210 q1211 q75 q1212 (by decide +kernel) rfl ⟨Nat.le_of_ble_eq_true rfl, Nat.le_of_ble_eq_true rfl⟩ ⟨Nat.le_of_ble_eq_true rfl, Nat.le_of_ble_eq_true rfl⟩ (Nat.le_of_ble_eq_true rfl) dJ4_fixAfterDeletion_322 (kA (fun r200 σr200 H locs hp hG hS => ?_))
                  obtain ⟨rfl, rfl⟩ := hp
                  refine g_rwv (v := va_rf (l_184 c144)) rfl ?_
                  refine g_iconst hx hb dJ4_fixAfterDeletion_325 ?_
                  refine g_callS (As := [va_rf (l_184 c144), .int (iI 1)]) (rest := []) 2 hx hb hml hown hts hK hG hS hl.1 (mJ4_setColor l X σr198 tg mp n ad ps K Vv l_184 r_184 p_184 cc_199 rt_184 es ks sz md hTH199 (l_184 c144) (fun a h => (hok184.l1 hD_c144 h).1) 1 (by omega)) q1219 q1220 q75 q1221 (by decide +kernel) rfl ⟨Nat.le_of_ble_eq_true rfl, Nat.le_of_ble_eq_true rfl⟩ ⟨Nat.le_of_ble_eq_true rfl, Nat.le_of_ble_eq_true rfl⟩ (Nat.le_of_ble_eq_true rfl) dJ4_fixAfterDeletion_326 (kV (fun σr201 H locs hp hG hS => ?_))
                  obtain ⟨hTH202, kp202⟩ := hp
                  have hkp202 := hkp199.tr kp202
                  obtain ⟨cc_202, ecc_202⟩ : ∃ z : Nat → Int, z = cUp cc_199 (l_184 c144) 1 := ⟨_, rfl⟩
                  rw [← ecc_202] at hTH202
                  refine lv_aload_n hx hb dJ4_fixAfterDeletion_329 rfl (lv_at hl 1 rfl) ?_
                  refine lv_aload_n hx hb dJ4_fixAfterDeletion_330 rfl (lv_at hl 2 rfl) ?_
                  refine g_callS (As := [.ref x9]) (rest := [.ref mp]) 1 hx hb hml hown hts hK hG hS hl.1 (mJ4_parentOf l X σr201 tg mp n ad ps K Vv l_184 r_184 p_184 cc_202 rt_184 es ks sz md hTH202 (some x9) (fun a h => by cases h; exact hDx9)) q1207 q1208 q75 q1209 (by decide +kernel) rfl ⟨Nat.le_of_ble_eq_true rfl, Nat.le_of_ble_eq_true rfl⟩ ⟨Nat.le_of_ble_eq_true rfl, Nat.le_of_ble_eq_true rfl⟩ (Nat.le_of_ble_eq_true rfl) dJ4_fixAfterDeletion_331 (kA (fun r203 σr203 H locs hp hG hS => ?_))
                  obtain ⟨rfl, rfl⟩ := hp
                  have hf204 : p_184 x9 = (some q1) := by rw [hpx184]
                  refine g_rwv (v := .ref q1) (congrArg va_rf hf204) ?_
                  refine g_callV (As := [.ref q1]) (rest := []) 1 hx hb hml hown hts hK hG hS hl.1 (mJ4_rotateRight l X σr201 tg mp n ad ps K Vv l_184 r_184 p_184 cc_202 rt_184 es ks sz md hTH202 lo_184 hi_184 hok184 q1 c144 hDq1 hfar184) hTH202.1 rfl q1226 q1228 qs34 q75 q1229 (by decide +kernel) rfl ⟨Nat.le_of_ble_eq_true rfl, Nat.le_of_ble_eq_true rfl⟩ ⟨Nat.le_of_ble_eq_true rfl, Nat.le_of_ble_eq_true rfl⟩ (Nat.le_of_ble_eq_true rfl) dJ4_fixAfterDeletion_334 (kV (fun σr205 H locs hp hG hS => ?_))
                  obtain ⟨l_206, r_206, p_206, rt_206, hTH206, kp206, hl_206, hr_206, hp_206, hrt_206⟩ := hp
                  have hkp206 := hkp202.tr kp206
                  have hok206 := hok184.rotR hDq1 hfar184 (hl := hl_206) (hr := hr_206) (hp := hp_206) (hrt := hrt_206)
                  obtain ⟨lo_206, elo_206⟩ : ∃ z, z = va_up (va_up lo_184 c144 (lo_184 q1)) q1 (ps c144 + 1) := ⟨_, rfl⟩
                  obtain ⟨hi_206, ehi_206⟩ : ∃ z, z = va_up hi_184 c144 (hi_184 q1) := ⟨_, rfl⟩
                  rw [← elo_206, ← ehi_206] at hok206
                  have hlf206 : ∀ z, S z → l_206 z = none ∧ r_206 z = none ∧ tIn n ad ps z ∧ loL x9 ≤ ps z ∧ ps z < hiL x9 := fun z hz => by
                    obtain ⟨k1, k2, k3, k4, k5⟩ := hlf184 z hz
                    have za : z ≠ q1 := fun e => by rw [e, hfar184] at k1; cases k1
                    have zb : z ≠ c144 := tIn.ne (ps := ps) (by omega)
                    exact ⟨by rw [hl_206 z k3, if_neg za, k1, if_neg (fun e => by cases e)], by rw [hr_206 z k3, if_neg zb, k2, if_neg (fun e => by cases e)], k3, k4, k5⟩
                  obtain ⟨ρ, hρ⟩ := hok206.root hDx9
                  have hρr := hok206.rx hρ
                  have hD_ρ := (hok206.rx hρ).1
                  refine lv_aload_n hx hb dJ4_fixAfterDeletion_337 rfl (lv_at hl 1 rfl) ?_
                  refine g_get (C := RJ4) (T := TJ4) (N := 9) (v := .ref ρ) hx hb hts hown hK hG hTH206.1 rfl in_J4 3 (by decide) q146 rfl (congrArg (fun q9 => some (va_rf q9)) hρ) dJ4_fixAfterDeletion_338 ?_
                  refine lv_astore_n (lv' := [(1, .ref ρ), (2, .ref c144), (0, .ref mp)]) hx hb dJ4_fixAfterDeletion_341 rfl hl (by decide) rfl (fun ls hl => ?_)
                  refine lv_goto (tgt := 0) hx hb dJ4_fixAfterDeletion_342 (by decide) ?_
                  exact ih_0 σr205 l_206 r_206 p_206 cc_202 rt_206 lo_206 hi_206 ρ (f - 1) (by omega) (hTH206) (hok206) (hkp206) (hD_ρ) (Or.inr (Or.inl hρ)) (fun z hz => by obtain ⟨k1, k2, k3, k4, k5⟩ := hlf206 z hz; exact ⟨k1, k2, k3, by omega, by have := k3.1; omega⟩)  _ _ _ hG hS (lv_sub hl [2, 0] rfl)
              · refine g_aload_nR hx hb dJ4_fixAfterDeletion_241 rfl (lv_at hl 0 rfl) ?_
                refine g_callS (As := [va_rf (l_136 q1)]) (rest := []) 1 hx hb hml hown hts hK hG hS hl.1 (mJ4_leftOf l X σr135 tg mp n ad ps K Vv l_136 r_136 p_136 cc_132 rt_136 es ks sz md hTH136 (l_136 q1) (fun a h => (hok136.l1 hDq1 h).1)) q1210 q1211 q75 q1212 (by decide +kernel) rfl ⟨Nat.le_of_ble_eq_true rfl, Nat.le_of_ble_eq_true rfl⟩ ⟨Nat.le_of_ble_eq_true rfl, Nat.le_of_ble_eq_true rfl⟩ (Nat.le_of_ble_eq_true rfl) dJ4_fixAfterDeletion_242 (kA (fun r207 σr207 H locs hp hG hS => ?_))
                obtain ⟨rfl, rfl⟩ := hp
                refine g_callS (As := [va_rf ((l_136 q1).bind l_136)]) (rest := []) 1 hx hb hml hown hts hK hG hS hl.1 (mJ4_colorOf l X σr135 tg mp n ad ps K Vv l_136 r_136 p_136 cc_132 rt_136 es ks sz md hTH136 ((l_136 q1).bind l_136) (fun a h => by obtain ⟨z, h1, h2⟩ := Option.bind_eq_some_iff.mp h; exact (hok136.l1 ((fun a h => (hok136.l1 hDq1 h).1) z h1) h2).1)) q1216 q1217 q75 q1218 (by decide +kernel) rfl ⟨Nat.le_of_ble_eq_true rfl, Nat.le_of_ble_eq_true rfl⟩ ⟨Nat.le_of_ble_eq_true rfl, Nat.le_of_ble_eq_true rfl⟩ (Nat.le_of_ble_eq_true rfl) dJ4_fixAfterDeletion_245 (kI (fun r208 σr208 H locs hp hG hS => ?_))
                obtain ⟨hr208, rfl⟩ := hp
                refine g_rw (b := (cO cc_132 ((l_136 q1).bind l_136))) hr208 ?_
                have hc209 : (cO cc_132 ((l_136 q1).bind l_136)) = 0 ∨ (cO cc_132 ((l_136 q1).bind l_136)) = 1 := cO_r (fun a h => hTH136.2.2 _ ((fun a h => by obtain ⟨z, h1, h2⟩ := Option.bind_eq_some_iff.mp h; exact (hok136.l1 ((fun a h => (hok136.l1 hDq1 h).1) z h1) h2).1) a h))
                refine g_iconst hx hb dJ4_fixAfterDeletion_248 ?_
                refine g_icmp_ne (tgt := 265) hx hb dJ4_fixAfterDeletion_249 (by decide) (by omega) (by omega) (fun cq210 => ?_) (fun cq210 => ?_)
                · obtain ⟨c211, hc211⟩ := cO_some (C := cc_132) (o := ((l_136 q1).bind l_136)) (by omega)
                  obtain ⟨s212, hs212, gc211⟩ := Option.bind_eq_some_iff.mp hc211
                  have nbc211 : ¬ cc_132 c211 = 1 := by
                    intro k
                    have q5 : cO cc_132 ((l_136 q1).bind l_136) = 1 := by rw [hc211]; exact k
                    omega
                  have hD_s212 := (hok136.l1 hDq1 hs212).1
                  have hl : lv_has ls 3 [(2, .ref s212), (0, .ref mp), (1, .ref x9)] := by first | exact hl | (rw [hs212] at hl; exact hl)
                  have ks213 := hok136.l1 hDq1 hs212
                  have ks213n := hok136.num ks213.1
                  have ks213x : r_136 q1 = some x9 := hch136
                  have ks213y := hok136.r1 hDq1 ks213x
                  have ks213z := hok136.num ks213y.1
                  have hn214 : q1 ≠ s212 := tIn.ne (ps := ps) (by omega)
                  have hn215 : x9 ≠ s212 := tIn.ne (ps := ps) (by omega)
                  have hn216 : s123 ≠ s212 := tIn.ne (ps := ps) (by omega)
                  have hD_c211 := (hok136.l1 hD_s212 gc211).1
                  have kc217 := hok136.l1 hD_s212 gc211
                  have kc217n := hok136.num kc217.1
                  have hn218 : q1 ≠ c211 := tIn.ne (ps := ps) (by omega)
                  have hn219 : x9 ≠ c211 := tIn.ne (ps := ps) (by omega)
                  have hn220 : s212 ≠ c211 := tIn.ne (ps := ps) (by omega)
                  have hn221 : s123 ≠ c211 := tIn.ne (ps := ps) (by omega)
                  refine lv_aload_n hx hb dJ4_fixAfterDeletion_265 rfl (lv_at hl 0 rfl) ?_
                  refine g_callS (As := [.ref s212]) (rest := []) 1 hx hb hml hown hts hK hG hS hl.1 (mJ4_leftOf l X σr135 tg mp n ad ps K Vv l_136 r_136 p_136 cc_132 rt_136 es ks sz md hTH136 (some s212) (fun a h => by cases h; exact hD_s212)) q1210 q1211 q75 q1212 (by decide +kernel) rfl ⟨Nat.le_of_ble_eq_true rfl, Nat.le_of_ble_eq_true rfl⟩ ⟨Nat.le_of_ble_eq_true rfl, Nat.le_of_ble_eq_true rfl⟩ (Nat.le_of_ble_eq_true rfl) dJ4_fixAfterDeletion_266 (kA (fun r222 σr222 H locs hp hG hS => ?_))
                  obtain ⟨rfl, rfl⟩ := hp
                  have hf223 : l_136 s212 = (some c211) := by rw [gc211]
                  refine g_rwv (v := .ref c211) (congrArg va_rf hf223) ?_
                  refine g_callS (As := [.ref c211]) (rest := []) 1 hx hb hml hown hts hK hG hS hl.1 (mJ4_colorOf l X σr135 tg mp n ad ps K Vv l_136 r_136 p_136 cc_132 rt_136 es ks sz md hTH136 (some c211) (fun a h => by cases h; exact hD_c211)) q1216 q1217 q75 q1218 (by decide +kernel) rfl ⟨Nat.le_of_ble_eq_true rfl, Nat.le_of_ble_eq_true rfl⟩ ⟨Nat.le_of_ble_eq_true rfl, Nat.le_of_ble_eq_true rfl⟩ (Nat.le_of_ble_eq_true rfl) dJ4_fixAfterDeletion_269 (kI (fun r224 σr224 H locs hp hG hS => ?_))
                  obtain ⟨hr224, rfl⟩ := hp
                  have hf225 : cc_132 c211 = (cL c211) := by rw [ecc_132, va_up_ne _ _ (Ne.symm hn218), ecc_128, va_up_ne _ _ (Ne.symm hn221)]
                  refine g_rw (b := (cL c211)) (hr224.trans hf225) ?_
                  have hc226 := hTH136.2.2 _ hD_c211
                  rw [hf225] at hc226
                  refine g_iconst hx hb dJ4_fixAfterDeletion_272 ?_
                  refine g_icmp_ne (tgt := 302) hx hb dJ4_fixAfterDeletion_273 (by decide) (by omega) (by omega) (fun cq227 => ?_) (fun cq227 => ?_)
                  · refine lv_aload_n hx hb dJ4_fixAfterDeletion_302 rfl (lv_at hl 0 rfl) ?_
                    refine lv_aload_n hx hb dJ4_fixAfterDeletion_303 rfl (lv_at hl 2 rfl) ?_
                    refine g_callS (As := [.ref x9]) (rest := [.ref s212]) 1 hx hb hml hown hts hK hG hS hl.1 (mJ4_parentOf l X σr135 tg mp n ad ps K Vv l_136 r_136 p_136 cc_132 rt_136 es ks sz md hTH136 (some x9) (fun a h => by cases h; exact hDx9)) q1207 q1208 q75 q1209 (by decide +kernel) rfl ⟨Nat.le_of_ble_eq_true rfl, Nat.le_of_ble_eq_true rfl⟩ ⟨Nat.le_of_ble_eq_true rfl, Nat.le_of_ble_eq_true rfl⟩ (Nat.le_of_ble_eq_true rfl) dJ4_fixAfterDeletion_304 (kA (fun r228 σr228 H locs hp hG hS => ?_))
                    obtain ⟨rfl, rfl⟩ := hp
                    have hf229 : p_136 x9 = (some q1) := by rw [hpx136]
                    refine g_rwv (v := .ref q1) (congrArg va_rf hf229) ?_
                    refine g_callS (As := [.ref q1]) (rest := [.ref s212]) 1 hx hb hml hown hts hK hG hS hl.1 (mJ4_colorOf l X σr135 tg mp n ad ps K Vv l_136 r_136 p_136 cc_132 rt_136 es ks sz md hTH136 (some q1) (fun a h => by cases h; exact hDq1)) q1216 q1217 q75 q1218 (by decide +kernel) rfl ⟨Nat.le_of_ble_eq_true rfl, Nat.le_of_ble_eq_true rfl⟩ ⟨Nat.le_of_ble_eq_true rfl, Nat.le_of_ble_eq_true rfl⟩ (Nat.le_of_ble_eq_true rfl) dJ4_fixAfterDeletion_307 (kI (fun r230 σr230 H locs hp hG hS => ?_))
                    obtain ⟨hr230, rfl⟩ := hp
                    have hf231 : cc_132 q1 = 0 := by rw [ecc_132, va_up_self]
                    refine g_rw (b := 0) (hr230.trans hf231) ?_
                    have hc232 := hTH136.2.2 _ hDq1
                    rw [hf231] at hc232
                    refine g_callS (As := [.ref s212, .int (iI 0)]) (rest := []) 2 hx hb hml hown hts hK hG hS hl.1 (mJ4_setColor l X σr135 tg mp n ad ps K Vv l_136 r_136 p_136 cc_132 rt_136 es ks sz md hTH136 (some s212) (fun a h => by cases h; exact hD_s212) 0 (by omega)) q1219 q1220 q75 q1221 (by decide +kernel) rfl ⟨Nat.le_of_ble_eq_true rfl, Nat.le_of_ble_eq_true rfl⟩ ⟨Nat.le_of_ble_eq_true rfl, Nat.le_of_ble_eq_true rfl⟩ (Nat.le_of_ble_eq_true rfl) dJ4_fixAfterDeletion_310 (kV (fun σr233 H locs hp hG hS => ?_))
                    obtain ⟨hTH234, kp234⟩ := hp
                    have hkp234 := hkp136.tr kp234
                    have hTH234 : TH σr233 tg mp (tIn n ad ps) K Vv l_136 r_136 p_136 (va_up cc_132 s212 0) rt_136 es ks sz md := hTH234
                    obtain ⟨cc_234, ecc_234⟩ : ∃ z : Nat → Int, z = va_up cc_132 s212 0 := ⟨_, rfl⟩
                    rw [← ecc_234] at hTH234
                    refine lv_aload_n hx hb dJ4_fixAfterDeletion_313 rfl (lv_at hl 2 rfl) ?_
                    refine g_callS (As := [.ref x9]) (rest := []) 1 hx hb hml hown hts hK hG hS hl.1 (mJ4_parentOf l X σr233 tg mp n ad ps K Vv l_136 r_136 p_136 cc_234 rt_136 es ks sz md hTH234 (some x9) (fun a h => by cases h; exact hDx9)) q1207 q1208 q75 q1209 (by decide +kernel) rfl ⟨Nat.le_of_ble_eq_true rfl, Nat.le_of_ble_eq_true rfl⟩ ⟨Nat.le_of_ble_eq_true rfl, Nat.le_of_ble_eq_true rfl⟩ (Nat.le_of_ble_eq_true rfl) dJ4_fixAfterDeletion_314 (kA (fun r235 σr235 H locs hp hG hS => ?_))
                    obtain ⟨rfl, rfl⟩ := hp
                    have hf236 : p_136 x9 = (some q1) := by rw [hpx136]
                    refine g_rwv (v := .ref q1) (congrArg va_rf hf236) ?_
                    refine g_iconst hx hb dJ4_fixAfterDeletion_317 ?_
                    refine g_callS (As := [.ref q1, .int (iI 1)]) (rest := []) 2 hx hb hml hown hts hK hG hS hl.1 (mJ4_setColor l X σr233 tg mp n ad ps K Vv l_136 r_136 p_136 cc_234 rt_136 es ks sz md hTH234 (some q1) (fun a h => by cases h; exact hDq1) 1 (by omega)) q1219 q1220 q75 q1221 (by decide +kernel) rfl ⟨Nat.le_of_ble_eq_true rfl, Nat.le_of_ble_eq_true rfl⟩ ⟨Nat.le_of_ble_eq_true rfl, Nat.le_of_ble_eq_true rfl⟩ (Nat.le_of_ble_eq_true rfl) dJ4_fixAfterDeletion_318 (kV (fun σr237 H locs hp hG hS => ?_))
                    obtain ⟨hTH238, kp238⟩ := hp
                    have hkp238 := hkp234.tr kp238
                    have hTH238 : TH σr237 tg mp (tIn n ad ps) K Vv l_136 r_136 p_136 (va_up cc_234 q1 1) rt_136 es ks sz md := hTH238
                    obtain ⟨cc_238, ecc_238⟩ : ∃ z : Nat → Int, z = va_up cc_234 q1 1 := ⟨_, rfl⟩
                    rw [← ecc_238] at hTH238
                    refine lv_aload_n hx hb dJ4_fixAfterDeletion_321 rfl (lv_at hl 0 rfl) ?_
                    refine g_callS (As := [.ref s212]) (rest := []) 1 hx hb hml hown hts hK hG hS hl.1 (mJ4_leftOf l X σr237 tg mp n ad ps K Vv l_136 r_136 p_136 cc_238 rt_136 es ks sz md hTH238 (some s212) (fun a h => by cases h; exact hD_s212)) q1210 q1211 q75 q1212 (by decide +kernel) rfl ⟨Nat.le_of_ble_eq_true rfl, Nat.le_of_ble_eq_true rfl⟩ ⟨Nat.le_of_ble_eq_true rfl, Nat.le_of_ble_eq_true rfl⟩ (Nat.le_of_ble_eq_true rfl) dJ4_fixAfterDeletion_322 (kA (fun r239 σr239 H locs hp hG hS => ?_))
                    obtain ⟨rfl, rfl⟩ := hp
                    have hf240 : l_136 s212 = (some c211) := by rw [gc211]
                    refine g_rwv (v := .ref c211) (congrArg va_rf hf240) ?_
                    refine g_iconst hx hb dJ4_fixAfterDeletion_325 ?_
                    refine g_callS (As := [.ref c211, .int (iI 1)]) (rest := []) 2 hx hb hml hown hts hK hG hS hl.1 (mJ4_setColor l X σr237 tg mp n ad ps K Vv l_136 r_136 p_136 cc_238 rt_136 es ks sz md hTH238 (some c211) (fun a h => by cases h; exact hD_c211) 1 (by omega)) q1219 q1220 q75 q1221 (by decide +kernel) rfl ⟨Nat.le_of_ble_eq_true rfl, Nat.le_of_ble_eq_true rfl⟩ ⟨Nat.le_of_ble_eq_true rfl, Nat.le_of_ble_eq_true rfl⟩ (Nat.le_of_ble_eq_true rfl) dJ4_fixAfterDeletion_326 (kV (fun σr241 H locs hp hG hS => ?_))
                    obtain ⟨hTH242, kp242⟩ := hp
                    have hkp242 := hkp238.tr kp242
                    have hTH242 : TH σr241 tg mp (tIn n ad ps) K Vv l_136 r_136 p_136 (va_up cc_238 c211 1) rt_136 es ks sz md := hTH242
                    obtain ⟨cc_242, ecc_242⟩ : ∃ z : Nat → Int, z = va_up cc_238 c211 1 := ⟨_, rfl⟩
                    rw [← ecc_242] at hTH242
                    refine lv_aload_n hx hb dJ4_fixAfterDeletion_329 rfl (lv_at hl 1 rfl) ?_
                    refine lv_aload_n hx hb dJ4_fixAfterDeletion_330 rfl (lv_at hl 2 rfl) ?_
                    refine g_callS (As := [.ref x9]) (rest := [.ref mp]) 1 hx hb hml hown hts hK hG hS hl.1 (mJ4_parentOf l X σr241 tg mp n ad ps K Vv l_136 r_136 p_136 cc_242 rt_136 es ks sz md hTH242 (some x9) (fun a h => by cases h; exact hDx9)) q1207 q1208 q75 q1209 (by decide +kernel) rfl ⟨Nat.le_of_ble_eq_true rfl, Nat.le_of_ble_eq_true rfl⟩ ⟨Nat.le_of_ble_eq_true rfl, Nat.le_of_ble_eq_true rfl⟩ (Nat.le_of_ble_eq_true rfl) dJ4_fixAfterDeletion_331 (kA (fun r243 σr243 H locs hp hG hS => ?_))
                    obtain ⟨rfl, rfl⟩ := hp
                    have hf244 : p_136 x9 = (some q1) := by rw [hpx136]
                    refine g_rwv (v := .ref q1) (congrArg va_rf hf244) ?_
                    refine g_callV (As := [.ref q1]) (rest := []) 1 hx hb hml hown hts hK hG hS hl.1 (mJ4_rotateRight l X σr241 tg mp n ad ps K Vv l_136 r_136 p_136 cc_242 rt_136 es ks sz md hTH242 lo_136 hi_136 hok136 q1 s212 hDq1 hs212) hTH242.1 rfl q1226 q1228 qs34 q75 q1229 (by decide +kernel) rfl ⟨Nat.le_of_ble_eq_true rfl, Nat.le_of_ble_eq_true rfl⟩ ⟨Nat.le_of_ble_eq_true rfl, Nat.le_of_ble_eq_true rfl⟩ (Nat.le_of_ble_eq_true rfl) dJ4_fixAfterDeletion_334 (kV (fun σr245 H locs hp hG hS => ?_))
                    obtain ⟨l_246, r_246, p_246, rt_246, hTH246, kp246, hl_246, hr_246, hp_246, hrt_246⟩ := hp
                    have hkp246 := hkp242.tr kp246
                    have hok246 := hok136.rotR hDq1 hs212 (hl := hl_246) (hr := hr_246) (hp := hp_246) (hrt := hrt_246)
                    obtain ⟨lo_246, elo_246⟩ : ∃ z, z = va_up (va_up lo_136 s212 (lo_136 q1)) q1 (ps s212 + 1) := ⟨_, rfl⟩
                    obtain ⟨hi_246, ehi_246⟩ : ∃ z, z = va_up hi_136 s212 (hi_136 q1) := ⟨_, rfl⟩
                    rw [← elo_246, ← ehi_246] at hok246
                    have hlf246 : ∀ z, S z → l_246 z = none ∧ r_246 z = none ∧ tIn n ad ps z ∧ loL x9 ≤ ps z ∧ ps z < hiL x9 := fun z hz => by
                      obtain ⟨k1, k2, k3, k4, k5⟩ := hlf136 z hz
                      have za : z ≠ q1 := fun e => by rw [e, hs212] at k1; cases k1
                      have zb : z ≠ s212 := tIn.ne (ps := ps) (by omega)
                      exact ⟨by rw [hl_246 z k3, if_neg za, k1, if_neg (fun e => by cases e)], by rw [hr_246 z k3, if_neg zb, k2, if_neg (fun e => by cases e)], k3, k4, k5⟩
                    obtain ⟨ρ, hρ⟩ := hok246.root hDx9
                    have hρr := hok246.rx hρ
                    have hD_ρ := (hok246.rx hρ).1
                    refine lv_aload_n hx hb dJ4_fixAfterDeletion_337 rfl (lv_at hl 1 rfl) ?_
                    refine g_get (C := RJ4) (T := TJ4) (N := 9) (v := .ref ρ) hx hb hts hown hK hG hTH246.1 rfl in_J4 3 (by decide) q146 rfl (congrArg (fun q9 => some (va_rf q9)) hρ) dJ4_fixAfterDeletion_338 ?_
                    refine lv_astore_n (lv' := [(1, .ref ρ), (2, .ref s212), (0, .ref mp)]) hx hb dJ4_fixAfterDeletion_341 rfl hl (by decide) rfl (fun ls hl => ?_)
                    refine lv_goto (tgt := 0) hx hb dJ4_fixAfterDeletion_342 (by decide) ?_
                    exact ih_0 σr245 l_246 r_246 p_246 cc_242 rt_246 lo_246 hi_246 ρ (f - 1) (by omega) (hTH246) (hok246) (hkp246) (hD_ρ) (Or.inr (Or.inl hρ)) (fun z hz => by obtain ⟨k1, k2, k3, k4, k5⟩ := hlf246 z hz; exact ⟨k1, k2, k3, by omega, by have := k3.1; omega⟩)  _ _ _ hG hS (lv_sub hl [2, 0] rfl)
                  · exfalso; omega
                · refine g_aload_nR hx hb dJ4_fixAfterDeletion_252 rfl (lv_at hl 0 rfl) ?_
                  refine g_iconst hx hb dJ4_fixAfterDeletion_253 ?_
                  refine g_callS (As := [va_rf (l_136 q1), .int (iI 0)]) (rest := []) 2 hx hb hml hown hts hK hG hS hl.1 (mJ4_setColor l X σr135 tg mp n ad ps K Vv l_136 r_136 p_136 cc_132 rt_136 es ks sz md hTH136 (l_136 q1) (fun a h => (hok136.l1 hDq1 h).1) 0 (by omega)) q1219 q1220 q75 q1221 (by decide +kernel) rfl ⟨Nat.le_of_ble_eq_true rfl, Nat.le_of_ble_eq_true rfl⟩ ⟨Nat.le_of_ble_eq_true rfl, Nat.le_of_ble_eq_true rfl⟩ (Nat.le_of_ble_eq_true rfl) dJ4_fixAfterDeletion_254 (kV (fun σr247 H locs hp hG hS => ?_))
                  obtain ⟨hTH248, kp248⟩ := hp
                  have hkp248 := hkp136.tr kp248
                  obtain ⟨cc_248, ecc_248⟩ : ∃ z : Nat → Int, z = cUp cc_132 (l_136 q1) 0 := ⟨_, rfl⟩
                  rw [← ecc_248] at hTH248
                  refine lv_aload_n hx hb dJ4_fixAfterDeletion_257 rfl (lv_at hl 2 rfl) ?_
                  refine g_callS (As := [.ref x9]) (rest := []) 1 hx hb hml hown hts hK hG hS hl.1 (mJ4_parentOf l X σr247 tg mp n ad ps K Vv l_136 r_136 p_136 cc_248 rt_136 es ks sz md hTH248 (some x9) (fun a h => by cases h; exact hDx9)) q1207 q1208 q75 q1209 (by decide +kernel) rfl ⟨Nat.le_of_ble_eq_true rfl, Nat.le_of_ble_eq_true rfl⟩ ⟨Nat.le_of_ble_eq_true rfl, Nat.le_of_ble_eq_true rfl⟩ (Nat.le_of_ble_eq_true rfl) dJ4_fixAfterDeletion_258 (kA (fun r249 σr249 H locs hp hG hS => ?_))
                  obtain ⟨rfl, rfl⟩ := hp
                  have hf250 : p_136 x9 = (some q1) := by rw [hpx136]
                  refine g_rwv (v := .ref q1) (congrArg va_rf hf250) ?_
                  refine lv_astore_n (lv' := [(1, .ref q1), (2, va_rf (l_136 q1)), (0, .ref mp)]) hx hb dJ4_fixAfterDeletion_261 rfl hl (by decide) rfl (fun ls hl => ?_)
                  refine lv_goto (tgt := 342) hx hb dJ4_fixAfterDeletion_262 (by decide) ?_
                  refine lv_goto (tgt := 0) hx hb dJ4_fixAfterDeletion_342 (by decide) ?_
                  exact ih_0 σr247 l_136 r_136 p_136 cc_248 rt_136 lo_136 hi_136 q1 (f - 1) (by omega) (hTH248) (hok136) (hkp248) (hDq1) (Or.inl (by rw [ecc_248]; exact cUp_0 (by first | (rw [ecc_132, va_up_self]) | omega))) (fun z hz => by obtain ⟨k1, k2, k3, k4, k5⟩ := hlf136 z hz; exact ⟨k1, k2, k3, by omega, by omega⟩)  _ _ _ hG hS (lv_sub hl [2, 0] rfl)
          · have hch : lL q1 = some x9 := hq12.symm
            have hx1 := hokL.l1 hDq1 hch
            refine lv_aload_n hx hb dJ4_fixAfterDeletion_27 rfl (lv_at hl 1 rfl) ?_
            refine g_callS (As := [.ref x9]) (rest := []) 1 hx hb hml hown hts hK hG hS hl.1 (mJ4_parentOf l X σL tg mp n ad ps K Vv lL rL pL cL rtL es ks sz md hTHL (some x9) (fun a h => by cases h; exact hDx9)) q1207 q1208 q75 q1209 (by decide +kernel) rfl ⟨Nat.le_of_ble_eq_true rfl, Nat.le_of_ble_eq_true rfl⟩ ⟨Nat.le_of_ble_eq_true rfl, Nat.le_of_ble_eq_true rfl⟩ (Nat.le_of_ble_eq_true rfl) dJ4_fixAfterDeletion_28 (kA (fun r251 σr251 H locs hp hG hS => ?_))
            obtain ⟨rfl, rfl⟩ := hp
            have hf252 : pL x9 = (some q1) := by rw [hqP]
            refine g_rwv (v := .ref q1) (congrArg va_rf hf252) ?_
            refine g_callS (As := [.ref q1]) (rest := []) 1 hx hb hml hown hts hK hG hS hl.1 (mJ4_rightOf l X σL tg mp n ad ps K Vv lL rL pL cL rtL es ks sz md hTHL (some q1) (fun a h => by cases h; exact hDq1)) q1213 q1214 q75 q1215 (by decide +kernel) rfl ⟨Nat.le_of_ble_eq_true rfl, Nat.le_of_ble_eq_true rfl⟩ ⟨Nat.le_of_ble_eq_true rfl, Nat.le_of_ble_eq_true rfl⟩ (Nat.le_of_ble_eq_true rfl) dJ4_fixAfterDeletion_31 (kA (fun r253 σr253 H locs hp hG hS => ?_))
            obtain ⟨rfl, rfl⟩ := hp
            refine g_rwv (v := va_rf (rL q1)) rfl ?_
            refine g_astore_nR (lv' := [(2, va_rf (rL q1)), (0, .ref mp), (1, .ref x9)]) hx hb dJ4_fixAfterDeletion_34 rfl hl (by decide) rfl (fun ls hl => ?_)
            refine g_aload_nR hx hb dJ4_fixAfterDeletion_35 rfl (lv_at hl 0 rfl) ?_
            refine g_callS (As := [va_rf (rL q1)]) (rest := []) 1 hx hb hml hown hts hK hG hS hl.1 (mJ4_colorOf l X σL tg mp n ad ps K Vv lL rL pL cL rtL es ks sz md hTHL (rL q1) (fun a h => (hokL.r1 hDq1 h).1)) q1216 q1217 q75 q1218 (by decide +kernel) rfl ⟨Nat.le_of_ble_eq_true rfl, Nat.le_of_ble_eq_true rfl⟩ ⟨Nat.le_of_ble_eq_true rfl, Nat.le_of_ble_eq_true rfl⟩ (Nat.le_of_ble_eq_true rfl) dJ4_fixAfterDeletion_36 (kI (fun r254 σr254 H locs hp hG hS => ?_))
            obtain ⟨hr254, rfl⟩ := hp
            refine g_rw (b := (cO cL (rL q1))) hr254 ?_
            have hc255 : (cO cL (rL q1)) = 0 ∨ (cO cL (rL q1)) = 1 := cO_r (fun a h => hTHL.2.2 _ ((fun a h => (hokL.r1 hDq1 h).1) a h))
            refine g_if_ne (tgt := 71) hx hb dJ4_fixAfterDeletion_39 (by decide) (by omega) (fun cq256 => ?_) (fun cq256 => ?_)
            · refine g_aload_nR hx hb dJ4_fixAfterDeletion_71 rfl (lv_at hl 0 rfl) ?_
              refine g_callS (As := [va_rf (rL q1)]) (rest := []) 1 hx hb hml hown hts hK hG hS hl.1 (mJ4_leftOf l X σL tg mp n ad ps K Vv lL rL pL cL rtL es ks sz md hTHL (rL q1) (fun a h => (hokL.r1 hDq1 h).1)) q1210 q1211 q75 q1212 (by decide +kernel) rfl ⟨Nat.le_of_ble_eq_true rfl, Nat.le_of_ble_eq_true rfl⟩ ⟨Nat.le_of_ble_eq_true rfl, Nat.le_of_ble_eq_true rfl⟩ (Nat.le_of_ble_eq_true rfl) dJ4_fixAfterDeletion_72 (kA (fun r257 σr257 H locs hp hG hS => ?_))
              obtain ⟨rfl, rfl⟩ := hp
              refine g_callS (As := [va_rf ((rL q1).bind lL)]) (rest := []) 1 hx hb hml hown hts hK hG hS hl.1 (mJ4_colorOf l X σL tg mp n ad ps K Vv lL rL pL cL rtL es ks sz md hTHL ((rL q1).bind lL) (fun a h => by obtain ⟨z, h1, h2⟩ := Option.bind_eq_some_iff.mp h; exact (hokL.l1 ((fun a h => (hokL.r1 hDq1 h).1) z h1) h2).1)) q1216 q1217 q75 q1218 (by decide +kernel) rfl ⟨Nat.le_of_ble_eq_true rfl, Nat.le_of_ble_eq_true rfl⟩ ⟨Nat.le_of_ble_eq_true rfl, Nat.le_of_ble_eq_true rfl⟩ (Nat.le_of_ble_eq_true rfl) dJ4_fixAfterDeletion_75 (kI (fun r258 σr258 H locs hp hG hS => ?_))
              obtain ⟨hr258, rfl⟩ := hp
              refine g_rw (b := (cO cL ((rL q1).bind lL))) hr258 ?_
              have hc259 : (cO cL ((rL q1).bind lL)) = 0 ∨ (cO cL ((rL q1).bind lL)) = 1 := cO_r (fun a h => hTHL.2.2 _ ((fun a h => by obtain ⟨z, h1, h2⟩ := Option.bind_eq_some_iff.mp h; exact (hokL.l1 ((fun a h => (hokL.r1 hDq1 h).1) z h1) h2).1) a h))
              refine g_iconst hx hb dJ4_fixAfterDeletion_78 ?_
              refine g_icmp_ne (tgt := 106) hx hb dJ4_fixAfterDeletion_79 (by decide) (by omega) (by omega) (fun cq260 => ?_) (fun cq260 => ?_)
              · obtain ⟨c261, hc261⟩ := cO_some (C := cL) (o := ((rL q1).bind lL)) (by omega)
                obtain ⟨s262, hs262, gc261⟩ := Option.bind_eq_some_iff.mp hc261
                have nbc261 : ¬ cL c261 = 1 := by
                  intro k
                  have q5 : cO cL ((rL q1).bind lL) = 1 := by rw [hc261]; exact k
                  omega
                have hD_s262 := (hokL.r1 hDq1 hs262).1
                have hl : lv_has ls 3 [(2, .ref s262), (0, .ref mp), (1, .ref x9)] := by first | exact hl | (rw [hs262] at hl; exact hl)
                have ks263 := hokL.r1 hDq1 hs262
                have ks263n := hokL.num ks263.1
                have ks263x : lL q1 = some x9 := hch
                have ks263y := hokL.l1 hDq1 ks263x
                have ks263z := hokL.num ks263y.1
                have hn264 : q1 ≠ s262 := tIn.ne (ps := ps) (by omega)
                have hn265 : x9 ≠ s262 := tIn.ne (ps := ps) (by omega)
                have hD_c261 := (hokL.l1 hD_s262 gc261).1
                have kc266 := hokL.l1 hD_s262 gc261
                have kc266n := hokL.num kc266.1
                have hn267 : q1 ≠ c261 := tIn.ne (ps := ps) (by omega)
                have hn268 : x9 ≠ c261 := tIn.ne (ps := ps) (by omega)
                have hn269 : s262 ≠ c261 := tIn.ne (ps := ps) (by omega)
                refine lv_aload_n hx hb dJ4_fixAfterDeletion_106 rfl (lv_at hl 0 rfl) ?_
                refine g_callS (As := [.ref s262]) (rest := []) 1 hx hb hml hown hts hK hG hS hl.1 (mJ4_rightOf l X σL tg mp n ad ps K Vv lL rL pL cL rtL es ks sz md hTHL (some s262) (fun a h => by cases h; exact hD_s262)) q1213 q1214 q75 q1215 (by decide +kernel) rfl ⟨Nat.le_of_ble_eq_true rfl, Nat.le_of_ble_eq_true rfl⟩ ⟨Nat.le_of_ble_eq_true rfl, Nat.le_of_ble_eq_true rfl⟩ (Nat.le_of_ble_eq_true rfl) dJ4_fixAfterDeletion_107 (kA (fun r270 σr270 H locs hp hG hS => ?_))
                obtain ⟨rfl, rfl⟩ := hp
                refine g_rwv (v := va_rf (rL s262)) rfl ?_
                refine g_callS (As := [va_rf (rL s262)]) (rest := []) 1 hx hb hml hown hts hK hG hS hl.1 (mJ4_colorOf l X σL tg mp n ad ps K Vv lL rL pL cL rtL es ks sz md hTHL (rL s262) (fun a h => (hokL.r1 hD_s262 h).1)) q1216 q1217 q75 q1218 (by decide +kernel) rfl ⟨Nat.le_of_ble_eq_true rfl, Nat.le_of_ble_eq_true rfl⟩ ⟨Nat.le_of_ble_eq_true rfl, Nat.le_of_ble_eq_true rfl⟩ (Nat.le_of_ble_eq_true rfl) dJ4_fixAfterDeletion_110 (kI (fun r271 σr271 H locs hp hG hS => ?_))
                obtain ⟨hr271, rfl⟩ := hp
                refine g_rw (b := (cO cL (rL s262))) hr271 ?_
                have hc272 : (cO cL (rL s262)) = 0 ∨ (cO cL (rL s262)) = 1 := cO_r (fun a h => hTHL.2.2 _ ((fun a h => (hokL.r1 hD_s262 h).1) a h))
                refine g_iconst hx hb dJ4_fixAfterDeletion_113 ?_
                refine g_icmp_ne (tgt := 143) hx hb dJ4_fixAfterDeletion_114 (by decide) (by omega) (by omega) (fun cq273 => ?_) (fun cq273 => ?_)
                · refine lv_aload_n hx hb dJ4_fixAfterDeletion_143 rfl (lv_at hl 0 rfl) ?_
                  refine lv_aload_n hx hb dJ4_fixAfterDeletion_144 rfl (lv_at hl 2 rfl) ?_
                  refine g_callS (As := [.ref x9]) (rest := [.ref s262]) 1 hx hb hml hown hts hK hG hS hl.1 (mJ4_parentOf l X σL tg mp n ad ps K Vv lL rL pL cL rtL es ks sz md hTHL (some x9) (fun a h => by cases h; exact hDx9)) q1207 q1208 q75 q1209 (by decide +kernel) rfl ⟨Nat.le_of_ble_eq_true rfl, Nat.le_of_ble_eq_true rfl⟩ ⟨Nat.le_of_ble_eq_true rfl, Nat.le_of_ble_eq_true rfl⟩ (Nat.le_of_ble_eq_true rfl) dJ4_fixAfterDeletion_145 (kA (fun r274 σr274 H locs hp hG hS => ?_))
                  obtain ⟨rfl, rfl⟩ := hp
                  have hf275 : pL x9 = (some q1) := by rw [hqP]
                  refine g_rwv (v := .ref q1) (congrArg va_rf hf275) ?_
                  refine g_callS (As := [.ref q1]) (rest := [.ref s262]) 1 hx hb hml hown hts hK hG hS hl.1 (mJ4_colorOf l X σL tg mp n ad ps K Vv lL rL pL cL rtL es ks sz md hTHL (some q1) (fun a h => by cases h; exact hDq1)) q1216 q1217 q75 q1218 (by decide +kernel) rfl ⟨Nat.le_of_ble_eq_true rfl, Nat.le_of_ble_eq_true rfl⟩ ⟨Nat.le_of_ble_eq_true rfl, Nat.le_of_ble_eq_true rfl⟩ (Nat.le_of_ble_eq_true rfl) dJ4_fixAfterDeletion_148 (kI (fun r276 σr276 H locs hp hG hS => ?_))
                  obtain ⟨hr276, rfl⟩ := hp
                  refine g_rw (b := (cL q1)) (hr276) ?_
                  have hc277 := hTHL.2.2 _ hDq1
                  refine g_callS (As := [.ref s262, .int (iI (cL q1))]) (rest := []) 2 hx hb hml hown hts hK hG hS hl.1 (mJ4_setColor l X σL tg mp n ad ps K Vv lL rL pL cL rtL es ks sz md hTHL (some s262) (fun a h => by cases h; exact hD_s262) (cL q1) (by omega)) q1219 q1220 q75 q1221 (by decide +kernel) rfl ⟨Nat.le_of_ble_eq_true rfl, Nat.le_of_ble_eq_true rfl⟩ ⟨Nat.le_of_ble_eq_true rfl, Nat.le_of_ble_eq_true rfl⟩ (Nat.le_of_ble_eq_true rfl) dJ4_fixAfterDeletion_151 (kV (fun σr278 H locs hp hG hS => ?_))
                  obtain ⟨hTH279, kp279⟩ := hp
                  have hkp279 := hkL.tr kp279
                  have hTH279 : TH σr278 tg mp (tIn n ad ps) K Vv lL rL pL (va_up cL s262 (cL q1)) rtL es ks sz md := hTH279
                  obtain ⟨cc_279, ecc_279⟩ : ∃ z : Nat → Int, z = va_up cL s262 (cL q1) := ⟨_, rfl⟩
                  rw [← ecc_279] at hTH279
                  refine lv_aload_n hx hb dJ4_fixAfterDeletion_154 rfl (lv_at hl 2 rfl) ?_
                  refine g_callS (As := [.ref x9]) (rest := []) 1 hx hb hml hown hts hK hG hS hl.1 (mJ4_parentOf l X σr278 tg mp n ad ps K Vv lL rL pL cc_279 rtL es ks sz md hTH279 (some x9) (fun a h => by cases h; exact hDx9)) q1207 q1208 q75 q1209 (by decide +kernel) rfl ⟨Nat.le_of_ble_eq_true rfl, Nat.le_of_ble_eq_true rfl⟩ ⟨Nat.le_of_ble_eq_true rfl, Nat.le_of_ble_eq_true rfl⟩ (Nat.le_of_ble_eq_true rfl) dJ4_fixAfterDeletion_155 (kA (fun r280 σr280 H locs hp hG hS => ?_))
                  obtain ⟨rfl, rfl⟩ := hp
                  have hf281 : pL x9 = (some q1) := by rw [hqP]
                  refine g_rwv (v := .ref q1) (congrArg va_rf hf281) ?_
                  refine g_iconst hx hb dJ4_fixAfterDeletion_158 ?_
                  refine g_callS (As := [.ref q1, .int (iI 1)]) (rest := []) 2 hx hb hml hown hts hK hG hS hl.1 (mJ4_setColor l X σr278 tg mp n ad ps K Vv lL rL pL cc_279 rtL es ks sz md hTH279 (some q1) (fun a h => by cases h; exact hDq1) 1 (by omega)) q1219 q1220 q75 q1221 (by decide +kernel) rfl ⟨Nat.le_of_ble_eq_true rfl, Nat.le_of_ble_eq_true rfl⟩ ⟨Nat.le_of_ble_eq_true rfl, Nat.le_of_ble_eq_true rfl⟩ (Nat.le_of_ble_eq_true rfl) dJ4_fixAfterDeletion_159 (kV (fun σr282 H locs hp hG hS => ?_))
                  obtain ⟨hTH283, kp283⟩ := hp
                  have hkp283 := hkp279.tr kp283
                  have hTH283 : TH σr282 tg mp (tIn n ad ps) K Vv lL rL pL (va_up cc_279 q1 1) rtL es ks sz md := hTH283
                  obtain ⟨cc_283, ecc_283⟩ : ∃ z : Nat → Int, z = va_up cc_279 q1 1 := ⟨_, rfl⟩
                  rw [← ecc_283] at hTH283
                  refine lv_aload_n hx hb dJ4_fixAfterDeletion_162 rfl (lv_at hl 0 rfl) ?_
                  refine g_callS (As := [.ref s262]) (rest := []) 1 hx hb hml hown hts hK hG hS hl.1 (mJ4_rightOf l X σr282 tg mp n ad ps K Vv lL rL pL cc_283 rtL es ks sz md hTH283 (some s262) (fun a h => by cases h; exact hD_s262)) q1213 q1214 q75 q1215 (by decide +kernel) rfl ⟨Nat.le_of_ble_eq_true rfl, Nat.le_of_ble_eq_true rfl⟩ ⟨Nat.le_of_ble_eq_true rfl, Nat.le_of_ble_eq_true rfl⟩ (Nat.le_of_ble_eq_true rfl) dJ4_fixAfterDeletion_163 (kA (fun r284 σr284 H locs hp hG hS => ?_))
                  obtain ⟨rfl, rfl⟩ := hp
                  refine g_rwv (v := va_rf (rL s262)) rfl ?_
                  refine g_iconst hx hb dJ4_fixAfterDeletion_166 ?_
                  refine g_callS (As := [va_rf (rL s262), .int (iI 1)]) (rest := []) 2 hx hb hml hown hts hK hG hS hl.1 (mJ4_setColor l X σr282 tg mp n ad ps K Vv lL rL pL cc_283 rtL es ks sz md hTH283 (rL s262) (fun a h => (hokL.r1 hD_s262 h).1) 1 (by omega)) q1219 q1220 q75 q1221 (by decide +kernel) rfl ⟨Nat.le_of_ble_eq_true rfl, Nat.le_of_ble_eq_true rfl⟩ ⟨Nat.le_of_ble_eq_true rfl, Nat.le_of_ble_eq_true rfl⟩ (Nat.le_of_ble_eq_true rfl) dJ4_fixAfterDeletion_167 (kV (fun σr285 H locs hp hG hS => ?_))
                  obtain ⟨hTH286, kp286⟩ := hp
                  have hkp286 := hkp283.tr kp286
                  obtain ⟨cc_286, ecc_286⟩ : ∃ z : Nat → Int, z = cUp cc_283 (rL s262) 1 := ⟨_, rfl⟩
                  rw [← ecc_286] at hTH286
                  refine lv_aload_n hx hb dJ4_fixAfterDeletion_170 rfl (lv_at hl 1 rfl) ?_
                  refine lv_aload_n hx hb dJ4_fixAfterDeletion_171 rfl (lv_at hl 2 rfl) ?_
                  refine g_callS (As := [.ref x9]) (rest := [.ref mp]) 1 hx hb hml hown hts hK hG hS hl.1 (mJ4_parentOf l X σr285 tg mp n ad ps K Vv lL rL pL cc_286 rtL es ks sz md hTH286 (some x9) (fun a h => by cases h; exact hDx9)) q1207 q1208 q75 q1209 (by decide +kernel) rfl ⟨Nat.le_of_ble_eq_true rfl, Nat.le_of_ble_eq_true rfl⟩ ⟨Nat.le_of_ble_eq_true rfl, Nat.le_of_ble_eq_true rfl⟩ (Nat.le_of_ble_eq_true rfl) dJ4_fixAfterDeletion_172 (kA (fun r287 σr287 H locs hp hG hS => ?_))
                  obtain ⟨rfl, rfl⟩ := hp
                  have hf288 : pL x9 = (some q1) := by rw [hqP]
                  refine g_rwv (v := .ref q1) (congrArg va_rf hf288) ?_
                  refine g_callV (As := [.ref q1]) (rest := []) 1 hx hb hml hown hts hK hG hS hl.1 (mJ4_rotateLeft l X σr285 tg mp n ad ps K Vv lL rL pL cc_286 rtL es ks sz md hTH286 loL hiL hokL q1 s262 hDq1 hs262) hTH286.1 rfl q1222 q1224 qs33 q75 q1225 (by decide +kernel) rfl ⟨Nat.le_of_ble_eq_true rfl, Nat.le_of_ble_eq_true rfl⟩ ⟨Nat.le_of_ble_eq_true rfl, Nat.le_of_ble_eq_true rfl⟩ (Nat.le_of_ble_eq_true rfl) dJ4_fixAfterDeletion_175 (kV (fun σr289 H locs hp hG hS => ?_))
                  obtain ⟨l_290, r_290, p_290, rt_290, hTH290, kp290, hl_290, hr_290, hp_290, hrt_290⟩ := hp
                  have hkp290 := hkp286.tr kp290
                  have hok290 := hokL.rotL hDq1 hs262 (hl := hl_290) (hr := hr_290) (hp := hp_290) (hrt := hrt_290)
                  obtain ⟨lo_290, elo_290⟩ : ∃ z, z = va_up loL s262 (loL q1) := ⟨_, rfl⟩
                  obtain ⟨hi_290, ehi_290⟩ : ∃ z, z = va_up (va_up hiL s262 (hiL q1)) q1 (ps s262) := ⟨_, rfl⟩
                  rw [← elo_290, ← ehi_290] at hok290
                  have hlf290 : ∀ z, S z → l_290 z = none ∧ r_290 z = none ∧ tIn n ad ps z ∧ loL x9 ≤ ps z ∧ ps z < hiL x9 := fun z hz => by
                    obtain ⟨k1, k2, k3, k4, k5⟩ := hlf z hz
                    have za : z ≠ q1 := fun e => by rw [e, hs262] at k2; cases k2
                    have zb : z ≠ s262 := tIn.ne (ps := ps) (by omega)
                    exact ⟨by rw [hl_290 z k3, if_neg zb, k1, if_neg (fun e => by cases e)], by rw [hr_290 z k3, if_neg za, k2, if_neg (fun e => by cases e)], k3, k4, k5⟩
                  obtain ⟨ρ, hρ⟩ := hok290.root hDx9
                  have hρr := hok290.rx hρ
                  have hD_ρ := (hok290.rx hρ).1
                  refine lv_aload_n hx hb dJ4_fixAfterDeletion_178 rfl (lv_at hl 1 rfl) ?_
                  refine g_get (C := RJ4) (T := TJ4) (N := 9) (v := .ref ρ) hx hb hts hown hK hG hTH290.1 rfl in_J4 3 (by decide) q146 rfl (congrArg (fun q9 => some (va_rf q9)) hρ) dJ4_fixAfterDeletion_179 ?_
                  refine lv_astore_n (lv' := [(1, .ref ρ), (2, .ref s262), (0, .ref mp)]) hx hb dJ4_fixAfterDeletion_182 rfl hl (by decide) rfl (fun ls hl => ?_)
                  refine lv_goto (tgt := 0) hx hb dJ4_fixAfterDeletion_183 (by decide) ?_
                  exact ih_0 σr289 l_290 r_290 p_290 cc_286 rt_290 lo_290 hi_290 ρ (f - 1) (by omega) (hTH290) (hok290) (hkp290) (hD_ρ) (Or.inr (Or.inl hρ)) (fun z hz => by obtain ⟨k1, k2, k3, k4, k5⟩ := hlf290 z hz; exact ⟨k1, k2, k3, by omega, by have := k3.1; omega⟩)  _ _ _ hG hS (lv_sub hl [2, 0] rfl)
                · refine lv_aload_n hx hb dJ4_fixAfterDeletion_117 rfl (lv_at hl 0 rfl) ?_
                  refine g_callS (As := [.ref s262]) (rest := []) 1 hx hb hml hown hts hK hG hS hl.1 (mJ4_leftOf l X σL tg mp n ad ps K Vv lL rL pL cL rtL es ks sz md hTHL (some s262) (fun a h => by cases h; exact hD_s262)) q1210 q1211 q75 q1212 (by decide +kernel) rfl ⟨Nat.le_of_ble_eq_true rfl, Nat.le_of_ble_eq_true rfl⟩ ⟨Nat.le_of_ble_eq_true rfl, Nat.le_of_ble_eq_true rfl⟩ (Nat.le_of_ble_eq_true rfl) dJ4_fixAfterDeletion_118 (kA (fun r291 σr291 H locs hp hG hS => ?_))
                  obtain ⟨rfl, rfl⟩ := hp
                  have hf292 : lL s262 = (some c261) := by rw [gc261]
                  refine g_rwv (v := .ref c261) (congrArg va_rf hf292) ?_
                  refine g_iconst hx hb dJ4_fixAfterDeletion_121 ?_
                  refine g_callS (As := [.ref c261, .int (iI 1)]) (rest := []) 2 hx hb hml hown hts hK hG hS hl.1 (mJ4_setColor l X σL tg mp n ad ps K Vv lL rL pL cL rtL es ks sz md hTHL (some c261) (fun a h => by cases h; exact hD_c261) 1 (by omega)) q1219 q1220 q75 q1221 (by decide +kernel) rfl ⟨Nat.le_of_ble_eq_true rfl, Nat.le_of_ble_eq_true rfl⟩ ⟨Nat.le_of_ble_eq_true rfl, Nat.le_of_ble_eq_true rfl⟩ (Nat.le_of_ble_eq_true rfl) dJ4_fixAfterDeletion_122 (kV (fun σr293 H locs hp hG hS => ?_))
                  obtain ⟨hTH294, kp294⟩ := hp
                  have hkp294 := hkL.tr kp294
                  have hTH294 : TH σr293 tg mp (tIn n ad ps) K Vv lL rL pL (va_up cL c261 1) rtL es ks sz md := hTH294
                  obtain ⟨cc_294, ecc_294⟩ : ∃ z : Nat → Int, z = va_up cL c261 1 := ⟨_, rfl⟩
                  rw [← ecc_294] at hTH294
                  refine lv_aload_n hx hb dJ4_fixAfterDeletion_125 rfl (lv_at hl 0 rfl) ?_
                  refine g_iconst hx hb dJ4_fixAfterDeletion_126 ?_
                  refine g_callS (As := [.ref s262, .int (iI 0)]) (rest := []) 2 hx hb hml hown hts hK hG hS hl.1 (mJ4_setColor l X σr293 tg mp n ad ps K Vv lL rL pL cc_294 rtL es ks sz md hTH294 (some s262) (fun a h => by cases h; exact hD_s262) 0 (by omega)) q1219 q1220 q75 q1221 (by decide +kernel) rfl ⟨Nat.le_of_ble_eq_true rfl, Nat.le_of_ble_eq_true rfl⟩ ⟨Nat.le_of_ble_eq_true rfl, Nat.le_of_ble_eq_true rfl⟩ (Nat.le_of_ble_eq_true rfl) dJ4_fixAfterDeletion_127 (kV (fun σr295 H locs hp hG hS => ?_))
                  obtain ⟨hTH296, kp296⟩ := hp
                  have hkp296 := hkp294.tr kp296
                  have hTH296 : TH σr295 tg mp (tIn n ad ps) K Vv lL rL pL (va_up cc_294 s262 0) rtL es ks sz md := hTH296
                  obtain ⟨cc_296, ecc_296⟩ : ∃ z : Nat → Int, z = va_up cc_294 s262 0 := ⟨_, rfl⟩
                  rw [← ecc_296] at hTH296
                  refine lv_aload_n hx hb dJ4_fixAfterDeletion_130 rfl (lv_at hl 1 rfl) ?_
                  refine lv_aload_n hx hb dJ4_fixAfterDeletion_131 rfl (lv_at hl 0 rfl) ?_
                  refine g_callV (As := [.ref s262]) (rest := []) 1 hx hb hml hown hts hK hG hS hl.1 (mJ4_rotateRight l X σr295 tg mp n ad ps K Vv lL rL pL cc_296 rtL es ks sz md hTH296 loL hiL hokL s262 c261 hD_s262 gc261) hTH296.1 rfl q1226 q1228 qs34 q75 q1229 (by decide +kernel) rfl ⟨Nat.le_of_ble_eq_true rfl, Nat.le_of_ble_eq_true rfl⟩ ⟨Nat.le_of_ble_eq_true rfl, Nat.le_of_ble_eq_true rfl⟩ (Nat.le_of_ble_eq_true rfl) dJ4_fixAfterDeletion_132 (kV (fun σr297 H locs hp hG hS => ?_))
                  obtain ⟨l_298, r_298, p_298, rt_298, hTH298, kp298, hl_298, hr_298, hp_298, hrt_298⟩ := hp
                  have hkp298 := hkp296.tr kp298
                  have hok298 := hokL.rotR hD_s262 gc261 (hl := hl_298) (hr := hr_298) (hp := hp_298) (hrt := hrt_298)
                  obtain ⟨lo_298, elo_298⟩ : ∃ z, z = va_up (va_up loL c261 (loL s262)) s262 (ps c261 + 1) := ⟨_, rfl⟩
                  obtain ⟨hi_298, ehi_298⟩ : ∃ z, z = va_up hiL c261 (hiL s262) := ⟨_, rfl⟩
                  rw [← elo_298, ← ehi_298] at hok298
                  have hlf298 : ∀ z, S z → l_298 z = none ∧ r_298 z = none ∧ tIn n ad ps z ∧ loL x9 ≤ ps z ∧ ps z < hiL x9 := fun z hz => by
                    obtain ⟨k1, k2, k3, k4, k5⟩ := hlf z hz
                    have za : z ≠ s262 := fun e => by rw [e, gc261] at k1; cases k1
                    have zb : z ≠ c261 := tIn.ne (ps := ps) (by omega)
                    exact ⟨by rw [hl_298 z k3, if_neg za, k1, if_neg (fun e => by cases e)], by rw [hr_298 z k3, if_neg zb, k2, if_neg (fun e => by cases e)], k3, k4, k5⟩
                  have hno298 : ¬ rL c261 = some x9 := fun k => by have q5 := (hokL.r1 hD_c261 k).2.2.2; rw [hqP] at q5; exact hn267 (Option.some.inj q5)
                  have hpx298 : p_298 x9 = some q1 := by rw [hp_298 x9 hDx9, if_neg hn268, if_neg hn265, if_neg hno298]; exact hqP
                  have hfar298 : r_298 q1 = some c261 := by rw [hr_298 q1 hDq1, if_neg hn267, if_pos hs262]
                  have hq8298 := hok298.r1 hDq1 hfar298
                  have hq9298 := hok298.num hq8298.1
                  refine lv_aload_n hx hb dJ4_fixAfterDeletion_135 rfl (lv_at hl 2 rfl) ?_
                  refine g_callS (As := [.ref x9]) (rest := []) 1 hx hb hml hown hts hK hG hS hl.1 (mJ4_parentOf l X σr297 tg mp n ad ps K Vv l_298 r_298 p_298 cc_296 rt_298 es ks sz md hTH298 (some x9) (fun a h => by cases h; exact hDx9)) q1207 q1208 q75 q1209 (by decide +kernel) rfl ⟨Nat.le_of_ble_eq_true rfl, Nat.le_of_ble_eq_true rfl⟩ ⟨Nat.le_of_ble_eq_true rfl, Nat.le_of_ble_eq_true rfl⟩ (Nat.le_of_ble_eq_true rfl) dJ4_fixAfterDeletion_136 (kA (fun r299 σr299 H locs hp hG hS => ?_))
                  obtain ⟨rfl, rfl⟩ := hp
                  have hf300 : p_298 x9 = (some q1) := by rw [hpx298]
                  refine g_rwv (v := .ref q1) (congrArg va_rf hf300) ?_
                  refine g_callS (As := [.ref q1]) (rest := []) 1 hx hb hml hown hts hK hG hS hl.1 (mJ4_rightOf l X σr297 tg mp n ad ps K Vv l_298 r_298 p_298 cc_296 rt_298 es ks sz md hTH298 (some q1) (fun a h => by cases h; exact hDq1)) q1213 q1214 q75 q1215 (by decide +kernel) rfl ⟨Nat.le_of_ble_eq_true rfl, Nat.le_of_ble_eq_true rfl⟩ ⟨Nat.le_of_ble_eq_true rfl, Nat.le_of_ble_eq_true rfl⟩ (Nat.le_of_ble_eq_true rfl) dJ4_fixAfterDeletion_139 (kA (fun r301 σr301 H locs hp hG hS => ?_))
                  obtain ⟨rfl, rfl⟩ := hp
                  have hf302 : r_298 q1 = (some c261) := by rw [hfar298]
                  refine g_rwv (v := .ref c261) (congrArg va_rf hf302) ?_
                  refine lv_astore_n (lv' := [(2, .ref c261), (0, .ref mp), (1, .ref x9)]) hx hb dJ4_fixAfterDeletion_142 rfl hl (by decide) rfl (fun ls hl => ?_)
                  refine lv_aload_n hx hb dJ4_fixAfterDeletion_143 rfl (lv_at hl 0 rfl) ?_
                  refine lv_aload_n hx hb dJ4_fixAfterDeletion_144 rfl (lv_at hl 2 rfl) ?_
                  refine g_callS (As := [.ref x9]) (rest := [.ref c261]) 1 hx hb hml hown hts hK hG hS hl.1 (mJ4_parentOf l X σr297 tg mp n ad ps K Vv l_298 r_298 p_298 cc_296 rt_298 es ks sz md hTH298 (some x9) (fun a h => by cases h; exact hDx9)) q1207 q1208 q75 q1209 (by decide +kernel) rfl ⟨Nat.le_of_ble_eq_true rfl, Nat.le_of_ble_eq_true rfl⟩ ⟨Nat.le_of_ble_eq_true rfl, Nat.le_of_ble_eq_true rfl⟩ (Nat.le_of_ble_eq_true rfl) dJ4_fixAfterDeletion_145 (kA (fun r303 σr303 H locs hp hG hS => ?_))
                  obtain ⟨rfl, rfl⟩ := hp
                  have hf304 : p_298 x9 = (some q1) := by rw [hpx298]
                  refine g_rwv (v := .ref q1) (congrArg va_rf hf304) ?_
                  refine g_callS (As := [.ref q1]) (rest := [.ref c261]) 1 hx hb hml hown hts hK hG hS hl.1 (mJ4_colorOf l X σr297 tg mp n ad ps K Vv l_298 r_298 p_298 cc_296 rt_298 es ks sz md hTH298 (some q1) (fun a h => by cases h; exact hDq1)) q1216 q1217 q75 q1218 (by decide +kernel) rfl ⟨Nat.le_of_ble_eq_true rfl, Nat.le_of_ble_eq_true rfl⟩ ⟨Nat.le_of_ble_eq_true rfl, Nat.le_of_ble_eq_true rfl⟩ (Nat.le_of_ble_eq_true rfl) dJ4_fixAfterDeletion_148 (kI (fun r305 σr305 H locs hp hG hS => ?_))
                  obtain ⟨hr305, rfl⟩ := hp
                  have hf306 : cc_296 q1 = (cL q1) := by rw [ecc_296, va_up_ne _ _ hn264, ecc_294, va_up_ne _ _ hn267]
                  refine g_rw (b := (cL q1)) (hr305.trans hf306) ?_
                  have hc307 := hTH298.2.2 _ hDq1
                  rw [hf306] at hc307
                  refine g_callS (As := [.ref c261, .int (iI (cL q1))]) (rest := []) 2 hx hb hml hown hts hK hG hS hl.1 (mJ4_setColor l X σr297 tg mp n ad ps K Vv l_298 r_298 p_298 cc_296 rt_298 es ks sz md hTH298 (some c261) (fun a h => by cases h; exact hD_c261) (cL q1) (by omega)) q1219 q1220 q75 q1221 (by decide +kernel) rfl ⟨Nat.le_of_ble_eq_true rfl, Nat.le_of_ble_eq_true rfl⟩ ⟨Nat.le_of_ble_eq_true rfl, Nat.le_of_ble_eq_true rfl⟩ (Nat.le_of_ble_eq_true rfl) dJ4_fixAfterDeletion_151 (kV (fun σr308 H locs hp hG hS => ?_))
                  obtain ⟨hTH309, kp309⟩ := hp
                  have hkp309 := hkp298.tr kp309
                  have hTH309 : TH σr308 tg mp (tIn n ad ps) K Vv l_298 r_298 p_298 (va_up cc_296 c261 (cL q1)) rt_298 es ks sz md := hTH309
                  obtain ⟨cc_309, ecc_309⟩ : ∃ z : Nat → Int, z = va_up cc_296 c261 (cL q1) := ⟨_, rfl⟩
                  rw [← ecc_309] at hTH309
                  refine lv_aload_n hx hb dJ4_fixAfterDeletion_154 rfl (lv_at hl 2 rfl) ?_
                  refine g_callS (As := [.ref x9]) (rest := []) 1 hx hb hml hown hts hK hG hS hl.1 (mJ4_parentOf l X σr308 tg mp n ad ps K Vv l_298 r_298 p_298 cc_309 rt_298 es ks sz md hTH309 (some x9) (fun a h => by cases h; exact hDx9)) q1207 q1208 q75 q1209 (by decide +kernel) rfl ⟨Nat.le_of_ble_eq_true rfl, Nat.le_of_ble_eq_true rfl⟩ ⟨Nat.le_of_ble_eq_true rfl, Nat.le_of_ble_eq_true rfl⟩ (Nat.le_of_ble_eq_true rfl) dJ4_fixAfterDeletion_155 (kA (fun r310 σr310 H locs hp hG hS => ?_))
                  obtain ⟨rfl, rfl⟩ := hp
                  have hf311 : p_298 x9 = (some q1) := by rw [hpx298]
                  refine g_rwv (v := .ref q1) (congrArg va_rf hf311) ?_
                  refine g_iconst hx hb dJ4_fixAfterDeletion_158 ?_
                  refine g_callS (As := [.ref q1, .int (iI 1)]) (rest := []) 2 hx hb hml hown hts hK hG hS hl.1 (mJ4_setColor l X σr308 tg mp n ad ps K Vv l_298 r_298 p_298 cc_309 rt_298 es ks sz md hTH309 (some q1) (fun a h => by cases h; exact hDq1) 1 (by omega)) q1219 q1220 q75 q1221 (by decide +kernel) rfl ⟨Nat.le_of_ble_eq_true rfl, Nat.le_of_ble_eq_true rfl⟩ ⟨Nat.le_of_ble_eq_true rfl, Nat.le_of_ble_eq_true rfl⟩ (Nat.le_of_ble_eq_true rfl) dJ4_fixAfterDeletion_159 (kV (fun σr312 H locs hp hG hS => ?_))
                  obtain ⟨hTH313, kp313⟩ := hp
                  have hkp313 := hkp309.tr kp313
                  have hTH313 : TH σr312 tg mp (tIn n ad ps) K Vv l_298 r_298 p_298 (va_up cc_309 q1 1) rt_298 es ks sz md := hTH313
                  obtain ⟨cc_313, ecc_313⟩ : ∃ z : Nat → Int, z = va_up cc_309 q1 1 := ⟨_, rfl⟩
                  rw [← ecc_313] at hTH313
                  refine lv_aload_n hx hb dJ4_fixAfterDeletion_162 rfl (lv_at hl 0 rfl) ?_
                  refine g_callS (As := [.ref c261]) (rest := []) 1 hx hb hml hown hts hK hG hS hl.1 (mJ4_rightOf l X σr312 tg mp n ad ps K Vv l_298 r_298 p_298 cc_313 rt_298 es ks sz md hTH313 (some c261) (fun a h => by cases h; exact hD_c261)) q1213 q1214 q75 q1215 (by decide +kernel) rfl ⟨Nat.le_of_ble_eq_true rfl, Nat.le_of_ble_eq_true rfl⟩ ⟨Nat.le_of_ble_eq_true rfl, Nat.le_of_ble_eq_true rfl⟩ (Nat.le_of_ble_eq_true rfl) dJ4_fixAfterDeletion_163 (kA (fun r314 σr314 H locs hp hG hS => ?_))
                  obtain ⟨rfl, rfl⟩ := hp
                  refine g_rwv (v := va_rf (r_298 c261)) rfl ?_
                  refine g_iconst hx hb dJ4_fixAfterDeletion_166 ?_
                  refine g_callS (As := [va_rf (r_298 c261), .int (iI 1)]) (rest := []) 2 hx hb hml hown hts hK hG hS hl.1 (mJ4_setColor l X σr312 tg mp n ad ps K Vv l_298 r_298 p_298 cc_313 rt_298 es ks sz md hTH313 (r_298 c261) (fun a h => (hok298.r1 hD_c261 h).1) 1 (by omega)) q1219 q1220 q75 q1221 (by decide +kernel) rfl ⟨Nat.le_of_ble_eq_true rfl, Nat.le_of_ble_eq_true rfl⟩ ⟨Nat.le_of_ble_eq_true rfl, Nat.le_of_ble_eq_true rfl⟩ (Nat.le_of_ble_eq_true rfl) dJ4_fixAfterDeletion_167 (kV (fun σr315 H locs hp hG hS => ?_))
                  obtain ⟨hTH316, kp316⟩ := hp
                  have hkp316 := hkp313.tr kp316
                  obtain ⟨cc_316, ecc_316⟩ : ∃ z : Nat → Int, z = cUp cc_313 (r_298 c261) 1 := ⟨_, rfl⟩
                  rw [← ecc_316] at hTH316
                  refine lv_aload_n hx hb dJ4_fixAfterDeletion_170 rfl (lv_at hl 1 rfl) ?_
                  refine lv_aload_n hx hb dJ4_fixAfterDeletion_171 rfl (lv_at hl 2 rfl) ?_
                  refine g_callS (As := [.ref x9]) (rest := [.ref mp]) 1 hx hb hml hown hts hK hG hS hl.1 (mJ4_parentOf l X σr315 tg mp n ad ps K Vv l_298 r_298 p_298 cc_316 rt_298 es ks sz md hTH316 (some x9) (fun a h => by cases h; exact hDx9)) q1207 q1208 q75 q1209 (by decide +kernel) rfl ⟨Nat.le_of_ble_eq_true rfl, Nat.le_of_ble_eq_true rfl⟩ ⟨Nat.le_of_ble_eq_true rfl, Nat.le_of_ble_eq_true rfl⟩ (Nat.le_of_ble_eq_true rfl) dJ4_fixAfterDeletion_172 (kA (fun r317 σr317 H locs hp hG hS => ?_))
                  obtain ⟨rfl, rfl⟩ := hp
                  have hf318 : p_298 x9 = (some q1) := by rw [hpx298]
                  refine g_rwv (v := .ref q1) (congrArg va_rf hf318) ?_
                  refine g_callV (As := [.ref q1]) (rest := []) 1 hx hb hml hown hts hK hG hS hl.1 (mJ4_rotateLeft l X σr315 tg mp n ad ps K Vv l_298 r_298 p_298 cc_316 rt_298 es ks sz md hTH316 lo_298 hi_298 hok298 q1 c261 hDq1 hfar298) hTH316.1 rfl q1222 q1224 qs33 q75 q1225 (by decide +kernel) rfl ⟨Nat.le_of_ble_eq_true rfl, Nat.le_of_ble_eq_true rfl⟩ ⟨Nat.le_of_ble_eq_true rfl, Nat.le_of_ble_eq_true rfl⟩ (Nat.le_of_ble_eq_true rfl) dJ4_fixAfterDeletion_175 (kV (fun σr319 H locs hp hG hS => ?_))
                  obtain ⟨l_320, r_320, p_320, rt_320, hTH320, kp320, hl_320, hr_320, hp_320, hrt_320⟩ := hp
                  have hkp320 := hkp316.tr kp320
                  have hok320 := hok298.rotL hDq1 hfar298 (hl := hl_320) (hr := hr_320) (hp := hp_320) (hrt := hrt_320)
                  obtain ⟨lo_320, elo_320⟩ : ∃ z, z = va_up lo_298 c261 (lo_298 q1) := ⟨_, rfl⟩
                  obtain ⟨hi_320, ehi_320⟩ : ∃ z, z = va_up (va_up hi_298 c261 (hi_298 q1)) q1 (ps c261) := ⟨_, rfl⟩
                  rw [← elo_320, ← ehi_320] at hok320
                  have hlf320 : ∀ z, S z → l_320 z = none ∧ r_320 z = none ∧ tIn n ad ps z ∧ loL x9 ≤ ps z ∧ ps z < hiL x9 := fun z hz => by
                    obtain ⟨k1, k2, k3, k4, k5⟩ := hlf298 z hz
                    have za : z ≠ q1 := fun e => by rw [e, hfar298] at k2; cases k2
                    have zb : z ≠ c261 := tIn.ne (ps := ps) (by omega)
                    exact ⟨by rw [hl_320 z k3, if_neg zb, k1, if_neg (fun e => by cases e)], by rw [hr_320 z k3, if_neg za, k2, if_neg (fun e => by cases e)], k3, k4, k5⟩
                  obtain ⟨ρ, hρ⟩ := hok320.root hDx9
                  have hρr := hok320.rx hρ
                  have hD_ρ := (hok320.rx hρ).1
                  refine lv_aload_n hx hb dJ4_fixAfterDeletion_178 rfl (lv_at hl 1 rfl) ?_
                  refine g_get (C := RJ4) (T := TJ4) (N := 9) (v := .ref ρ) hx hb hts hown hK hG hTH320.1 rfl in_J4 3 (by decide) q146 rfl (congrArg (fun q9 => some (va_rf q9)) hρ) dJ4_fixAfterDeletion_179 ?_
                  refine lv_astore_n (lv' := [(1, .ref ρ), (2, .ref c261), (0, .ref mp)]) hx hb dJ4_fixAfterDeletion_182 rfl hl (by decide) rfl (fun ls hl => ?_)
                  refine lv_goto (tgt := 0) hx hb dJ4_fixAfterDeletion_183 (by decide) ?_
                  exact ih_0 σr319 l_320 r_320 p_320 cc_316 rt_320 lo_320 hi_320 ρ (f - 1) (by omega) (hTH320) (hok320) (hkp320) (hD_ρ) (Or.inr (Or.inl hρ)) (fun z hz => by obtain ⟨k1, k2, k3, k4, k5⟩ := hlf320 z hz; exact ⟨k1, k2, k3, by omega, by have := k3.1; omega⟩)  _ _ _ hG hS (lv_sub hl [2, 0] rfl)
              · refine g_aload_nR hx hb dJ4_fixAfterDeletion_82 rfl (lv_at hl 0 rfl) ?_
                refine g_callS (As := [va_rf (rL q1)]) (rest := []) 1 hx hb hml hown hts hK hG hS hl.1 (mJ4_rightOf l X σL tg mp n ad ps K Vv lL rL pL cL rtL es ks sz md hTHL (rL q1) (fun a h => (hokL.r1 hDq1 h).1)) q1213 q1214 q75 q1215 (by decide +kernel) rfl ⟨Nat.le_of_ble_eq_true rfl, Nat.le_of_ble_eq_true rfl⟩ ⟨Nat.le_of_ble_eq_true rfl, Nat.le_of_ble_eq_true rfl⟩ (Nat.le_of_ble_eq_true rfl) dJ4_fixAfterDeletion_83 (kA (fun r321 σr321 H locs hp hG hS => ?_))
                obtain ⟨rfl, rfl⟩ := hp
                refine g_callS (As := [va_rf ((rL q1).bind rL)]) (rest := []) 1 hx hb hml hown hts hK hG hS hl.1 (mJ4_colorOf l X σL tg mp n ad ps K Vv lL rL pL cL rtL es ks sz md hTHL ((rL q1).bind rL) (fun a h => by obtain ⟨z, h1, h2⟩ := Option.bind_eq_some_iff.mp h; exact (hokL.r1 ((fun a h => (hokL.r1 hDq1 h).1) z h1) h2).1)) q1216 q1217 q75 q1218 (by decide +kernel) rfl ⟨Nat.le_of_ble_eq_true rfl, Nat.le_of_ble_eq_true rfl⟩ ⟨Nat.le_of_ble_eq_true rfl, Nat.le_of_ble_eq_true rfl⟩ (Nat.le_of_ble_eq_true rfl) dJ4_fixAfterDeletion_86 (kI (fun r322 σr322 H locs hp hG hS => ?_))
                obtain ⟨hr322, rfl⟩ := hp
                refine g_rw (b := (cO cL ((rL q1).bind rL))) hr322 ?_
                have hc323 : (cO cL ((rL q1).bind rL)) = 0 ∨ (cO cL ((rL q1).bind rL)) = 1 := cO_r (fun a h => hTHL.2.2 _ ((fun a h => by obtain ⟨z, h1, h2⟩ := Option.bind_eq_some_iff.mp h; exact (hokL.r1 ((fun a h => (hokL.r1 hDq1 h).1) z h1) h2).1) a h))
                refine g_iconst hx hb dJ4_fixAfterDeletion_89 ?_
                refine g_icmp_ne (tgt := 106) hx hb dJ4_fixAfterDeletion_90 (by decide) (by omega) (by omega) (fun cq324 => ?_) (fun cq324 => ?_)
                · obtain ⟨c325, hc325⟩ := cO_some (C := cL) (o := ((rL q1).bind rL)) (by omega)
                  obtain ⟨s326, hs326, gc325⟩ := Option.bind_eq_some_iff.mp hc325
                  have nbc325 : ¬ cL c325 = 1 := by
                    intro k
                    have q5 : cO cL ((rL q1).bind rL) = 1 := by rw [hc325]; exact k
                    omega
                  have hD_s326 := (hokL.r1 hDq1 hs326).1
                  have hl : lv_has ls 3 [(2, .ref s326), (0, .ref mp), (1, .ref x9)] := by first | exact hl | (rw [hs326] at hl; exact hl)
                  have ks327 := hokL.r1 hDq1 hs326
                  have ks327n := hokL.num ks327.1
                  have ks327x : lL q1 = some x9 := hch
                  have ks327y := hokL.l1 hDq1 ks327x
                  have ks327z := hokL.num ks327y.1
                  have hn328 : q1 ≠ s326 := tIn.ne (ps := ps) (by omega)
                  have hn329 : x9 ≠ s326 := tIn.ne (ps := ps) (by omega)
                  have hD_c325 := (hokL.r1 hD_s326 gc325).1
                  have kc330 := hokL.r1 hD_s326 gc325
                  have kc330n := hokL.num kc330.1
                  have hn331 : q1 ≠ c325 := tIn.ne (ps := ps) (by omega)
                  have hn332 : x9 ≠ c325 := tIn.ne (ps := ps) (by omega)
                  have hn333 : s326 ≠ c325 := tIn.ne (ps := ps) (by omega)
                  refine lv_aload_n hx hb dJ4_fixAfterDeletion_106 rfl (lv_at hl 0 rfl) ?_
                  refine g_callS (As := [.ref s326]) (rest := []) 1 hx hb hml hown hts hK hG hS hl.1 (mJ4_rightOf l X σL tg mp n ad ps K Vv lL rL pL cL rtL es ks sz md hTHL (some s326) (fun a h => by cases h; exact hD_s326)) q1213 q1214 q75 q1215 (by decide +kernel) rfl ⟨Nat.le_of_ble_eq_true rfl, Nat.le_of_ble_eq_true rfl⟩ ⟨Nat.le_of_ble_eq_true rfl, Nat.le_of_ble_eq_true rfl⟩ (Nat.le_of_ble_eq_true rfl) dJ4_fixAfterDeletion_107 (kA (fun r334 σr334 H locs hp hG hS => ?_))
                  obtain ⟨rfl, rfl⟩ := hp
                  have hf335 : rL s326 = (some c325) := by rw [gc325]
                  refine g_rwv (v := .ref c325) (congrArg va_rf hf335) ?_
                  refine g_callS (As := [.ref c325]) (rest := []) 1 hx hb hml hown hts hK hG hS hl.1 (mJ4_colorOf l X σL tg mp n ad ps K Vv lL rL pL cL rtL es ks sz md hTHL (some c325) (fun a h => by cases h; exact hD_c325)) q1216 q1217 q75 q1218 (by decide +kernel) rfl ⟨Nat.le_of_ble_eq_true rfl, Nat.le_of_ble_eq_true rfl⟩ ⟨Nat.le_of_ble_eq_true rfl, Nat.le_of_ble_eq_true rfl⟩ (Nat.le_of_ble_eq_true rfl) dJ4_fixAfterDeletion_110 (kI (fun r336 σr336 H locs hp hG hS => ?_))
                  obtain ⟨hr336, rfl⟩ := hp
                  refine g_rw (b := (cL c325)) (hr336) ?_
                  have hc337 := hTHL.2.2 _ hD_c325
                  refine g_iconst hx hb dJ4_fixAfterDeletion_113 ?_
                  refine g_icmp_ne (tgt := 143) hx hb dJ4_fixAfterDeletion_114 (by decide) (by omega) (by omega) (fun cq338 => ?_) (fun cq338 => ?_)
                  · refine lv_aload_n hx hb dJ4_fixAfterDeletion_143 rfl (lv_at hl 0 rfl) ?_
                    refine lv_aload_n hx hb dJ4_fixAfterDeletion_144 rfl (lv_at hl 2 rfl) ?_
                    refine g_callS (As := [.ref x9]) (rest := [.ref s326]) 1 hx hb hml hown hts hK hG hS hl.1 (mJ4_parentOf l X σL tg mp n ad ps K Vv lL rL pL cL rtL es ks sz md hTHL (some x9) (fun a h => by cases h; exact hDx9)) q1207 q1208 q75 q1209 (by decide +kernel) rfl ⟨Nat.le_of_ble_eq_true rfl, Nat.le_of_ble_eq_true rfl⟩ ⟨Nat.le_of_ble_eq_true rfl, Nat.le_of_ble_eq_true rfl⟩ (Nat.le_of_ble_eq_true rfl) dJ4_fixAfterDeletion_145 (kA (fun r339 σr339 H locs hp hG hS => ?_))
                    obtain ⟨rfl, rfl⟩ := hp
                    have hf340 : pL x9 = (some q1) := by rw [hqP]
                    refine g_rwv (v := .ref q1) (congrArg va_rf hf340) ?_
                    refine g_callS (As := [.ref q1]) (rest := [.ref s326]) 1 hx hb hml hown hts hK hG hS hl.1 (mJ4_colorOf l X σL tg mp n ad ps K Vv lL rL pL cL rtL es ks sz md hTHL (some q1) (fun a h => by cases h; exact hDq1)) q1216 q1217 q75 q1218 (by decide +kernel) rfl ⟨Nat.le_of_ble_eq_true rfl, Nat.le_of_ble_eq_true rfl⟩ ⟨Nat.le_of_ble_eq_true rfl, Nat.le_of_ble_eq_true rfl⟩ (Nat.le_of_ble_eq_true rfl) dJ4_fixAfterDeletion_148 (kI (fun r341 σr341 H locs hp hG hS => ?_))
                    obtain ⟨hr341, rfl⟩ := hp
                    refine g_rw (b := (cL q1)) (hr341) ?_
                    have hc342 := hTHL.2.2 _ hDq1
                    refine g_callS (As := [.ref s326, .int (iI (cL q1))]) (rest := []) 2 hx hb hml hown hts hK hG hS hl.1 (mJ4_setColor l X σL tg mp n ad ps K Vv lL rL pL cL rtL es ks sz md hTHL (some s326) (fun a h => by cases h; exact hD_s326) (cL q1) (by omega)) q1219 q1220 q75 q1221 (by decide +kernel) rfl ⟨Nat.le_of_ble_eq_true rfl, Nat.le_of_ble_eq_true rfl⟩ ⟨Nat.le_of_ble_eq_true rfl, Nat.le_of_ble_eq_true rfl⟩ (Nat.le_of_ble_eq_true rfl) dJ4_fixAfterDeletion_151 (kV (fun σr343 H locs hp hG hS => ?_))
                    obtain ⟨hTH344, kp344⟩ := hp
                    have hkp344 := hkL.tr kp344
                    have hTH344 : TH σr343 tg mp (tIn n ad ps) K Vv lL rL pL (va_up cL s326 (cL q1)) rtL es ks sz md := hTH344
                    obtain ⟨cc_344, ecc_344⟩ : ∃ z : Nat → Int, z = va_up cL s326 (cL q1) := ⟨_, rfl⟩
                    rw [← ecc_344] at hTH344
                    refine lv_aload_n hx hb dJ4_fixAfterDeletion_154 rfl (lv_at hl 2 rfl) ?_
                    refine g_callS (As := [.ref x9]) (rest := []) 1 hx hb hml hown hts hK hG hS hl.1 (mJ4_parentOf l X σr343 tg mp n ad ps K Vv lL rL pL cc_344 rtL es ks sz md hTH344 (some x9) (fun a h => by cases h; exact hDx9)) q1207 q1208 q75 q1209 (by decide +kernel) rfl ⟨Nat.le_of_ble_eq_true rfl, Nat.le_of_ble_eq_true rfl⟩ ⟨Nat.le_of_ble_eq_true rfl, Nat.le_of_ble_eq_true rfl⟩ (Nat.le_of_ble_eq_true rfl) dJ4_fixAfterDeletion_155 (kA (fun r345 σr345 H locs hp hG hS => ?_))
                    obtain ⟨rfl, rfl⟩ := hp
                    have hf346 : pL x9 = (some q1) := by rw [hqP]
                    refine g_rwv (v := .ref q1) (congrArg va_rf hf346) ?_
                    refine g_iconst hx hb dJ4_fixAfterDeletion_158 ?_
                    refine g_callS (As := [.ref q1, .int (iI 1)]) (rest := []) 2 hx hb hml hown hts hK hG hS hl.1 (mJ4_setColor l X σr343 tg mp n ad ps K Vv lL rL pL cc_344 rtL es ks sz md hTH344 (some q1) (fun a h => by cases h; exact hDq1) 1 (by omega)) q1219 q1220 q75 q1221 (by decide +kernel) rfl ⟨Nat.le_of_ble_eq_true rfl, Nat.le_of_ble_eq_true rfl⟩ ⟨Nat.le_of_ble_eq_true rfl, Nat.le_of_ble_eq_true rfl⟩ (Nat.le_of_ble_eq_true rfl) dJ4_fixAfterDeletion_159 (kV (fun σr347 H locs hp hG hS => ?_))
                    obtain ⟨hTH348, kp348⟩ := hp
                    have hkp348 := hkp344.tr kp348
                    have hTH348 : TH σr347 tg mp (tIn n ad ps) K Vv lL rL pL (va_up cc_344 q1 1) rtL es ks sz md := hTH348
                    obtain ⟨cc_348, ecc_348⟩ : ∃ z : Nat → Int, z = va_up cc_344 q1 1 := ⟨_, rfl⟩
                    rw [← ecc_348] at hTH348
                    refine lv_aload_n hx hb dJ4_fixAfterDeletion_162 rfl (lv_at hl 0 rfl) ?_
                    refine g_callS (As := [.ref s326]) (rest := []) 1 hx hb hml hown hts hK hG hS hl.1 (mJ4_rightOf l X σr347 tg mp n ad ps K Vv lL rL pL cc_348 rtL es ks sz md hTH348 (some s326) (fun a h => by cases h; exact hD_s326)) q1213 q1214 q75 q1215 (by decide +kernel) rfl ⟨Nat.le_of_ble_eq_true rfl, Nat.le_of_ble_eq_true rfl⟩ ⟨Nat.le_of_ble_eq_true rfl, Nat.le_of_ble_eq_true rfl⟩ (Nat.le_of_ble_eq_true rfl) dJ4_fixAfterDeletion_163 (kA (fun r349 σr349 H locs hp hG hS => ?_))
                    obtain ⟨rfl, rfl⟩ := hp
                    have hf350 : rL s326 = (some c325) := by rw [gc325]
                    refine g_rwv (v := .ref c325) (congrArg va_rf hf350) ?_
                    refine g_iconst hx hb dJ4_fixAfterDeletion_166 ?_
                    refine g_callS (As := [.ref c325, .int (iI 1)]) (rest := []) 2 hx hb hml hown hts hK hG hS hl.1 (mJ4_setColor l X σr347 tg mp n ad ps K Vv lL rL pL cc_348 rtL es ks sz md hTH348 (some c325) (fun a h => by cases h; exact hD_c325) 1 (by omega)) q1219 q1220 q75 q1221 (by decide +kernel) rfl ⟨Nat.le_of_ble_eq_true rfl, Nat.le_of_ble_eq_true rfl⟩ ⟨Nat.le_of_ble_eq_true rfl, Nat.le_of_ble_eq_true rfl⟩ (Nat.le_of_ble_eq_true rfl) dJ4_fixAfterDeletion_167 (kV (fun σr351 H locs hp hG hS => ?_))
                    obtain ⟨hTH352, kp352⟩ := hp
                    have hkp352 := hkp348.tr kp352
                    have hTH352 : TH σr351 tg mp (tIn n ad ps) K Vv lL rL pL (va_up cc_348 c325 1) rtL es ks sz md := hTH352
                    obtain ⟨cc_352, ecc_352⟩ : ∃ z : Nat → Int, z = va_up cc_348 c325 1 := ⟨_, rfl⟩
                    rw [← ecc_352] at hTH352
                    refine lv_aload_n hx hb dJ4_fixAfterDeletion_170 rfl (lv_at hl 1 rfl) ?_
                    refine lv_aload_n hx hb dJ4_fixAfterDeletion_171 rfl (lv_at hl 2 rfl) ?_
                    refine g_callS (As := [.ref x9]) (rest := [.ref mp]) 1 hx hb hml hown hts hK hG hS hl.1 (mJ4_parentOf l X σr351 tg mp n ad ps K Vv lL rL pL cc_352 rtL es ks sz md hTH352 (some x9) (fun a h => by cases h; exact hDx9)) q1207 q1208 q75 q1209 (by decide +kernel) rfl ⟨Nat.le_of_ble_eq_true rfl, Nat.le_of_ble_eq_true rfl⟩ ⟨Nat.le_of_ble_eq_true rfl, Nat.le_of_ble_eq_true rfl⟩ (Nat.le_of_ble_eq_true rfl) dJ4_fixAfterDeletion_172 (kA (fun r353 σr353 H locs hp hG hS => ?_))
                    obtain ⟨rfl, rfl⟩ := hp
                    have hf354 : pL x9 = (some q1) := by rw [hqP]
                    refine g_rwv (v := .ref q1) (congrArg va_rf hf354) ?_
                    refine g_callV (As := [.ref q1]) (rest := []) 1 hx hb hml hown hts hK hG hS hl.1 (mJ4_rotateLeft l X σr351 tg mp n ad ps K Vv lL rL pL cc_352 rtL es ks sz md hTH352 loL hiL hokL q1 s326 hDq1 hs326) hTH352.1 rfl q1222 q1224 qs33 q75 q1225 (by decide +kernel) rfl ⟨Nat.le_of_ble_eq_true rfl, Nat.le_of_ble_eq_true rfl⟩ ⟨Nat.le_of_ble_eq_true rfl, Nat.le_of_ble_eq_true rfl⟩ (Nat.le_of_ble_eq_true rfl) dJ4_fixAfterDeletion_175 (kV (fun σr355 H locs hp hG hS => ?_))
                    obtain ⟨l_356, r_356, p_356, rt_356, hTH356, kp356, hl_356, hr_356, hp_356, hrt_356⟩ := hp
                    have hkp356 := hkp352.tr kp356
                    have hok356 := hokL.rotL hDq1 hs326 (hl := hl_356) (hr := hr_356) (hp := hp_356) (hrt := hrt_356)
                    obtain ⟨lo_356, elo_356⟩ : ∃ z, z = va_up loL s326 (loL q1) := ⟨_, rfl⟩
                    obtain ⟨hi_356, ehi_356⟩ : ∃ z, z = va_up (va_up hiL s326 (hiL q1)) q1 (ps s326) := ⟨_, rfl⟩
                    rw [← elo_356, ← ehi_356] at hok356
                    have hlf356 : ∀ z, S z → l_356 z = none ∧ r_356 z = none ∧ tIn n ad ps z ∧ loL x9 ≤ ps z ∧ ps z < hiL x9 := fun z hz => by
                      obtain ⟨k1, k2, k3, k4, k5⟩ := hlf z hz
                      have za : z ≠ q1 := fun e => by rw [e, hs326] at k2; cases k2
                      have zb : z ≠ s326 := tIn.ne (ps := ps) (by omega)
                      exact ⟨by rw [hl_356 z k3, if_neg zb, k1, if_neg (fun e => by cases e)], by rw [hr_356 z k3, if_neg za, k2, if_neg (fun e => by cases e)], k3, k4, k5⟩
                    obtain ⟨ρ, hρ⟩ := hok356.root hDx9
                    have hρr := hok356.rx hρ
                    have hD_ρ := (hok356.rx hρ).1
                    refine lv_aload_n hx hb dJ4_fixAfterDeletion_178 rfl (lv_at hl 1 rfl) ?_
                    refine g_get (C := RJ4) (T := TJ4) (N := 9) (v := .ref ρ) hx hb hts hown hK hG hTH356.1 rfl in_J4 3 (by decide) q146 rfl (congrArg (fun q9 => some (va_rf q9)) hρ) dJ4_fixAfterDeletion_179 ?_
                    refine lv_astore_n (lv' := [(1, .ref ρ), (2, .ref s326), (0, .ref mp)]) hx hb dJ4_fixAfterDeletion_182 rfl hl (by decide) rfl (fun ls hl => ?_)
                    refine lv_goto (tgt := 0) hx hb dJ4_fixAfterDeletion_183 (by decide) ?_
                    exact ih_0 σr355 l_356 r_356 p_356 cc_352 rt_356 lo_356 hi_356 ρ (f - 1) (by omega) (hTH356) (hok356) (hkp356) (hD_ρ) (Or.inr (Or.inl hρ)) (fun z hz => by obtain ⟨k1, k2, k3, k4, k5⟩ := hlf356 z hz; exact ⟨k1, k2, k3, by omega, by have := k3.1; omega⟩)  _ _ _ hG hS (lv_sub hl [2, 0] rfl)
                  · exfalso; omega
                · refine g_aload_nR hx hb dJ4_fixAfterDeletion_93 rfl (lv_at hl 0 rfl) ?_
                  refine g_iconst hx hb dJ4_fixAfterDeletion_94 ?_
                  refine g_callS (As := [va_rf (rL q1), .int (iI 0)]) (rest := []) 2 hx hb hml hown hts hK hG hS hl.1 (mJ4_setColor l X σL tg mp n ad ps K Vv lL rL pL cL rtL es ks sz md hTHL (rL q1) (fun a h => (hokL.r1 hDq1 h).1) 0 (by omega)) q1219 q1220 q75 q1221 (by decide +kernel) rfl ⟨Nat.le_of_ble_eq_true rfl, Nat.le_of_ble_eq_true rfl⟩ ⟨Nat.le_of_ble_eq_true rfl, Nat.le_of_ble_eq_true rfl⟩ (Nat.le_of_ble_eq_true rfl) dJ4_fixAfterDeletion_95 (kV (fun σr357 H locs hp hG hS => ?_))
                  obtain ⟨hTH358, kp358⟩ := hp
                  have hkp358 := hkL.tr kp358
                  obtain ⟨cc_358, ecc_358⟩ : ∃ z : Nat → Int, z = cUp cL (rL q1) 0 := ⟨_, rfl⟩
                  rw [← ecc_358] at hTH358
                  refine lv_aload_n hx hb dJ4_fixAfterDeletion_98 rfl (lv_at hl 2 rfl) ?_
                  refine g_callS (As := [.ref x9]) (rest := []) 1 hx hb hml hown hts hK hG hS hl.1 (mJ4_parentOf l X σr357 tg mp n ad ps K Vv lL rL pL cc_358 rtL es ks sz md hTH358 (some x9) (fun a h => by cases h; exact hDx9)) q1207 q1208 q75 q1209 (by decide +kernel) rfl ⟨Nat.le_of_ble_eq_true rfl, Nat.le_of_ble_eq_true rfl⟩ ⟨Nat.le_of_ble_eq_true rfl, Nat.le_of_ble_eq_true rfl⟩ (Nat.le_of_ble_eq_true rfl) dJ4_fixAfterDeletion_99 (kA (fun r359 σr359 H locs hp hG hS => ?_))
                  obtain ⟨rfl, rfl⟩ := hp
                  have hf360 : pL x9 = (some q1) := by rw [hqP]
                  refine g_rwv (v := .ref q1) (congrArg va_rf hf360) ?_
                  refine lv_astore_n (lv' := [(1, .ref q1), (2, va_rf (rL q1)), (0, .ref mp)]) hx hb dJ4_fixAfterDeletion_102 rfl hl (by decide) rfl (fun ls hl => ?_)
                  refine lv_goto (tgt := 183) hx hb dJ4_fixAfterDeletion_103 (by decide) ?_
                  refine lv_goto (tgt := 0) hx hb dJ4_fixAfterDeletion_183 (by decide) ?_
                  exact ih_0 σr357 lL rL pL cc_358 rtL loL hiL q1 (f - 1) (by omega) (hTH358) (hokL) (hkp358) (hDq1) (Or.inr (Or.inr (by omega))) (fun z hz => by obtain ⟨k1, k2, k3, k4, k5⟩ := hlf z hz; exact ⟨k1, k2, k3, by omega, by omega⟩)  _ _ _ hG hS (lv_sub hl [2, 0] rfl)
            · obtain ⟨s361, hs361⟩ := cO_some (C := cL) (o := (rL q1)) (by omega)
              have hD_s361 := (hokL.r1 hDq1 hs361).1
              have hl : lv_has ls 3 [(2, .ref s361), (0, .ref mp), (1, .ref x9)] := by first | exact hl | (rw [hs361] at hl; exact hl)
              have ks362 := hokL.r1 hDq1 hs361
              have ks362n := hokL.num ks362.1
              have ks362x : lL q1 = some x9 := hch
              have ks362y := hokL.l1 hDq1 ks362x
              have ks362z := hokL.num ks362y.1
              have hn363 : q1 ≠ s361 := tIn.ne (ps := ps) (by omega)
              have hn364 : x9 ≠ s361 := tIn.ne (ps := ps) (by omega)
              refine lv_aload_n hx hb dJ4_fixAfterDeletion_42 rfl (lv_at hl 0 rfl) ?_
              refine g_iconst hx hb dJ4_fixAfterDeletion_43 ?_
              refine g_callS (As := [.ref s361, .int (iI 1)]) (rest := []) 2 hx hb hml hown hts hK hG hS hl.1 (mJ4_setColor l X σL tg mp n ad ps K Vv lL rL pL cL rtL es ks sz md hTHL (some s361) (fun a h => by cases h; exact hD_s361) 1 (by omega)) q1219 q1220 q75 q1221 (by decide +kernel) rfl ⟨Nat.le_of_ble_eq_true rfl, Nat.le_of_ble_eq_true rfl⟩ ⟨Nat.le_of_ble_eq_true rfl, Nat.le_of_ble_eq_true rfl⟩ (Nat.le_of_ble_eq_true rfl) dJ4_fixAfterDeletion_44 (kV (fun σr365 H locs hp hG hS => ?_))
              obtain ⟨hTH366, kp366⟩ := hp
              have hkp366 := hkL.tr kp366
              have hTH366 : TH σr365 tg mp (tIn n ad ps) K Vv lL rL pL (va_up cL s361 1) rtL es ks sz md := hTH366
              obtain ⟨cc_366, ecc_366⟩ : ∃ z : Nat → Int, z = va_up cL s361 1 := ⟨_, rfl⟩
              rw [← ecc_366] at hTH366
              refine lv_aload_n hx hb dJ4_fixAfterDeletion_47 rfl (lv_at hl 2 rfl) ?_
              refine g_callS (As := [.ref x9]) (rest := []) 1 hx hb hml hown hts hK hG hS hl.1 (mJ4_parentOf l X σr365 tg mp n ad ps K Vv lL rL pL cc_366 rtL es ks sz md hTH366 (some x9) (fun a h => by cases h; exact hDx9)) q1207 q1208 q75 q1209 (by decide +kernel) rfl ⟨Nat.le_of_ble_eq_true rfl, Nat.le_of_ble_eq_true rfl⟩ ⟨Nat.le_of_ble_eq_true rfl, Nat.le_of_ble_eq_true rfl⟩ (Nat.le_of_ble_eq_true rfl) dJ4_fixAfterDeletion_48 (kA (fun r367 σr367 H locs hp hG hS => ?_))
              obtain ⟨rfl, rfl⟩ := hp
              have hf368 : pL x9 = (some q1) := by rw [hqP]
              refine g_rwv (v := .ref q1) (congrArg va_rf hf368) ?_
              refine g_iconst hx hb dJ4_fixAfterDeletion_51 ?_
              refine g_callS (As := [.ref q1, .int (iI 0)]) (rest := []) 2 hx hb hml hown hts hK hG hS hl.1 (mJ4_setColor l X σr365 tg mp n ad ps K Vv lL rL pL cc_366 rtL es ks sz md hTH366 (some q1) (fun a h => by cases h; exact hDq1) 0 (by omega)) q1219 q1220 q75 q1221 (by decide +kernel) rfl ⟨Nat.le_of_ble_eq_true rfl, Nat.le_of_ble_eq_true rfl⟩ ⟨Nat.le_of_ble_eq_true rfl, Nat.le_of_ble_eq_true rfl⟩ (Nat.le_of_ble_eq_true rfl) dJ4_fixAfterDeletion_52 (kV (fun σr369 H locs hp hG hS => ?_))
              obtain ⟨hTH370, kp370⟩ := hp
              have hkp370 := hkp366.tr kp370
              have hTH370 : TH σr369 tg mp (tIn n ad ps) K Vv lL rL pL (va_up cc_366 q1 0) rtL es ks sz md := hTH370
              obtain ⟨cc_370, ecc_370⟩ : ∃ z : Nat → Int, z = va_up cc_366 q1 0 := ⟨_, rfl⟩
              rw [← ecc_370] at hTH370
              refine lv_aload_n hx hb dJ4_fixAfterDeletion_55 rfl (lv_at hl 1 rfl) ?_
              refine lv_aload_n hx hb dJ4_fixAfterDeletion_56 rfl (lv_at hl 2 rfl) ?_
              refine g_callS (As := [.ref x9]) (rest := [.ref mp]) 1 hx hb hml hown hts hK hG hS hl.1 (mJ4_parentOf l X σr369 tg mp n ad ps K Vv lL rL pL cc_370 rtL es ks sz md hTH370 (some x9) (fun a h => by cases h; exact hDx9)) q1207 q1208 q75 q1209 (by decide +kernel) rfl ⟨Nat.le_of_ble_eq_true rfl, Nat.le_of_ble_eq_true rfl⟩ ⟨Nat.le_of_ble_eq_true rfl, Nat.le_of_ble_eq_true rfl⟩ (Nat.le_of_ble_eq_true rfl) dJ4_fixAfterDeletion_57 (kA (fun r371 σr371 H locs hp hG hS => ?_))
              obtain ⟨rfl, rfl⟩ := hp
              have hf372 : pL x9 = (some q1) := by rw [hqP]
              refine g_rwv (v := .ref q1) (congrArg va_rf hf372) ?_
              refine g_callV (As := [.ref q1]) (rest := []) 1 hx hb hml hown hts hK hG hS hl.1 (mJ4_rotateLeft l X σr369 tg mp n ad ps K Vv lL rL pL cc_370 rtL es ks sz md hTH370 loL hiL hokL q1 s361 hDq1 hs361) hTH370.1 rfl q1222 q1224 qs33 q75 q1225 (by decide +kernel) rfl ⟨Nat.le_of_ble_eq_true rfl, Nat.le_of_ble_eq_true rfl⟩ ⟨Nat.le_of_ble_eq_true rfl, Nat.le_of_ble_eq_true rfl⟩ (Nat.le_of_ble_eq_true rfl) dJ4_fixAfterDeletion_60 (kV (fun σr373 H locs hp hG hS => ?_))
              obtain ⟨l_374, r_374, p_374, rt_374, hTH374, kp374, hl_374, hr_374, hp_374, hrt_374⟩ := hp
              have hkp374 := hkp370.tr kp374
              have hok374 := hokL.rotL hDq1 hs361 (hl := hl_374) (hr := hr_374) (hp := hp_374) (hrt := hrt_374)
              obtain ⟨lo_374, elo_374⟩ : ∃ z, z = va_up loL s361 (loL q1) := ⟨_, rfl⟩
              obtain ⟨hi_374, ehi_374⟩ : ∃ z, z = va_up (va_up hiL s361 (hiL q1)) q1 (ps s361) := ⟨_, rfl⟩
              rw [← elo_374, ← ehi_374] at hok374
              have hlf374 : ∀ z, S z → l_374 z = none ∧ r_374 z = none ∧ tIn n ad ps z ∧ loL x9 ≤ ps z ∧ ps z < hiL x9 := fun z hz => by
                obtain ⟨k1, k2, k3, k4, k5⟩ := hlf z hz
                have za : z ≠ q1 := fun e => by rw [e, hs361] at k2; cases k2
                have zb : z ≠ s361 := tIn.ne (ps := ps) (by omega)
                exact ⟨by rw [hl_374 z k3, if_neg zb, k1, if_neg (fun e => by cases e)], by rw [hr_374 z k3, if_neg za, k2, if_neg (fun e => by cases e)], k3, k4, k5⟩
              have hno374 : ¬ lL s361 = some x9 := fun k => by have q5 := (hokL.l1 hD_s361 k).2.2.2; rw [hqP] at q5; exact hn363 (Option.some.inj q5)
              have hpx374 : p_374 x9 = some q1 := by rw [hp_374 x9 hDx9, if_neg hn364, if_neg hxq, if_neg hno374]; exact hqP
              have hch374 : l_374 q1 = some x9 := by rw [hl_374 q1 hDq1, if_neg hn363, hch, if_neg (some_ne hxq)]
              have hq5374 := hok374.l1 hDq1 hch374
              have hq6374 := hok374.num hDq1
              have hq7374 : lo_374 q1 = loL q1 := by rw [elo_374, va_up_ne _ _ hn363]
              have hq8374 : hi_374 q1 = ps s361 := by rw [ehi_374, va_up_self]
              refine lv_aload_n hx hb dJ4_fixAfterDeletion_63 rfl (lv_at hl 2 rfl) ?_
              refine g_callS (As := [.ref x9]) (rest := []) 1 hx hb hml hown hts hK hG hS hl.1 (mJ4_parentOf l X σr373 tg mp n ad ps K Vv l_374 r_374 p_374 cc_370 rt_374 es ks sz md hTH374 (some x9) (fun a h => by cases h; exact hDx9)) q1207 q1208 q75 q1209 (by decide +kernel) rfl ⟨Nat.le_of_ble_eq_true rfl, Nat.le_of_ble_eq_true rfl⟩ ⟨Nat.le_of_ble_eq_true rfl, Nat.le_of_ble_eq_true rfl⟩ (Nat.le_of_ble_eq_true rfl) dJ4_fixAfterDeletion_64 (kA (fun r375 σr375 H locs hp hG hS => ?_))
              obtain ⟨rfl, rfl⟩ := hp
              have hf376 : p_374 x9 = (some q1) := by rw [hpx374]
              refine g_rwv (v := .ref q1) (congrArg va_rf hf376) ?_
              refine g_callS (As := [.ref q1]) (rest := []) 1 hx hb hml hown hts hK hG hS hl.1 (mJ4_rightOf l X σr373 tg mp n ad ps K Vv l_374 r_374 p_374 cc_370 rt_374 es ks sz md hTH374 (some q1) (fun a h => by cases h; exact hDq1)) q1213 q1214 q75 q1215 (by decide +kernel) rfl ⟨Nat.le_of_ble_eq_true rfl, Nat.le_of_ble_eq_true rfl⟩ ⟨Nat.le_of_ble_eq_true rfl, Nat.le_of_ble_eq_true rfl⟩ (Nat.le_of_ble_eq_true rfl) dJ4_fixAfterDeletion_67 (kA (fun r377 σr377 H locs hp hG hS => ?_))
              obtain ⟨rfl, rfl⟩ := hp
              refine g_rwv (v := va_rf (r_374 q1)) rfl ?_
              refine g_astore_nR (lv' := [(2, va_rf (r_374 q1)), (0, .ref mp), (1, .ref x9)]) hx hb dJ4_fixAfterDeletion_70 rfl hl (by decide) rfl (fun ls hl => ?_)
              refine g_aload_nR hx hb dJ4_fixAfterDeletion_71 rfl (lv_at hl 0 rfl) ?_
              refine g_callS (As := [va_rf (r_374 q1)]) (rest := []) 1 hx hb hml hown hts hK hG hS hl.1 (mJ4_leftOf l X σr373 tg mp n ad ps K Vv l_374 r_374 p_374 cc_370 rt_374 es ks sz md hTH374 (r_374 q1) (fun a h => (hok374.r1 hDq1 h).1)) q1210 q1211 q75 q1212 (by decide +kernel) rfl ⟨Nat.le_of_ble_eq_true rfl, Nat.le_of_ble_eq_true rfl⟩ ⟨Nat.le_of_ble_eq_true rfl, Nat.le_of_ble_eq_true rfl⟩ (Nat.le_of_ble_eq_true rfl) dJ4_fixAfterDeletion_72 (kA (fun r378 σr378 H locs hp hG hS => ?_))
              obtain ⟨rfl, rfl⟩ := hp
              refine g_callS (As := [va_rf ((r_374 q1).bind l_374)]) (rest := []) 1 hx hb hml hown hts hK hG hS hl.1 (mJ4_colorOf l X σr373 tg mp n ad ps K Vv l_374 r_374 p_374 cc_370 rt_374 es ks sz md hTH374 ((r_374 q1).bind l_374) (fun a h => by obtain ⟨z, h1, h2⟩ := Option.bind_eq_some_iff.mp h; exact (hok374.l1 ((fun a h => (hok374.r1 hDq1 h).1) z h1) h2).1)) q1216 q1217 q75 q1218 (by decide +kernel) rfl ⟨Nat.le_of_ble_eq_true rfl, Nat.le_of_ble_eq_true rfl⟩ ⟨Nat.le_of_ble_eq_true rfl, Nat.le_of_ble_eq_true rfl⟩ (Nat.le_of_ble_eq_true rfl) dJ4_fixAfterDeletion_75 (kI (fun r379 σr379 H locs hp hG hS => ?_))
              obtain ⟨hr379, rfl⟩ := hp
              refine g_rw (b := (cO cc_370 ((r_374 q1).bind l_374))) hr379 ?_
              have hc380 : (cO cc_370 ((r_374 q1).bind l_374)) = 0 ∨ (cO cc_370 ((r_374 q1).bind l_374)) = 1 := cO_r (fun a h => hTH374.2.2 _ ((fun a h => by obtain ⟨z, h1, h2⟩ := Option.bind_eq_some_iff.mp h; exact (hok374.l1 ((fun a h => (hok374.r1 hDq1 h).1) z h1) h2).1) a h))
              refine g_iconst hx hb dJ4_fixAfterDeletion_78 ?_
              refine g_icmp_ne (tgt := 106) hx hb dJ4_fixAfterDeletion_79 (by decide) (by omega) (by omega) (fun cq381 => ?_) (fun cq381 => ?_)
              · obtain ⟨c382, hc382⟩ := cO_some (C := cc_370) (o := ((r_374 q1).bind l_374)) (by omega)
                obtain ⟨s383, hs383, gc382⟩ := Option.bind_eq_some_iff.mp hc382
                have nbc382 : ¬ cc_370 c382 = 1 := by
                  intro k
                  have q5 : cO cc_370 ((r_374 q1).bind l_374) = 1 := by rw [hc382]; exact k
                  omega
                have hD_s383 := (hok374.r1 hDq1 hs383).1
                have hl : lv_has ls 3 [(2, .ref s383), (0, .ref mp), (1, .ref x9)] := by first | exact hl | (rw [hs383] at hl; exact hl)
                have ks384 := hok374.r1 hDq1 hs383
                have ks384n := hok374.num ks384.1
                have ks384x : l_374 q1 = some x9 := hch374
                have ks384y := hok374.l1 hDq1 ks384x
                have ks384z := hok374.num ks384y.1
                have hn385 : q1 ≠ s383 := tIn.ne (ps := ps) (by omega)
                have hn386 : x9 ≠ s383 := tIn.ne (ps := ps) (by omega)
                have hn387 : s361 ≠ s383 := tIn.ne (ps := ps) (by omega)
                have hD_c382 := (hok374.l1 hD_s383 gc382).1
                have kc388 := hok374.l1 hD_s383 gc382
                have kc388n := hok374.num kc388.1
                have hn389 : q1 ≠ c382 := tIn.ne (ps := ps) (by omega)
                have hn390 : x9 ≠ c382 := tIn.ne (ps := ps) (by omega)
                have hn391 : s383 ≠ c382 := tIn.ne (ps := ps) (by omega)
                have hn392 : s361 ≠ c382 := tIn.ne (ps := ps) (by omega)
                refine lv_aload_n hx hb dJ4_fixAfterDeletion_106 rfl (lv_at hl 0 rfl) ?_
                refine g_callS (As := [.ref s383]) (rest := []) 1 hx hb hml hown hts hK hG hS hl.1 (mJ4_rightOf l X σr373 tg mp n ad ps K Vv l_374 r_374 p_374 cc_370 rt_374 es ks sz md hTH374 (some s383) (fun a h => by cases h; exact hD_s383)) q1213 q1214 q75 q1215 (by decide +kernel) rfl ⟨Nat.le_of_ble_eq_true rfl, Nat.le_of_ble_eq_true rfl⟩ ⟨Nat.le_of_ble_eq_true rfl, Nat.le_of_ble_eq_true rfl⟩ (Nat.le_of_ble_eq_true rfl) dJ4_fixAfterDeletion_107 (kA (fun r393 σr393 H locs hp hG hS => ?_))
                obtain ⟨rfl, rfl⟩ := hp
                refine g_rwv (v := va_rf (r_374 s383)) rfl ?_
                refine g_callS (As := [va_rf (r_374 s383)]) (rest := []) 1 hx hb hml hown hts hK hG hS hl.1 (mJ4_colorOf l X σr373 tg mp n ad ps K Vv l_374 r_374 p_374 cc_370 rt_374 es ks sz md hTH374 (r_374 s383) (fun a h => (hok374.r1 hD_s383 h).1)) q1216 q1217 q75 q1218 (by decide +kernel) rfl ⟨Nat.le_of_ble_eq_true rfl, Nat.le_of_ble_eq_true rfl⟩ ⟨Nat.le_of_ble_eq_true rfl, Nat.le_of_ble_eq_true rfl⟩ (Nat.le_of_ble_eq_true rfl) dJ4_fixAfterDeletion_110 (kI (fun r394 σr394 H locs hp hG hS => ?_))
                obtain ⟨hr394, rfl⟩ := hp
                refine g_rw (b := (cO cc_370 (r_374 s383))) hr394 ?_
                have hc395 : (cO cc_370 (r_374 s383)) = 0 ∨ (cO cc_370 (r_374 s383)) = 1 := cO_r (fun a h => hTH374.2.2 _ ((fun a h => (hok374.r1 hD_s383 h).1) a h))
                refine g_iconst hx hb dJ4_fixAfterDeletion_113 ?_
                refine g_icmp_ne (tgt := 143) hx hb dJ4_fixAfterDeletion_114 (by decide) (by omega) (by omega) (fun cq396 => ?_) (fun cq396 => ?_)
                · refine lv_aload_n hx hb dJ4_fixAfterDeletion_143 rfl (lv_at hl 0 rfl) ?_
                  refine lv_aload_n hx hb dJ4_fixAfterDeletion_144 rfl (lv_at hl 2 rfl) ?_
                  refine g_callS (As := [.ref x9]) (rest := [.ref s383]) 1 hx hb hml hown hts hK hG hS hl.1 (mJ4_parentOf l X σr373 tg mp n ad ps K Vv l_374 r_374 p_374 cc_370 rt_374 es ks sz md hTH374 (some x9) (fun a h => by cases h; exact hDx9)) q1207 q1208 q75 q1209 (by decide +kernel) rfl ⟨Nat.le_of_ble_eq_true rfl, Nat.le_of_ble_eq_true rfl⟩ ⟨Nat.le_of_ble_eq_true rfl, Nat.le_of_ble_eq_true rfl⟩ (Nat.le_of_ble_eq_true rfl) dJ4_fixAfterDeletion_145 (kA (fun r397 σr397 H locs hp hG hS => ?_))
                  obtain ⟨rfl, rfl⟩ := hp
                  have hf398 : p_374 x9 = (some q1) := by rw [hpx374]
                  refine g_rwv (v := .ref q1) (congrArg va_rf hf398) ?_
                  refine g_callS (As := [.ref q1]) (rest := [.ref s383]) 1 hx hb hml hown hts hK hG hS hl.1 (mJ4_colorOf l X σr373 tg mp n ad ps K Vv l_374 r_374 p_374 cc_370 rt_374 es ks sz md hTH374 (some q1) (fun a h => by cases h; exact hDq1)) q1216 q1217 q75 q1218 (by decide +kernel) rfl ⟨Nat.le_of_ble_eq_true rfl, Nat.le_of_ble_eq_true rfl⟩ ⟨Nat.le_of_ble_eq_true rfl, Nat.le_of_ble_eq_true rfl⟩ (Nat.le_of_ble_eq_true rfl) dJ4_fixAfterDeletion_148 (kI (fun r399 σr399 H locs hp hG hS => ?_))
                  obtain ⟨hr399, rfl⟩ := hp
                  have hf400 : cc_370 q1 = 0 := by rw [ecc_370, va_up_self]
                  refine g_rw (b := 0) (hr399.trans hf400) ?_
                  have hc401 := hTH374.2.2 _ hDq1
                  rw [hf400] at hc401
                  refine g_callS (As := [.ref s383, .int (iI 0)]) (rest := []) 2 hx hb hml hown hts hK hG hS hl.1 (mJ4_setColor l X σr373 tg mp n ad ps K Vv l_374 r_374 p_374 cc_370 rt_374 es ks sz md hTH374 (some s383) (fun a h => by cases h; exact hD_s383) 0 (by omega)) q1219 q1220 q75 q1221 (by decide +kernel) rfl ⟨Nat.le_of_ble_eq_true rfl, Nat.le_of_ble_eq_true rfl⟩ ⟨Nat.le_of_ble_eq_true rfl, Nat.le_of_ble_eq_true rfl⟩ (Nat.le_of_ble_eq_true rfl) dJ4_fixAfterDeletion_151 (kV (fun σr402 H locs hp hG hS => ?_))
                  obtain ⟨hTH403, kp403⟩ := hp
                  have hkp403 := hkp374.tr kp403
                  have hTH403 : TH σr402 tg mp (tIn n ad ps) K Vv l_374 r_374 p_374 (va_up cc_370 s383 0) rt_374 es ks sz md := hTH403
                  obtain ⟨cc_403, ecc_403⟩ : ∃ z : Nat → Int, z = va_up cc_370 s383 0 := ⟨_, rfl⟩
                  rw [← ecc_403] at hTH403
                  refine lv_aload_n hx hb dJ4_fixAfterDeletion_154 rfl (lv_at hl 2 rfl) ?_
                  refine g_callS (As := [.ref x9]) (rest := []) 1 hx hb hml hown hts hK hG hS hl.1 (mJ4_parentOf l X σr402 tg mp n ad ps K Vv l_374 r_374 p_374 cc_403 rt_374 es ks sz md hTH403 (some x9) (fun a h => by cases h; exact hDx9)) q1207 q1208 q75 q1209 (by decide +kernel) rfl ⟨Nat.le_of_ble_eq_true rfl, Nat.le_of_ble_eq_true rfl⟩ ⟨Nat.le_of_ble_eq_true rfl, Nat.le_of_ble_eq_true rfl⟩ (Nat.le_of_ble_eq_true rfl) dJ4_fixAfterDeletion_155 (kA (fun r404 σr404 H locs hp hG hS => ?_))
                  obtain ⟨rfl, rfl⟩ := hp
                  have hf405 : p_374 x9 = (some q1) := by rw [hpx374]
                  refine g_rwv (v := .ref q1) (congrArg va_rf hf405) ?_
                  refine g_iconst hx hb dJ4_fixAfterDeletion_158 ?_
                  refine g_callS (As := [.ref q1, .int (iI 1)]) (rest := []) 2 hx hb hml hown hts hK hG hS hl.1 (mJ4_setColor l X σr402 tg mp n ad ps K Vv l_374 r_374 p_374 cc_403 rt_374 es ks sz md hTH403 (some q1) (fun a h => by cases h; exact hDq1) 1 (by omega)) q1219 q1220 q75 q1221 (by decide +kernel) rfl ⟨Nat.le_of_ble_eq_true rfl, Nat.le_of_ble_eq_true rfl⟩ ⟨Nat.le_of_ble_eq_true rfl, Nat.le_of_ble_eq_true rfl⟩ (Nat.le_of_ble_eq_true rfl) dJ4_fixAfterDeletion_159 (kV (fun σr406 H locs hp hG hS => ?_))
                  obtain ⟨hTH407, kp407⟩ := hp
                  have hkp407 := hkp403.tr kp407
                  have hTH407 : TH σr406 tg mp (tIn n ad ps) K Vv l_374 r_374 p_374 (va_up cc_403 q1 1) rt_374 es ks sz md := hTH407
                  obtain ⟨cc_407, ecc_407⟩ : ∃ z : Nat → Int, z = va_up cc_403 q1 1 := ⟨_, rfl⟩
                  rw [← ecc_407] at hTH407
                  refine lv_aload_n hx hb dJ4_fixAfterDeletion_162 rfl (lv_at hl 0 rfl) ?_
                  refine g_callS (As := [.ref s383]) (rest := []) 1 hx hb hml hown hts hK hG hS hl.1 (mJ4_rightOf l X σr406 tg mp n ad ps K Vv l_374 r_374 p_374 cc_407 rt_374 es ks sz md hTH407 (some s383) (fun a h => by cases h; exact hD_s383)) q1213 q1214 q75 q1215 (by decide +kernel) rfl ⟨Nat.le_of_ble_eq_true rfl, Nat.le_of_ble_eq_true rfl⟩ ⟨Nat.le_of_ble_eq_true rfl, Nat.le_of_ble_eq_true rfl⟩ (Nat.le_of_ble_eq_true rfl) dJ4_fixAfterDeletion_163 (kA (fun r408 σr408 H locs hp hG hS => ?_))
                  obtain ⟨rfl, rfl⟩ := hp
                  refine g_rwv (v := va_rf (r_374 s383)) rfl ?_
                  refine g_iconst hx hb dJ4_fixAfterDeletion_166 ?_
                  refine g_callS (As := [va_rf (r_374 s383), .int (iI 1)]) (rest := []) 2 hx hb hml hown hts hK hG hS hl.1 (mJ4_setColor l X σr406 tg mp n ad ps K Vv l_374 r_374 p_374 cc_407 rt_374 es ks sz md hTH407 (r_374 s383) (fun a h => (hok374.r1 hD_s383 h).1) 1 (by omega)) q1219 q1220 q75 q1221 (by decide +kernel) rfl ⟨Nat.le_of_ble_eq_true rfl, Nat.le_of_ble_eq_true rfl⟩ ⟨Nat.le_of_ble_eq_true rfl, Nat.le_of_ble_eq_true rfl⟩ (Nat.le_of_ble_eq_true rfl) dJ4_fixAfterDeletion_167 (kV (fun σr409 H locs hp hG hS => ?_))
                  obtain ⟨hTH410, kp410⟩ := hp
                  have hkp410 := hkp407.tr kp410
                  obtain ⟨cc_410, ecc_410⟩ : ∃ z : Nat → Int, z = cUp cc_407 (r_374 s383) 1 := ⟨_, rfl⟩
                  rw [← ecc_410] at hTH410
                  refine lv_aload_n hx hb dJ4_fixAfterDeletion_170 rfl (lv_at hl 1 rfl) ?_
                  refine lv_aload_n hx hb dJ4_fixAfterDeletion_171 rfl (lv_at hl 2 rfl) ?_
                  refine g_callS (As := [.ref x9]) (rest := [.ref mp]) 1 hx hb hml hown hts hK hG hS hl.1 (mJ4_parentOf l X σr409 tg mp n ad ps K Vv l_374 r_374 p_374 cc_410 rt_374 es ks sz md hTH410 (some x9) (fun a h => by cases h; exact hDx9)) q1207 q1208 q75 q1209 (by decide +kernel) rfl ⟨Nat.le_of_ble_eq_true rfl, Nat.le_of_ble_eq_true rfl⟩ ⟨Nat.le_of_ble_eq_true rfl, Nat.le_of_ble_eq_true rfl⟩ (Nat.le_of_ble_eq_true rfl) dJ4_fixAfterDeletion_172 (kA (fun r411 σr411 H locs hp hG hS => ?_))
                  obtain ⟨rfl, rfl⟩ := hp
                  have hf412 : p_374 x9 = (some q1) := by rw [hpx374]
                  refine g_rwv (v := .ref q1) (congrArg va_rf hf412) ?_
                  refine g_callV (As := [.ref q1]) (rest := []) 1 hx hb hml hown hts hK hG hS hl.1 (mJ4_rotateLeft l X σr409 tg mp n ad ps K Vv l_374 r_374 p_374 cc_410 rt_374 es ks sz md hTH410 lo_374 hi_374 hok374 q1 s383 hDq1 hs383) hTH410.1 rfl q1222 q1224 qs33 q75 q1225 (by decide +kernel) rfl ⟨Nat.le_of_ble_eq_true rfl, Nat.le_of_ble_eq_true rfl⟩ ⟨Nat.le_of_ble_eq_true rfl, Nat.le_of_ble_eq_true rfl⟩ (Nat.le_of_ble_eq_true rfl) dJ4_fixAfterDeletion_175 (kV (fun σr413 H locs hp hG hS => ?_))
                  obtain ⟨l_414, r_414, p_414, rt_414, hTH414, kp414, hl_414, hr_414, hp_414, hrt_414⟩ := hp
                  have hkp414 := hkp410.tr kp414
                  have hok414 := hok374.rotL hDq1 hs383 (hl := hl_414) (hr := hr_414) (hp := hp_414) (hrt := hrt_414)
                  obtain ⟨lo_414, elo_414⟩ : ∃ z, z = va_up lo_374 s383 (lo_374 q1) := ⟨_, rfl⟩
                  obtain ⟨hi_414, ehi_414⟩ : ∃ z, z = va_up (va_up hi_374 s383 (hi_374 q1)) q1 (ps s383) := ⟨_, rfl⟩
                  rw [← elo_414, ← ehi_414] at hok414
                  have hlf414 : ∀ z, S z → l_414 z = none ∧ r_414 z = none ∧ tIn n ad ps z ∧ loL x9 ≤ ps z ∧ ps z < hiL x9 := fun z hz => by
                    obtain ⟨k1, k2, k3, k4, k5⟩ := hlf374 z hz
                    have za : z ≠ q1 := fun e => by rw [e, hs383] at k2; cases k2
                    have zb : z ≠ s383 := tIn.ne (ps := ps) (by omega)
                    exact ⟨by rw [hl_414 z k3, if_neg zb, k1, if_neg (fun e => by cases e)], by rw [hr_414 z k3, if_neg za, k2, if_neg (fun e => by cases e)], k3, k4, k5⟩
                  obtain ⟨ρ, hρ⟩ := hok414.root hDx9
                  have hρr := hok414.rx hρ
                  have hD_ρ := (hok414.rx hρ).1
                  refine lv_aload_n hx hb dJ4_fixAfterDeletion_178 rfl (lv_at hl 1 rfl) ?_
                  refine g_get (C := RJ4) (T := TJ4) (N := 9) (v := .ref ρ) hx hb hts hown hK hG hTH414.1 rfl in_J4 3 (by decide) q146 rfl (congrArg (fun q9 => some (va_rf q9)) hρ) dJ4_fixAfterDeletion_179 ?_
                  refine lv_astore_n (lv' := [(1, .ref ρ), (2, .ref s383), (0, .ref mp)]) hx hb dJ4_fixAfterDeletion_182 rfl hl (by decide) rfl (fun ls hl => ?_)
                  refine lv_goto (tgt := 0) hx hb dJ4_fixAfterDeletion_183 (by decide) ?_
                  exact ih_0 σr413 l_414 r_414 p_414 cc_410 rt_414 lo_414 hi_414 ρ (f - 1) (by omega) (hTH414) (hok414) (hkp414) (hD_ρ) (Or.inr (Or.inl hρ)) (fun z hz => by obtain ⟨k1, k2, k3, k4, k5⟩ := hlf414 z hz; exact ⟨k1, k2, k3, by omega, by have := k3.1; omega⟩)  _ _ _ hG hS (lv_sub hl [2, 0] rfl)
                · refine lv_aload_n hx hb dJ4_fixAfterDeletion_117 rfl (lv_at hl 0 rfl) ?_
                  refine g_callS (As := [.ref s383]) (rest := []) 1 hx hb hml hown hts hK hG hS hl.1 (mJ4_leftOf l X σr373 tg mp n ad ps K Vv l_374 r_374 p_374 cc_370 rt_374 es ks sz md hTH374 (some s383) (fun a h => by cases h; exact hD_s383)) q1210 q1211 q75 q1212 (by decide +kernel) rfl ⟨Nat.le_of_ble_eq_true rfl, Nat.le_of_ble_eq_true rfl⟩ ⟨Nat.le_of_ble_eq_true rfl, Nat.le_of_ble_eq_true rfl⟩ (Nat.le_of_ble_eq_true rfl) dJ4_fixAfterDeletion_118 (kA (fun r415 σr415 H locs hp hG hS => ?_))
                  obtain ⟨rfl, rfl⟩ := hp
                  have hf416 : l_374 s383 = (some c382) := by rw [gc382]
                  refine g_rwv (v := .ref c382) (congrArg va_rf hf416) ?_
                  refine g_iconst hx hb dJ4_fixAfterDeletion_121 ?_
                  refine g_callS (As := [.ref c382, .int (iI 1)]) (rest := []) 2 hx hb hml hown hts hK hG hS hl.1 (mJ4_setColor l X σr373 tg mp n ad ps K Vv l_374 r_374 p_374 cc_370 rt_374 es ks sz md hTH374 (some c382) (fun a h => by cases h; exact hD_c382) 1 (by omega)) q1219 q1220 q75 q1221 (by decide +kernel) rfl ⟨Nat.le_of_ble_eq_true rfl, Nat.le_of_ble_eq_true rfl⟩ ⟨Nat.le_of_ble_eq_true rfl, Nat.le_of_ble_eq_true rfl⟩ (Nat.le_of_ble_eq_true rfl) dJ4_fixAfterDeletion_122 (kV (fun σr417 H locs hp hG hS => ?_))
                  obtain ⟨hTH418, kp418⟩ := hp
                  have hkp418 := hkp374.tr kp418
                  have hTH418 : TH σr417 tg mp (tIn n ad ps) K Vv l_374 r_374 p_374 (va_up cc_370 c382 1) rt_374 es ks sz md := hTH418
                  obtain ⟨cc_418, ecc_418⟩ : ∃ z : Nat → Int, z = va_up cc_370 c382 1 := ⟨_, rfl⟩
                  rw [← ecc_418] at hTH418
                  refine lv_aload_n hx hb dJ4_fixAfterDeletion_125 rfl (lv_at hl 0 rfl) ?_
                  refine g_iconst hx hb dJ4_fixAfterDeletion_126 ?_
                  refine g_callS (As := [.ref s383, .int (iI 0)]) (rest := []) 2 hx hb hml hown hts hK hG hS hl.1 (mJ4_setColor l X σr417 tg mp n ad ps K Vv l_374 r_374 p_374 cc_418 rt_374 es ks sz md hTH418 (some s383) (fun a h => by cases h; exact hD_s383) 0 (by omega)) q1219 q1220 q75 q1221 (by decide +kernel) rfl ⟨Nat.le_of_ble_eq_true rfl, Nat.le_of_ble_eq_true rfl⟩ ⟨Nat.le_of_ble_eq_true rfl, Nat.le_of_ble_eq_true rfl⟩ (Nat.le_of_ble_eq_true rfl) dJ4_fixAfterDeletion_127 (kV (fun σr419 H locs hp hG hS => ?_))
                  obtain ⟨hTH420, kp420⟩ := hp
                  have hkp420 := hkp418.tr kp420
                  have hTH420 : TH σr419 tg mp (tIn n ad ps) K Vv l_374 r_374 p_374 (va_up cc_418 s383 0) rt_374 es ks sz md := hTH420
                  obtain ⟨cc_420, ecc_420⟩ : ∃ z : Nat → Int, z = va_up cc_418 s383 0 := ⟨_, rfl⟩
                  rw [← ecc_420] at hTH420
                  refine lv_aload_n hx hb dJ4_fixAfterDeletion_130 rfl (lv_at hl 1 rfl) ?_
                  refine lv_aload_n hx hb dJ4_fixAfterDeletion_131 rfl (lv_at hl 0 rfl) ?_
                  refine g_callV (As := [.ref s383]) (rest := []) 1 hx hb hml hown hts hK hG hS hl.1 (mJ4_rotateRight l X σr419 tg mp n ad ps K Vv l_374 r_374 p_374 cc_420 rt_374 es ks sz md hTH420 lo_374 hi_374 hok374 s383 c382 hD_s383 gc382) hTH420.1 rfl q1226 q1228 qs34 q75 q1229 (by decide +kernel) rfl ⟨Nat.le_of_ble_eq_true rfl, Nat.le_of_ble_eq_true rfl⟩ ⟨Nat.le_of_ble_eq_true rfl, Nat.le_of_ble_eq_true rfl⟩ (Nat.le_of_ble_eq_true rfl) dJ4_fixAfterDeletion_132 (kV (fun σr421 H locs hp hG hS => ?_))
                  obtain ⟨l_422, r_422, p_422, rt_422, hTH422, kp422, hl_422, hr_422, hp_422, hrt_422⟩ := hp
                  have hkp422 := hkp420.tr kp422
                  have hok422 := hok374.rotR hD_s383 gc382 (hl := hl_422) (hr := hr_422) (hp := hp_422) (hrt := hrt_422)
                  obtain ⟨lo_422, elo_422⟩ : ∃ z, z = va_up (va_up lo_374 c382 (lo_374 s383)) s383 (ps c382 + 1) := ⟨_, rfl⟩
                  obtain ⟨hi_422, ehi_422⟩ : ∃ z, z = va_up hi_374 c382 (hi_374 s383) := ⟨_, rfl⟩
                  rw [← elo_422, ← ehi_422] at hok422
                  have hlf422 : ∀ z, S z → l_422 z = none ∧ r_422 z = none ∧ tIn n ad ps z ∧ loL x9 ≤ ps z ∧ ps z < hiL x9 := fun z hz => by
                    obtain ⟨k1, k2, k3, k4, k5⟩ := hlf374 z hz
                    have za : z ≠ s383 := fun e => by rw [e, gc382] at k1; cases k1
                    have zb : z ≠ c382 := tIn.ne (ps := ps) (by omega)
                    exact ⟨by rw [hl_422 z k3, if_neg za, k1, if_neg (fun e => by cases e)], by rw [hr_422 z k3, if_neg zb, k2, if_neg (fun e => by cases e)], k3, k4, k5⟩
                  have hno422 : ¬ r_374 c382 = some x9 := fun k => by have q5 := (hok374.r1 hD_c382 k).2.2.2; rw [hpx374] at q5; exact hn389 (Option.some.inj q5)
                  have hpx422 : p_422 x9 = some q1 := by rw [hp_422 x9 hDx9, if_neg hn390, if_neg hn386, if_neg hno422]; exact hpx374
                  have hfar422 : r_422 q1 = some c382 := by rw [hr_422 q1 hDq1, if_neg hn389, if_pos hs383]
                  have hq8422 := hok422.r1 hDq1 hfar422
                  have hq9422 := hok422.num hq8422.1
                  refine lv_aload_n hx hb dJ4_fixAfterDeletion_135 rfl (lv_at hl 2 rfl) ?_
                  refine g_callS (As := [.ref x9]) (rest := []) 1 hx hb hml hown hts hK hG hS hl.1 (mJ4_parentOf l X σr421 tg mp n ad ps K Vv l_422 r_422 p_422 cc_420 rt_422 es ks sz md hTH422 (some x9) (fun a h => by cases h; exact hDx9)) q1207 q1208 q75 q1209 (by decide +kernel) rfl ⟨Nat.le_of_ble_eq_true rfl, Nat.le_of_ble_eq_true rfl⟩ ⟨Nat.le_of_ble_eq_true rfl, Nat.le_of_ble_eq_true rfl⟩ (Nat.le_of_ble_eq_true rfl) dJ4_fixAfterDeletion_136 (kA (fun r423 σr423 H locs hp hG hS => ?_))
                  obtain ⟨rfl, rfl⟩ := hp
                  have hf424 : p_422 x9 = (some q1) := by rw [hpx422]
                  refine g_rwv (v := .ref q1) (congrArg va_rf hf424) ?_
                  refine g_callS (As := [.ref q1]) (rest := []) 1 hx hb hml hown hts hK hG hS hl.1 (mJ4_rightOf l X σr421 tg mp n ad ps K Vv l_422 r_422 p_422 cc_420 rt_422 es ks sz md hTH422 (some q1) (fun a h => by cases h; exact hDq1)) q1213 q1214 q75 q1215 (by decide +kernel) rfl ⟨Nat.le_of_ble_eq_true rfl, Nat.le_of_ble_eq_true rfl⟩ ⟨Nat.le_of_ble_eq_true rfl, Nat.le_of_ble_eq_true rfl⟩ (Nat.le_of_ble_eq_true rfl) dJ4_fixAfterDeletion_139 (kA (fun r425 σr425 H locs hp hG hS => ?_))
                  obtain ⟨rfl, rfl⟩ := hp
                  have hf426 : r_422 q1 = (some c382) := by rw [hfar422]
                  refine g_rwv (v := .ref c382) (congrArg va_rf hf426) ?_
                  refine lv_astore_n (lv' := [(2, .ref c382), (0, .ref mp), (1, .ref x9)]) hx hb dJ4_fixAfterDeletion_142 rfl hl (by decide) rfl (fun ls hl => ?_)
                  refine lv_aload_n hx hb dJ4_fixAfterDeletion_143 rfl (lv_at hl 0 rfl) ?_
                  refine lv_aload_n hx hb dJ4_fixAfterDeletion_144 rfl (lv_at hl 2 rfl) ?_
                  refine g_callS (As := [.ref x9]) (rest := [.ref c382]) 1 hx hb hml hown hts hK hG hS hl.1 (mJ4_parentOf l X σr421 tg mp n ad ps K Vv l_422 r_422 p_422 cc_420 rt_422 es ks sz md hTH422 (some x9) (fun a h => by cases h; exact hDx9)) q1207 q1208 q75 q1209 (by decide +kernel) rfl ⟨Nat.le_of_ble_eq_true rfl, Nat.le_of_ble_eq_true rfl⟩ ⟨Nat.le_of_ble_eq_true rfl, Nat.le_of_ble_eq_true rfl⟩ (Nat.le_of_ble_eq_true rfl) dJ4_fixAfterDeletion_145 (kA (fun r427 σr427 H locs hp hG hS => ?_))
                  obtain ⟨rfl, rfl⟩ := hp
                  have hf428 : p_422 x9 = (some q1) := by rw [hpx422]
                  refine g_rwv (v := .ref q1) (congrArg va_rf hf428) ?_
                  refine g_callS (As := [.ref q1]) (rest := [.ref c382]) 1 hx hb hml hown hts hK hG hS hl.1 (mJ4_colorOf l X σr421 tg mp n ad ps K Vv l_422 r_422 p_422 cc_420 rt_422 es ks sz md hTH422 (some q1) (fun a h => by cases h; exact hDq1)) q1216 q1217 q75 q1218 (by decide +kernel) rfl ⟨Nat.le_of_ble_eq_true rfl, Nat.le_of_ble_eq_true rfl⟩ ⟨Nat.le_of_ble_eq_true rfl, Nat.le_of_ble_eq_true rfl⟩ (Nat.le_of_ble_eq_true rfl) dJ4_fixAfterDeletion_148 (kI (fun r429 σr429 H locs hp hG hS => ?_))
                  obtain ⟨hr429, rfl⟩ := hp
                  have hf430 : cc_420 q1 = 0 := by rw [ecc_420, va_up_ne _ _ hn385, ecc_418, va_up_ne _ _ hn389, ecc_370, va_up_self]
                  refine g_rw (b := 0) (hr429.trans hf430) ?_
                  have hc431 := hTH422.2.2 _ hDq1
                  rw [hf430] at hc431
                  refine g_callS (As := [.ref c382, .int (iI 0)]) (rest := []) 2 hx hb hml hown hts hK hG hS hl.1 (mJ4_setColor l X σr421 tg mp n ad ps K Vv l_422 r_422 p_422 cc_420 rt_422 es ks sz md hTH422 (some c382) (fun a h => by cases h; exact hD_c382) 0 (by omega)) q1219 q1220 q75 q1221 (by decide +kernel) rfl ⟨Nat.le_of_ble_eq_true rfl, Nat.le_of_ble_eq_true rfl⟩ ⟨Nat.le_of_ble_eq_true rfl, Nat.le_of_ble_eq_true rfl⟩ (Nat.le_of_ble_eq_true rfl) dJ4_fixAfterDeletion_151 (kV (fun σr432 H locs hp hG hS => ?_))
                  obtain ⟨hTH433, kp433⟩ := hp
                  have hkp433 := hkp422.tr kp433
                  have hTH433 : TH σr432 tg mp (tIn n ad ps) K Vv l_422 r_422 p_422 (va_up cc_420 c382 0) rt_422 es ks sz md := hTH433
                  obtain ⟨cc_433, ecc_433⟩ : ∃ z : Nat → Int, z = va_up cc_420 c382 0 := ⟨_, rfl⟩
                  rw [← ecc_433] at hTH433
                  refine lv_aload_n hx hb dJ4_fixAfterDeletion_154 rfl (lv_at hl 2 rfl) ?_
                  refine g_callS (As := [.ref x9]) (rest := []) 1 hx hb hml hown hts hK hG hS hl.1 (mJ4_parentOf l X σr432 tg mp n ad ps K Vv l_422 r_422 p_422 cc_433 rt_422 es ks sz md hTH433 (some x9) (fun a h => by cases h; exact hDx9)) q1207 q1208 q75 q1209 (by decide +kernel) rfl ⟨Nat.le_of_ble_eq_true rfl, Nat.le_of_ble_eq_true rfl⟩ ⟨Nat.le_of_ble_eq_true rfl, Nat.le_of_ble_eq_true rfl⟩ (Nat.le_of_ble_eq_true rfl) dJ4_fixAfterDeletion_155 (kA (fun r434 σr434 H locs hp hG hS => ?_))
                  obtain ⟨rfl, rfl⟩ := hp
                  have hf435 : p_422 x9 = (some q1) := by rw [hpx422]
                  refine g_rwv (v := .ref q1) (congrArg va_rf hf435) ?_
                  refine g_iconst hx hb dJ4_fixAfterDeletion_158 ?_
                  refine g_callS (As := [.ref q1, .int (iI 1)]) (rest := []) 2 hx hb hml hown hts hK hG hS hl.1 (mJ4_setColor l X σr432 tg mp n ad ps K Vv l_422 r_422 p_422 cc_433 rt_422 es ks sz md hTH433 (some q1) (fun a h => by cases h; exact hDq1) 1 (by omega)) q1219 q1220 q75 q1221 (by decide +kernel) rfl ⟨Nat.le_of_ble_eq_true rfl, Nat.le_of_ble_eq_true rfl⟩ ⟨Nat.le_of_ble_eq_true rfl, Nat.le_of_ble_eq_true rfl⟩ (Nat.le_of_ble_eq_true rfl) dJ4_fixAfterDeletion_159 (kV (fun σr436 H locs hp hG hS => ?_))
                  obtain ⟨hTH437, kp437⟩ := hp
                  have hkp437 := hkp433.tr kp437
                  have hTH437 : TH σr436 tg mp (tIn n ad ps) K Vv l_422 r_422 p_422 (va_up cc_433 q1 1) rt_422 es ks sz md := hTH437
                  obtain ⟨cc_437, ecc_437⟩ : ∃ z : Nat → Int, z = va_up cc_433 q1 1 := ⟨_, rfl⟩
                  rw [← ecc_437] at hTH437
                  refine lv_aload_n hx hb dJ4_fixAfterDeletion_162 rfl (lv_at hl 0 rfl) ?_
                  refine g_callS (As := [.ref c382]) (rest := []) 1 hx hb hml hown hts hK hG hS hl.1 (mJ4_rightOf l X σr436 tg mp n ad ps K Vv l_422 r_422 p_422 cc_437 rt_422 es ks sz md hTH437 (some c382) (fun a h => by cases h; exact hD_c382)) q1213 q1214 q75 q1215 (by decide +kernel) rfl ⟨Nat.le_of_ble_eq_true rfl, Nat.le_of_ble_eq_true rfl⟩ ⟨Nat.le_of_ble_eq_true rfl, Nat.le_of_ble_eq_true rfl⟩ (Nat.le_of_ble_eq_true rfl) dJ4_fixAfterDeletion_163 (kA (fun r438 σr438 H locs hp hG hS => ?_))
                  obtain ⟨rfl, rfl⟩ := hp
                  refine g_rwv (v := va_rf (r_422 c382)) rfl ?_
                  refine g_iconst hx hb dJ4_fixAfterDeletion_166 ?_
                  refine g_callS (As := [va_rf (r_422 c382), .int (iI 1)]) (rest := []) 2 hx hb hml hown hts hK hG hS hl.1 (mJ4_setColor l X σr436 tg mp n ad ps K Vv l_422 r_422 p_422 cc_437 rt_422 es ks sz md hTH437 (r_422 c382) (fun a h => (hok422.r1 hD_c382 h).1) 1 (by omega)) q1219 q1220 q75 q1221 (by decide +kernel) rfl ⟨Nat.le_of_ble_eq_true rfl, Nat.le_of_ble_eq_true rfl⟩ ⟨Nat.le_of_ble_eq_true rfl, Nat.le_of_ble_eq_true rfl⟩ (Nat.le_of_ble_eq_true rfl) dJ4_fixAfterDeletion_167 (kV (fun σr439 H locs hp hG hS => ?_))
                  obtain ⟨hTH440, kp440⟩ := hp
                  have hkp440 := hkp437.tr kp440
                  obtain ⟨cc_440, ecc_440⟩ : ∃ z : Nat → Int, z = cUp cc_437 (r_422 c382) 1 := ⟨_, rfl⟩
                  rw [← ecc_440] at hTH440
                  refine lv_aload_n hx hb dJ4_fixAfterDeletion_170 rfl (lv_at hl 1 rfl) ?_
                  refine lv_aload_n hx hb dJ4_fixAfterDeletion_171 rfl (lv_at hl 2 rfl) ?_
                  refine g_callS (As := [.ref x9]) (rest := [.ref mp]) 1 hx hb hml hown hts hK hG hS hl.1 (mJ4_parentOf l X σr439 tg mp n ad ps K Vv l_422 r_422 p_422 cc_440 rt_422 es ks sz md hTH440 (some x9) (fun a h => by cases h; exact hDx9)) q1207 q1208 q75 q1209 (by decide +kernel) rfl ⟨Nat.le_of_ble_eq_true rfl, Nat.le_of_ble_eq_true rfl⟩ ⟨Nat.le_of_ble_eq_true rfl, Nat.le_of_ble_eq_true rfl⟩ (Nat.le_of_ble_eq_true rfl) dJ4_fixAfterDeletion_172 (kA (fun r441 σr441 H locs hp hG hS => ?_))
                  obtain ⟨rfl, rfl⟩ := hp
                  have hf442 : p_422 x9 = (some q1) := by rw [hpx422]
                  refine g_rwv (v := .ref q1) (congrArg va_rf hf442) ?_
                  refine g_callV (As := [.ref q1]) (rest := []) 1 hx hb hml hown hts hK hG hS hl.1 (mJ4_rotateLeft l X σr439 tg mp n ad ps K Vv l_422 r_422 p_422 cc_440 rt_422 es ks sz md hTH440 lo_422 hi_422 hok422 q1 c382 hDq1 hfar422) hTH440.1 rfl q1222 q1224 qs33 q75 q1225 (by decide +kernel) rfl ⟨Nat.le_of_ble_eq_true rfl, Nat.le_of_ble_eq_true rfl⟩ ⟨Nat.le_of_ble_eq_true rfl, Nat.le_of_ble_eq_true rfl⟩ (Nat.le_of_ble_eq_true rfl) dJ4_fixAfterDeletion_175 (kV (fun σr443 H locs hp hG hS => ?_))
                  obtain ⟨l_444, r_444, p_444, rt_444, hTH444, kp444, hl_444, hr_444, hp_444, hrt_444⟩ := hp
                  have hkp444 := hkp440.tr kp444
                  have hok444 := hok422.rotL hDq1 hfar422 (hl := hl_444) (hr := hr_444) (hp := hp_444) (hrt := hrt_444)
                  obtain ⟨lo_444, elo_444⟩ : ∃ z, z = va_up lo_422 c382 (lo_422 q1) := ⟨_, rfl⟩
                  obtain ⟨hi_444, ehi_444⟩ : ∃ z, z = va_up (va_up hi_422 c382 (hi_422 q1)) q1 (ps c382) := ⟨_, rfl⟩
                  rw [← elo_444, ← ehi_444] at hok444
                  have hlf444 : ∀ z, S z → l_444 z = none ∧ r_444 z = none ∧ tIn n ad ps z ∧ loL x9 ≤ ps z ∧ ps z < hiL x9 := fun z hz => by
                    obtain ⟨k1, k2, k3, k4, k5⟩ := hlf422 z hz
                    have za : z ≠ q1 := fun e => by rw [e, hfar422] at k2; cases k2
                    have zb : z ≠ c382 := tIn.ne (ps := ps) (by omega)
                    exact ⟨by rw [hl_444 z k3, if_neg zb, k1, if_neg (fun e => by cases e)], by rw [hr_444 z k3, if_neg za, k2, if_neg (fun e => by cases e)], k3, k4, k5⟩
                  obtain ⟨ρ, hρ⟩ := hok444.root hDx9
                  have hρr := hok444.rx hρ
                  have hD_ρ := (hok444.rx hρ).1
                  refine lv_aload_n hx hb dJ4_fixAfterDeletion_178 rfl (lv_at hl 1 rfl) ?_
                  refine g_get (C := RJ4) (T := TJ4) (N := 9) (v := .ref ρ) hx hb hts hown hK hG hTH444.1 rfl in_J4 3 (by decide) q146 rfl (congrArg (fun q9 => some (va_rf q9)) hρ) dJ4_fixAfterDeletion_179 ?_
                  refine lv_astore_n (lv' := [(1, .ref ρ), (2, .ref c382), (0, .ref mp)]) hx hb dJ4_fixAfterDeletion_182 rfl hl (by decide) rfl (fun ls hl => ?_)
                  refine lv_goto (tgt := 0) hx hb dJ4_fixAfterDeletion_183 (by decide) ?_
                  exact ih_0 σr443 l_444 r_444 p_444 cc_440 rt_444 lo_444 hi_444 ρ (f - 1) (by omega) (hTH444) (hok444) (hkp444) (hD_ρ) (Or.inr (Or.inl hρ)) (fun z hz => by obtain ⟨k1, k2, k3, k4, k5⟩ := hlf444 z hz; exact ⟨k1, k2, k3, by omega, by have := k3.1; omega⟩)  _ _ _ hG hS (lv_sub hl [2, 0] rfl)
              · refine g_aload_nR hx hb dJ4_fixAfterDeletion_82 rfl (lv_at hl 0 rfl) ?_
                refine g_callS (As := [va_rf (r_374 q1)]) (rest := []) 1 hx hb hml hown hts hK hG hS hl.1 (mJ4_rightOf l X σr373 tg mp n ad ps K Vv l_374 r_374 p_374 cc_370 rt_374 es ks sz md hTH374 (r_374 q1) (fun a h => (hok374.r1 hDq1 h).1)) q1213 q1214 q75 q1215 (by decide +kernel) rfl ⟨Nat.le_of_ble_eq_true rfl, Nat.le_of_ble_eq_true rfl⟩ ⟨Nat.le_of_ble_eq_true rfl, Nat.le_of_ble_eq_true rfl⟩ (Nat.le_of_ble_eq_true rfl) dJ4_fixAfterDeletion_83 (kA (fun r445 σr445 H locs hp hG hS => ?_))
                obtain ⟨rfl, rfl⟩ := hp
                refine g_callS (As := [va_rf ((r_374 q1).bind r_374)]) (rest := []) 1 hx hb hml hown hts hK hG hS hl.1 (mJ4_colorOf l X σr373 tg mp n ad ps K Vv l_374 r_374 p_374 cc_370 rt_374 es ks sz md hTH374 ((r_374 q1).bind r_374) (fun a h => by obtain ⟨z, h1, h2⟩ := Option.bind_eq_some_iff.mp h; exact (hok374.r1 ((fun a h => (hok374.r1 hDq1 h).1) z h1) h2).1)) q1216 q1217 q75 q1218 (by decide +kernel) rfl ⟨Nat.le_of_ble_eq_true rfl, Nat.le_of_ble_eq_true rfl⟩ ⟨Nat.le_of_ble_eq_true rfl, Nat.le_of_ble_eq_true rfl⟩ (Nat.le_of_ble_eq_true rfl) dJ4_fixAfterDeletion_86 (kI (fun r446 σr446 H locs hp hG hS => ?_))
                obtain ⟨hr446, rfl⟩ := hp
                refine g_rw (b := (cO cc_370 ((r_374 q1).bind r_374))) hr446 ?_
                have hc447 : (cO cc_370 ((r_374 q1).bind r_374)) = 0 ∨ (cO cc_370 ((r_374 q1).bind r_374)) = 1 := cO_r (fun a h => hTH374.2.2 _ ((fun a h => by obtain ⟨z, h1, h2⟩ := Option.bind_eq_some_iff.mp h; exact (hok374.r1 ((fun a h => (hok374.r1 hDq1 h).1) z h1) h2).1) a h))
                refine g_iconst hx hb dJ4_fixAfterDeletion_89 ?_
                refine g_icmp_ne (tgt := 106) hx hb dJ4_fixAfterDeletion_90 (by decide) (by omega) (by omega) (fun cq448 => ?_) (fun cq448 => ?_)
                · obtain ⟨c449, hc449⟩ := cO_some (C := cc_370) (o := ((r_374 q1).bind r_374)) (by omega)
                  obtain ⟨s450, hs450, gc449⟩ := Option.bind_eq_some_iff.mp hc449
                  have nbc449 : ¬ cc_370 c449 = 1 := by
                    intro k
                    have q5 : cO cc_370 ((r_374 q1).bind r_374) = 1 := by rw [hc449]; exact k
                    omega
                  have hD_s450 := (hok374.r1 hDq1 hs450).1
                  have hl : lv_has ls 3 [(2, .ref s450), (0, .ref mp), (1, .ref x9)] := by first | exact hl | (rw [hs450] at hl; exact hl)
                  have ks451 := hok374.r1 hDq1 hs450
                  have ks451n := hok374.num ks451.1
                  have ks451x : l_374 q1 = some x9 := hch374
                  have ks451y := hok374.l1 hDq1 ks451x
                  have ks451z := hok374.num ks451y.1
                  have hn452 : q1 ≠ s450 := tIn.ne (ps := ps) (by omega)
                  have hn453 : x9 ≠ s450 := tIn.ne (ps := ps) (by omega)
                  have hn454 : s361 ≠ s450 := tIn.ne (ps := ps) (by omega)
                  have hD_c449 := (hok374.r1 hD_s450 gc449).1
                  have kc455 := hok374.r1 hD_s450 gc449
                  have kc455n := hok374.num kc455.1
                  have hn456 : q1 ≠ c449 := tIn.ne (ps := ps) (by omega)
                  have hn457 : x9 ≠ c449 := tIn.ne (ps := ps) (by omega)
                  have hn458 : s450 ≠ c449 := tIn.ne (ps := ps) (by omega)
                  have hn459 : s361 ≠ c449 := tIn.ne (ps := ps) (by omega)
                  refine lv_aload_n hx hb dJ4_fixAfterDeletion_106 rfl (lv_at hl 0 rfl) ?_
                  refine g_callS (As := [.ref s450]) (rest := []) 1 hx hb hml hown hts hK hG hS hl.1 (mJ4_rightOf l X σr373 tg mp n ad ps K Vv l_374 r_374 p_374 cc_370 rt_374 es ks sz md hTH374 (some s450) (fun a h => by cases h; exact hD_s450)) q1213 q1214 q75 q1215 (by decide +kernel) rfl ⟨Nat.le_of_ble_eq_true rfl, Nat.le_of_ble_eq_true rfl⟩ ⟨Nat.le_of_ble_eq_true rfl, Nat.le_of_ble_eq_true rfl⟩ (Nat.le_of_ble_eq_true rfl) dJ4_fixAfterDeletion_107 (kA (fun r460 σr460 H locs hp hG hS => ?_))
                  obtain ⟨rfl, rfl⟩ := hp
                  have hf461 : r_374 s450 = (some c449) := by rw [gc449]
                  refine g_rwv (v := .ref c449) (congrArg va_rf hf461) ?_
                  refine g_callS (As := [.ref c449]) (rest := []) 1 hx hb hml hown hts hK hG hS hl.1 (mJ4_colorOf l X σr373 tg mp n ad ps K Vv l_374 r_374 p_374 cc_370 rt_374 es ks sz md hTH374 (some c449) (fun a h => by cases h; exact hD_c449)) q1216 q1217 q75 q1218 (by decide +kernel) rfl ⟨Nat.le_of_ble_eq_true rfl, Nat.le_of_ble_eq_true rfl⟩ ⟨Nat.le_of_ble_eq_true rfl, Nat.le_of_ble_eq_true rfl⟩ (Nat.le_of_ble_eq_true rfl) dJ4_fixAfterDeletion_110 (kI (fun r462 σr462 H locs hp hG hS => ?_))
                  obtain ⟨hr462, rfl⟩ := hp
                  have hf463 : cc_370 c449 = (cL c449) := by rw [ecc_370, va_up_ne _ _ (Ne.symm hn456), ecc_366, va_up_ne _ _ (Ne.symm hn459)]
                  refine g_rw (b := (cL c449)) (hr462.trans hf463) ?_
                  have hc464 := hTH374.2.2 _ hD_c449
                  rw [hf463] at hc464
                  refine g_iconst hx hb dJ4_fixAfterDeletion_113 ?_
                  refine g_icmp_ne (tgt := 143) hx hb dJ4_fixAfterDeletion_114 (by decide) (by omega) (by omega) (fun cq465 => ?_) (fun cq465 => ?_)
                  · refine lv_aload_n hx hb dJ4_fixAfterDeletion_143 rfl (lv_at hl 0 rfl) ?_
                    refine lv_aload_n hx hb dJ4_fixAfterDeletion_144 rfl (lv_at hl 2 rfl) ?_
                    refine g_callS (As := [.ref x9]) (rest := [.ref s450]) 1 hx hb hml hown hts hK hG hS hl.1 (mJ4_parentOf l X σr373 tg mp n ad ps K Vv l_374 r_374 p_374 cc_370 rt_374 es ks sz md hTH374 (some x9) (fun a h => by cases h; exact hDx9)) q1207 q1208 q75 q1209 (by decide +kernel) rfl ⟨Nat.le_of_ble_eq_true rfl, Nat.le_of_ble_eq_true rfl⟩ ⟨Nat.le_of_ble_eq_true rfl, Nat.le_of_ble_eq_true rfl⟩ (Nat.le_of_ble_eq_true rfl) dJ4_fixAfterDeletion_145 (kA (fun r466 σr466 H locs hp hG hS => ?_))
                    obtain ⟨rfl, rfl⟩ := hp
                    have hf467 : p_374 x9 = (some q1) := by rw [hpx374]
                    refine g_rwv (v := .ref q1) (congrArg va_rf hf467) ?_
                    refine g_callS (As := [.ref q1]) (rest := [.ref s450]) 1 hx hb hml hown hts hK hG hS hl.1 (mJ4_colorOf l X σr373 tg mp n ad ps K Vv l_374 r_374 p_374 cc_370 rt_374 es ks sz md hTH374 (some q1) (fun a h => by cases h; exact hDq1)) q1216 q1217 q75 q1218 (by decide +kernel) rfl ⟨Nat.le_of_ble_eq_true rfl, Nat.le_of_ble_eq_true rfl⟩ ⟨Nat.le_of_ble_eq_true rfl, Nat.le_of_ble_eq_true rfl⟩ (Nat.le_of_ble_eq_true rfl) dJ4_fixAfterDeletion_148 (kI (fun r468 σr468 H locs hp hG hS => ?_))
                    obtain ⟨hr468, rfl⟩ := hp
                    have hf469 : cc_370 q1 = 0 := by rw [ecc_370, va_up_self]
                    refine g_rw (b := 0) (hr468.trans hf469) ?_
                    have hc470 := hTH374.2.2 _ hDq1
                    rw [hf469] at hc470
                    refine g_callS (As := [.ref s450, .int (iI 0)]) (rest := []) 2 hx hb hml hown hts hK hG hS hl.1 (mJ4_setColor l X σr373 tg mp n ad ps K Vv l_374 r_374 p_374 cc_370 rt_374 es ks sz md hTH374 (some s450) (fun a h => by cases h; exact hD_s450) 0 (by omega)) q1219 q1220 q75 q1221 (by decide +kernel) rfl ⟨Nat.le_of_ble_eq_true rfl, Nat.le_of_ble_eq_true rfl⟩ ⟨Nat.le_of_ble_eq_true rfl, Nat.le_of_ble_eq_true rfl⟩ (Nat.le_of_ble_eq_true rfl) dJ4_fixAfterDeletion_151 (kV (fun σr471 H locs hp hG hS => ?_))
                    obtain ⟨hTH472, kp472⟩ := hp
                    have hkp472 := hkp374.tr kp472
                    have hTH472 : TH σr471 tg mp (tIn n ad ps) K Vv l_374 r_374 p_374 (va_up cc_370 s450 0) rt_374 es ks sz md := hTH472
                    obtain ⟨cc_472, ecc_472⟩ : ∃ z : Nat → Int, z = va_up cc_370 s450 0 := ⟨_, rfl⟩
                    rw [← ecc_472] at hTH472
                    refine lv_aload_n hx hb dJ4_fixAfterDeletion_154 rfl (lv_at hl 2 rfl) ?_
                    refine g_callS (As := [.ref x9]) (rest := []) 1 hx hb hml hown hts hK hG hS hl.1 (mJ4_parentOf l X σr471 tg mp n ad ps K Vv l_374 r_374 p_374 cc_472 rt_374 es ks sz md hTH472 (some x9) (fun a h => by cases h; exact hDx9)) q1207 q1208 q75 q1209 (by decide +kernel) rfl ⟨Nat.le_of_ble_eq_true rfl, Nat.le_of_ble_eq_true rfl⟩ ⟨Nat.le_of_ble_eq_true rfl, Nat.le_of_ble_eq_true rfl⟩ (Nat.le_of_ble_eq_true rfl) dJ4_fixAfterDeletion_155 (kA (fun r473 σr473 H locs hp hG hS => ?_))
                    obtain ⟨rfl, rfl⟩ := hp
                    have hf474 : p_374 x9 = (some q1) := by rw [hpx374]
                    refine g_rwv (v := .ref q1) (congrArg va_rf hf474) ?_
                    refine g_iconst hx hb dJ4_fixAfterDeletion_158 ?_
                    refine g_callS (As := [.ref q1, .int (iI 1)]) (rest := []) 2 hx hb hml hown hts hK hG hS hl.1 (mJ4_setColor l X σr471 tg mp n ad ps K Vv l_374 r_374 p_374 cc_472 rt_374 es ks sz md hTH472 (some q1) (fun a h => by cases h; exact hDq1) 1 (by omega)) q1219 q1220 q75 q1221 (by decide +kernel) rfl ⟨Nat.le_of_ble_eq_true rfl, Nat.le_of_ble_eq_true rfl⟩ ⟨Nat.le_of_ble_eq_true rfl, Nat.le_of_ble_eq_true rfl⟩ (Nat.le_of_ble_eq_true rfl) dJ4_fixAfterDeletion_159 (kV (fun σr475 H locs hp hG hS => ?_))
                    obtain ⟨hTH476, kp476⟩ := hp
                    have hkp476 := hkp472.tr kp476
                    have hTH476 : TH σr475 tg mp (tIn n ad ps) K Vv l_374 r_374 p_374 (va_up cc_472 q1 1) rt_374 es ks sz md := hTH476
                    obtain ⟨cc_476, ecc_476⟩ : ∃ z : Nat → Int, z = va_up cc_472 q1 1 := ⟨_, rfl⟩
                    rw [← ecc_476] at hTH476
                    refine lv_aload_n hx hb dJ4_fixAfterDeletion_162 rfl (lv_at hl 0 rfl) ?_
                    refine g_callS (As := [.ref s450]) (rest := []) 1 hx hb hml hown hts hK hG hS hl.1 (mJ4_rightOf l X σr475 tg mp n ad ps K Vv l_374 r_374 p_374 cc_476 rt_374 es ks sz md hTH476 (some s450) (fun a h => by cases h; exact hD_s450)) q1213 q1214 q75 q1215 (by decide +kernel) rfl ⟨Nat.le_of_ble_eq_true rfl, Nat.le_of_ble_eq_true rfl⟩ ⟨Nat.le_of_ble_eq_true rfl, Nat.le_of_ble_eq_true rfl⟩ (Nat.le_of_ble_eq_true rfl) dJ4_fixAfterDeletion_163 (kA (fun r477 σr477 H locs hp hG hS => ?_))
                    obtain ⟨rfl, rfl⟩ := hp
                    have hf478 : r_374 s450 = (some c449) := by rw [gc449]
                    refine g_rwv (v := .ref c449) (congrArg va_rf hf478) ?_
                    refine g_iconst hx hb dJ4_fixAfterDeletion_166 ?_
                    refine g_callS (As := [.ref c449, .int (iI 1)]) (rest := []) 2 hx hb hml hown hts hK hG hS hl.1 (mJ4_setColor l X σr475 tg mp n ad ps K Vv l_374 r_374 p_374 cc_476 rt_374 es ks sz md hTH476 (some c449) (fun a h => by cases h; exact hD_c449) 1 (by omega)) q1219 q1220 q75 q1221 (by decide +kernel) rfl ⟨Nat.le_of_ble_eq_true rfl, Nat.le_of_ble_eq_true rfl⟩ ⟨Nat.le_of_ble_eq_true rfl, Nat.le_of_ble_eq_true rfl⟩ (Nat.le_of_ble_eq_true rfl) dJ4_fixAfterDeletion_167 (kV (fun σr479 H locs hp hG hS => ?_))
                    obtain ⟨hTH480, kp480⟩ := hp
                    have hkp480 := hkp476.tr kp480
                    have hTH480 : TH σr479 tg mp (tIn n ad ps) K Vv l_374 r_374 p_374 (va_up cc_476 c449 1) rt_374 es ks sz md := hTH480
                    obtain ⟨cc_480, ecc_480⟩ : ∃ z : Nat → Int, z = va_up cc_476 c449 1 := ⟨_, rfl⟩
                    rw [← ecc_480] at hTH480
                    refine lv_aload_n hx hb dJ4_fixAfterDeletion_170 rfl (lv_at hl 1 rfl) ?_
                    refine lv_aload_n hx hb dJ4_fixAfterDeletion_171 rfl (lv_at hl 2 rfl) ?_
                    refine g_callS (As := [.ref x9]) (rest := [.ref mp]) 1 hx hb hml hown hts hK hG hS hl.1 (mJ4_parentOf l X σr479 tg mp n ad ps K Vv l_374 r_374 p_374 cc_480 rt_374 es ks sz md hTH480 (some x9) (fun a h => by cases h; exact hDx9)) q1207 q1208 q75 q1209 (by decide +kernel) rfl ⟨Nat.le_of_ble_eq_true rfl, Nat.le_of_ble_eq_true rfl⟩ ⟨Nat.le_of_ble_eq_true rfl, Nat.le_of_ble_eq_true rfl⟩ (Nat.le_of_ble_eq_true rfl) dJ4_fixAfterDeletion_172 (kA (fun r481 σr481 H locs hp hG hS => ?_))
                    obtain ⟨rfl, rfl⟩ := hp
                    have hf482 : p_374 x9 = (some q1) := by rw [hpx374]
                    refine g_rwv (v := .ref q1) (congrArg va_rf hf482) ?_
                    refine g_callV (As := [.ref q1]) (rest := []) 1 hx hb hml hown hts hK hG hS hl.1 (mJ4_rotateLeft l X σr479 tg mp n ad ps K Vv l_374 r_374 p_374 cc_480 rt_374 es ks sz md hTH480 lo_374 hi_374 hok374 q1 s450 hDq1 hs450) hTH480.1 rfl q1222 q1224 qs33 q75 q1225 (by decide +kernel) rfl ⟨Nat.le_of_ble_eq_true rfl, Nat.le_of_ble_eq_true rfl⟩ ⟨Nat.le_of_ble_eq_true rfl, Nat.le_of_ble_eq_true rfl⟩ (Nat.le_of_ble_eq_true rfl) dJ4_fixAfterDeletion_175 (kV (fun σr483 H locs hp hG hS => ?_))
                    obtain ⟨l_484, r_484, p_484, rt_484, hTH484, kp484, hl_484, hr_484, hp_484, hrt_484⟩ := hp
                    have hkp484 := hkp480.tr kp484
                    have hok484 := hok374.rotL hDq1 hs450 (hl := hl_484) (hr := hr_484) (hp := hp_484) (hrt := hrt_484)
                    obtain ⟨lo_484, elo_484⟩ : ∃ z, z = va_up lo_374 s450 (lo_374 q1) := ⟨_, rfl⟩
                    obtain ⟨hi_484, ehi_484⟩ : ∃ z, z = va_up (va_up hi_374 s450 (hi_374 q1)) q1 (ps s450) := ⟨_, rfl⟩
                    rw [← elo_484, ← ehi_484] at hok484
                    have hlf484 : ∀ z, S z → l_484 z = none ∧ r_484 z = none ∧ tIn n ad ps z ∧ loL x9 ≤ ps z ∧ ps z < hiL x9 := fun z hz => by
                      obtain ⟨k1, k2, k3, k4, k5⟩ := hlf374 z hz
                      have za : z ≠ q1 := fun e => by rw [e, hs450] at k2; cases k2
                      have zb : z ≠ s450 := tIn.ne (ps := ps) (by omega)
                      exact ⟨by rw [hl_484 z k3, if_neg zb, k1, if_neg (fun e => by cases e)], by rw [hr_484 z k3, if_neg za, k2, if_neg (fun e => by cases e)], k3, k4, k5⟩
                    obtain ⟨ρ, hρ⟩ := hok484.root hDx9
                    have hρr := hok484.rx hρ
                    have hD_ρ := (hok484.rx hρ).1
                    refine lv_aload_n hx hb dJ4_fixAfterDeletion_178 rfl (lv_at hl 1 rfl) ?_
                    refine g_get (C := RJ4) (T := TJ4) (N := 9) (v := .ref ρ) hx hb hts hown hK hG hTH484.1 rfl in_J4 3 (by decide) q146 rfl (congrArg (fun q9 => some (va_rf q9)) hρ) dJ4_fixAfterDeletion_179 ?_
                    refine lv_astore_n (lv' := [(1, .ref ρ), (2, .ref s450), (0, .ref mp)]) hx hb dJ4_fixAfterDeletion_182 rfl hl (by decide) rfl (fun ls hl => ?_)
                    refine lv_goto (tgt := 0) hx hb dJ4_fixAfterDeletion_183 (by decide) ?_
                    exact ih_0 σr483 l_484 r_484 p_484 cc_480 rt_484 lo_484 hi_484 ρ (f - 1) (by omega) (hTH484) (hok484) (hkp484) (hD_ρ) (Or.inr (Or.inl hρ)) (fun z hz => by obtain ⟨k1, k2, k3, k4, k5⟩ := hlf484 z hz; exact ⟨k1, k2, k3, by omega, by have := k3.1; omega⟩)  _ _ _ hG hS (lv_sub hl [2, 0] rfl)
                  · exfalso; omega
                · refine g_aload_nR hx hb dJ4_fixAfterDeletion_93 rfl (lv_at hl 0 rfl) ?_
                  refine g_iconst hx hb dJ4_fixAfterDeletion_94 ?_
                  refine g_callS (As := [va_rf (r_374 q1), .int (iI 0)]) (rest := []) 2 hx hb hml hown hts hK hG hS hl.1 (mJ4_setColor l X σr373 tg mp n ad ps K Vv l_374 r_374 p_374 cc_370 rt_374 es ks sz md hTH374 (r_374 q1) (fun a h => (hok374.r1 hDq1 h).1) 0 (by omega)) q1219 q1220 q75 q1221 (by decide +kernel) rfl ⟨Nat.le_of_ble_eq_true rfl, Nat.le_of_ble_eq_true rfl⟩ ⟨Nat.le_of_ble_eq_true rfl, Nat.le_of_ble_eq_true rfl⟩ (Nat.le_of_ble_eq_true rfl) dJ4_fixAfterDeletion_95 (kV (fun σr485 H locs hp hG hS => ?_))
                  obtain ⟨hTH486, kp486⟩ := hp
                  have hkp486 := hkp374.tr kp486
                  obtain ⟨cc_486, ecc_486⟩ : ∃ z : Nat → Int, z = cUp cc_370 (r_374 q1) 0 := ⟨_, rfl⟩
                  rw [← ecc_486] at hTH486
                  refine lv_aload_n hx hb dJ4_fixAfterDeletion_98 rfl (lv_at hl 2 rfl) ?_
                  refine g_callS (As := [.ref x9]) (rest := []) 1 hx hb hml hown hts hK hG hS hl.1 (mJ4_parentOf l X σr485 tg mp n ad ps K Vv l_374 r_374 p_374 cc_486 rt_374 es ks sz md hTH486 (some x9) (fun a h => by cases h; exact hDx9)) q1207 q1208 q75 q1209 (by decide +kernel) rfl ⟨Nat.le_of_ble_eq_true rfl, Nat.le_of_ble_eq_true rfl⟩ ⟨Nat.le_of_ble_eq_true rfl, Nat.le_of_ble_eq_true rfl⟩ (Nat.le_of_ble_eq_true rfl) dJ4_fixAfterDeletion_99 (kA (fun r487 σr487 H locs hp hG hS => ?_))
                  obtain ⟨rfl, rfl⟩ := hp
                  have hf488 : p_374 x9 = (some q1) := by rw [hpx374]
                  refine g_rwv (v := .ref q1) (congrArg va_rf hf488) ?_
                  refine lv_astore_n (lv' := [(1, .ref q1), (2, va_rf (r_374 q1)), (0, .ref mp)]) hx hb dJ4_fixAfterDeletion_102 rfl hl (by decide) rfl (fun ls hl => ?_)
                  refine lv_goto (tgt := 183) hx hb dJ4_fixAfterDeletion_103 (by decide) ?_
                  refine lv_goto (tgt := 0) hx hb dJ4_fixAfterDeletion_183 (by decide) ?_
                  exact ih_0 σr485 l_374 r_374 p_374 cc_486 rt_374 lo_374 hi_374 q1 (f - 1) (by omega) (hTH486) (hok374) (hkp486) (hDq1) (Or.inl (by rw [ecc_486]; exact cUp_0 (by first | (rw [ecc_370, va_up_self]) | omega))) (fun z hz => by obtain ⟨k1, k2, k3, k4, k5⟩ := hlf374 z hz; exact ⟨k1, k2, k3, by omega, by omega⟩)  _ _ _ hG hS (lv_sub hl [2, 0] rfl)
  exact loop_0 _ σ l_ r_ p_ C rt lo hi x0 (n + 1) (Nat.lt_succ_self _) (hTH) (hok) (hkp) (hDx) (Or.inr (Or.inr (by have := hok.num hDx; omega))) (hlf0)  _ _ _ hG hS (lv_sub hl [0, 1] rfl)

