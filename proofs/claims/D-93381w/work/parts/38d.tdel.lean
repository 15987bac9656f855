set_option maxHeartbeats 32000000 in
theorem mJ4_deleteEntry (l : Launch) (X : gX) (σ : gS) (tg mp n : Nat) (ad ps : Nat → Nat) (K : Nat → Nat) (Vv l_ r_ p_ : Nat → Option Nat) (C : Nat → Int) (rt es ks : Option Nat) (sz md : Int) (hTH : TH σ tg mp (tIn n ad ps) K Vv l_ r_ p_ C rt es ks sz md) (lo hi : Nat → Nat) (hok : tOk n ad ps l_ r_ p_ lo hi rt) (a : Nat) (hDa : tIn n ad ps a) : gMet l X yJ4_deleteEntry cJ4_deleteEntry 3 none 2 0 0 44 σ [.ref mp, .ref a] (oV (fun σ' => ∃ (ad2 ps2 : Nat → Nat) (K2 : Nat → Nat) (V2 l2 r2 p2 : Nat → Option Nat) (C2 : Nat → Int) (rt2 : Option Nat) (lo2 hi2 : Nat → Nat), TH σ' tg mp (tIn (n - 1) ad2 ps2) K2 V2 l2 r2 p2 C2 rt2 es ks (sz - 1) (md + 1) ∧ tOk (n - 1) ad2 ps2 l2 r2 p2 lo2 hi2 rt2 ∧ gKeep (fun t => t = tg) σ σ' ∧ ∀ i, i < n - 1 → K2 (ad2 i) = K (tAx (ps a) ad i) ∧ V2 (ad2 i) = Vv (tAx (ps a) ad i))) := by
  refine gMet.of (by decide) (Nat.le_of_ble_eq_true rfl) ?_
  intro pp ee ss mm args below meth cd Q H locs ls hargs hx hb hr hlocks hml hown hnm hts hK hG hS hQ hl
  have hown : ss.vm.findClass RJ4 = some mm.cls := hown
  have hl : lv_has ls 3 [(0, .ref mp), (1, .ref a)] := hl
  have hkp : gKeep (fun t => t = tg) σ σ := gKeep.rf
  have hna := hok.num hDa
  refine lv_aload_n hx hb dJ4_deleteEntry_0 rfl (lv_at hl 0 rfl) ?_
  refine lv_dup hx hb dJ4_deleteEntry_1 rfl ?_
  refine g_get (C := RJ4) (T := TJ4) (N := 9) (v := .int (iI md)) hx hb hts hown hK hG hTH.1 rfl in_J4 5 (by decide) q148 rfl rfl dJ4_deleteEntry_2 ?_
  refine g_iconst hx hb dJ4_deleteEntry_5 ?_
  refine g_iadd hx hb dJ4_deleteEntry_6 ?_
  refine g_put (C := RJ4) (T := TJ4) (N := 9) (ty0 := tyJ4) (v := .int (iI (md + 1))) hx hb hts hown hK hG hS hTH.1 rfl in_J4 tyJ4_ok nmJ4 5 (by decide) q148 rfl (by decide) rfl rfl (Nat.le_of_ble_eq_true rfl) dJ4_deleteEntry_7 (fun H locs hG hS => ?_)
  have hTH1 : TH (gup σ mp (tg, gO 13 ((tmF rt es ks sz md).set 5 (.int (iI (md + 1)))))) tg mp (tIn n ad ps) K Vv l_ r_ p_ C rt es ks sz (md + 1) := hTH.map rfl
  have hkp1 : gKeep (fun t => t = tg) σ (gup σ mp (tg, gO 13 ((tmF rt es ks sz md).set 5 (.int (iI (md + 1)))))) := hkp.tr (gKeep.up hTH.1 rfl)
  generalize (gup σ mp (tg, gO 13 ((tmF rt es ks sz md).set 5 (.int (iI (md + 1)))))) = σ1 at hG hTH1 hkp1
  refine lv_aload_n hx hb dJ4_deleteEntry_10 rfl (lv_at hl 0 rfl) ?_
  refine lv_dup hx hb dJ4_deleteEntry_11 rfl ?_
  refine g_get (C := RJ4) (T := TJ4) (N := 9) (v := .int (iI sz)) hx hb hts hown hK hG hTH1.1 rfl in_J4 4 (by decide) q147 rfl rfl dJ4_deleteEntry_12 ?_
  refine g_iconst hx hb dJ4_deleteEntry_15 ?_
  refine g_isub hx hb dJ4_deleteEntry_16 ?_
  refine g_put (C := RJ4) (T := TJ4) (N := 9) (ty0 := tyJ4) (v := .int (iI (sz - 1))) hx hb hts hown hK hG hS hTH1.1 rfl in_J4 tyJ4_ok nmJ4 4 (by decide) q147 rfl (by decide) rfl rfl (Nat.le_of_ble_eq_true rfl) dJ4_deleteEntry_17 (fun H locs hG hS => ?_)
  have hTH2 : TH (gup σ1 mp (tg, gO 13 ((tmF rt es ks sz (md + 1)).set 4 (.int (iI (sz - 1)))))) tg mp (tIn n ad ps) K Vv l_ r_ p_ C rt es ks (sz - 1) (md + 1) := hTH1.map rfl
  have hkp2 : gKeep (fun t => t = tg) σ (gup σ1 mp (tg, gO 13 ((tmF rt es ks sz (md + 1)).set 4 (.int (iI (sz - 1)))))) := hkp1.tr (gKeep.up hTH1.1 rfl)
  generalize (gup σ1 mp (tg, gO 13 ((tmF rt es ks sz (md + 1)).set 4 (.int (iI (sz - 1)))))) = σ2 at hG hTH2 hkp2
  refine lv_aload_n hx hb dJ4_deleteEntry_20 rfl (lv_at hl 1 rfl) ?_
  refine g_get (C := RJ25) (T := TJ25) (N := 6) (v := va_rf (l_ a)) hx hb hts hown hK hG (hTH2.2.1 _ hDa) rfl in_J25 2 (by decide) q1180 rfl rfl dJ4_deleteEntry_21 ?_
  refine g_ifnullR (tgt := 57) hx hb dJ4_deleteEntry_24 (by decide) (fun ho4 => ?_) (fun z3 ho4 => ?_)
  · have hnp := hok.num hDa
    refine lv_aload_n hx hb dJ4_deleteEntry_57 rfl (lv_at hl 1 rfl) ?_
    have hf5 : l_ a = none := by rw [ho4]
    refine g_get (C := RJ25) (T := TJ25) (N := 6) (v := .null) hx hb hts hown hK hG (hTH2.2.1 _ hDa) rfl in_J25 2 (by decide) q1180 rfl (congrArg (fun q9 => some (va_rf q9)) hf5) dJ4_deleteEntry_58 ?_
    refine lv_ifnullN (tgt := 71) hx hb dJ4_deleteEntry_61 (by decide) ?_
    refine lv_aload_n hx hb dJ4_deleteEntry_71 rfl (lv_at hl 1 rfl) ?_
    refine g_get (C := RJ25) (T := TJ25) (N := 6) (v := va_rf (r_ a)) hx hb hts hown hK hG (hTH2.2.1 _ hDa) rfl in_J25 3 (by decide) q1181 rfl rfl dJ4_deleteEntry_72 ?_
    refine g_astore_nR (lv' := [(2, va_rf (r_ a)), (0, .ref mp), (1, .ref a)]) hx hb dJ4_deleteEntry_75 rfl hl (by decide) rfl (fun ls hl => ?_)
    refine g_aload_nR hx hb dJ4_deleteEntry_76 rfl (lv_at hl 0 rfl) ?_
    refine g_ifnullR (tgt := 164) hx hb dJ4_deleteEntry_77 (by decide) (fun ho7 => ?_) (fun z6 ho7 => ?_)
    · have hl : lv_has ls 3 [(2, .null), (0, .ref mp), (1, .ref a)] := by first | exact hl | (rw [ho7] at hl; exact hl)
      refine lv_aload_n hx hb dJ4_deleteEntry_164 rfl (lv_at hl 2 rfl) ?_
      refine g_get (C := RJ25) (T := TJ25) (N := 6) (v := va_rf (p_ a)) hx hb hts hown hK hG (hTH2.2.1 _ hDa) rfl in_J25 4 (by decide) q1183 rfl rfl dJ4_deleteEntry_165 ?_
      refine g_ifnonnullR (tgt := 179) hx hb dJ4_deleteEntry_168 (by decide) (fun z8 ho9 => ?_) (fun ho9 => ?_)
      · have hD_z8 := (hok.p1 hDa ho9).1
        have hup9 := hok.up hDa ho9
        have hnq9 := hok.num hD_z8
        have hne_pq : a ≠ z8 := fun e => by rw [← e] at hup9; omega
        refine lv_aload_n hx hb dJ4_deleteEntry_179 rfl (lv_at hl 2 rfl) ?_
        refine g_get (C := RJ25) (T := TJ25) (N := 6) (v := .int (iI (C a))) hx hb hts hown hK hG (hTH2.2.1 _ hDa) rfl in_J25 5 (by decide) q1185 rfl rfl dJ4_deleteEntry_180 ?_
        have hc10 := hTH2.2.2 _ hDa
        refine g_iconst hx hb dJ4_deleteEntry_183 ?_
        refine g_icmp_ne (tgt := 192) hx hb dJ4_deleteEntry_184 (by decide) (by omega) (by omega) (fun cq11 => ?_) (fun cq11 => ?_)
        · have hn2 : 2 ≤ n := by have q2 := hDa.1; have q3 := hD_z8.1; have q4 : ps a ≠ ps z8 := fun e => hne_pq (hDa.eq hD_z8 e); omega
          have hnp2 := hok.num hDa
          have hl02 := hok.l0 hDa ho4
          have hr02 := hok.r0 hDa ho7
          refine lv_aload_n hx hb dJ4_deleteEntry_192 rfl (lv_at hl 2 rfl) ?_
          have hf12 : p_ a = (some z8) := by rw [ho9]
          refine g_get (C := RJ25) (T := TJ25) (N := 6) (v := .ref z8) hx hb hts hown hK hG (hTH2.2.1 _ hDa) rfl in_J25 4 (by decide) q1183 rfl (congrArg (fun q9 => some (va_rf q9)) hf12) dJ4_deleteEntry_193 ?_
          refine lv_ifnull hx hb dJ4_deleteEntry_196 ?_
          refine lv_aload_n hx hb dJ4_deleteEntry_199 rfl (lv_at hl 2 rfl) ?_
          refine lv_aload_n hx hb dJ4_deleteEntry_200 rfl (lv_at hl 2 rfl) ?_
          have hf13 : p_ a = (some z8) := by rw [ho9]
          refine g_get (C := RJ25) (T := TJ25) (N := 6) (v := .ref z8) hx hb hts hown hK hG (hTH2.2.1 _ hDa) rfl in_J25 4 (by decide) q1183 rfl (congrArg (fun q9 => some (va_rf q9)) hf13) dJ4_deleteEntry_201 ?_
          refine g_get (C := RJ25) (T := TJ25) (N := 6) (v := va_rf (l_ z8)) hx hb hts hown hK hG (hTH2.2.1 _ hD_z8) rfl in_J25 2 (by decide) q1180 rfl rfl dJ4_deleteEntry_204 ?_
          refine lv_acmp_ne (tgt := 221) (rx := (some a)) (ry := (l_ z8)) hx hb dJ4_deleteEntry_207 (by decide) (fun hq14 => ?_) (fun hq14 => ?_)
          · have hrq : r_ z8 = some a := (hok.p1 hDa ho9).2.resolve_left (fun k => hq14 k.symm)
            refine lv_aload_n hx hb dJ4_deleteEntry_221 rfl (lv_at hl 2 rfl) ?_
            refine lv_aload_n hx hb dJ4_deleteEntry_222 rfl (lv_at hl 2 rfl) ?_
            have hf15 : p_ a = (some z8) := by rw [ho9]
            refine g_get (C := RJ25) (T := TJ25) (N := 6) (v := .ref z8) hx hb hts hown hK hG (hTH2.2.1 _ hDa) rfl in_J25 4 (by decide) q1183 rfl (congrArg (fun q9 => some (va_rf q9)) hf15) dJ4_deleteEntry_223 ?_
            have hf16 : r_ z8 = (some a) := by rw [hrq]
            refine g_get (C := RJ25) (T := TJ25) (N := 6) (v := .ref a) hx hb hts hown hK hG (hTH2.2.1 _ hD_z8) rfl in_J25 3 (by decide) q1181 rfl (congrArg (fun q9 => some (va_rf q9)) hf16) dJ4_deleteEntry_226 ?_
            refine lv_acmp_ne (tgt := 240) (rx := (some a)) (ry := (some a)) hx hb dJ4_deleteEntry_229 (by decide) (fun hq17 => absurd rfl hq17) (fun hq17 => ?_)
            refine lv_aload_n hx hb dJ4_deleteEntry_232 rfl (lv_at hl 2 rfl) ?_
            have hf18 : p_ a = (some z8) := by rw [ho9]
            refine g_get (C := RJ25) (T := TJ25) (N := 6) (v := .ref z8) hx hb hts hown hK hG (hTH2.2.1 _ hDa) rfl in_J25 4 (by decide) q1183 rfl (congrArg (fun q9 => some (va_rf q9)) hf18) dJ4_deleteEntry_233 ?_
            refine lv_null hx hb dJ4_deleteEntry_236 ?_
            refine g_put (C := RJ25) (T := TJ25) (N := 6) (ty0 := tyJ25) (v := .null) hx hb hts hown hK hG hS (hTH2.2.1 _ hD_z8) rfl in_J25 tyJ25_ok nmJ25 3 (by decide) q1181 rfl (by decide) rfl rfl (Nat.le_of_ble_eq_true rfl) dJ4_deleteEntry_237 (fun H locs hG hS => ?_)
            obtain ⟨rr19, err19⟩ : ∃ z : Nat → Option Nat, z = va_up r_ z8 none := ⟨_, rfl⟩
            have hTH19 : TH (gup σ2 z8 (tg, gO 18 ((teF K Vv l_ r_ p_ C z8).set 3 (.null)))) tg mp (tIn n ad ps) K Vv l_ rr19 p_ C rt es ks (sz - 1) (md + 1) := by rw [err19]; exact hTH2.pR hD_z8 none
            have hkp19 : gKeep (fun t => t = tg) σ (gup σ2 z8 (tg, gO 18 ((teF K Vv l_ r_ p_ C z8).set 3 (.null)))) := hkp2.tr (gKeep.up (hTH2.2.1 _ hD_z8) rfl)
            generalize (gup σ2 z8 (tg, gO 18 ((teF K Vv l_ r_ p_ C z8).set 3 (.null)))) = σ19 at hG hTH19 hkp19
            refine lv_aload_n hx hb dJ4_deleteEntry_240 rfl (lv_at hl 2 rfl) ?_
            refine lv_null hx hb dJ4_deleteEntry_241 ?_
            refine g_put (C := RJ25) (T := TJ25) (N := 6) (ty0 := tyJ25) (v := .null) hx hb hts hown hK hG hS (hTH19.2.1 _ hDa) rfl in_J25 tyJ25_ok nmJ25 4 (by decide) q1183 rfl (by decide) rfl rfl (Nat.le_of_ble_eq_true rfl) dJ4_deleteEntry_242 (fun H locs hG hS => ?_)
            obtain ⟨pp_20, epp_20⟩ : ∃ z : Nat → Option Nat, z = va_up p_ a none := ⟨_, rfl⟩
            have hTH20 : TH (gup σ19 a (tg, gO 18 ((teF K Vv l_ rr19 p_ C a).set 4 (.null)))) tg mp (tIn n ad ps) K Vv l_ rr19 pp_20 C rt es ks (sz - 1) (md + 1) := by rw [epp_20]; exact hTH19.pP hDa none
            have hkp20 : gKeep (fun t => t = tg) σ (gup σ19 a (tg, gO 18 ((teF K Vv l_ rr19 p_ C a).set 4 (.null)))) := hkp19.tr (gKeep.up (hTH19.2.1 _ hDa) rfl)
            generalize (gup σ19 a (tg, gO 18 ((teF K Vv l_ rr19 p_ C a).set 4 (.null)))) = σ20 at hG hTH20 hkp20
            obtain ⟨lo_j21, hi_j21, hokj21, hsubj21⟩ : ∃ lo3 hi3, tOk (n - 1) (tAx (ps a) ad) (tPd (ps a) ps) l_ rr19 pp_20 lo3 hi3 rt ∧ ∀ z, tIn (n - 1) (tAx (ps a) ad) (tPd (ps a) ps) z → z ≠ a ∧ tIn n ad ps z := by
              have hdel := hok.del (e9 := none) (l' := l_) (r' := rr19) (p' := pp_20) (rt' := rt) hDa rfl (Or.inl ⟨ho4, ho7.symm⟩)
                (fun y hy hyp => by
                      rw [if_neg (fun k => by have q5 := (hok.l1 hy k).2.2.2; rw [ho9] at q5; have q6 := Option.some.inj q5; rw [← q6] at k; exact absurd k (fun k => hq14 k.symm))])
                (fun y hy hyp => by
                      rw [err19]
                      by_cases e : y = z8
                      · rw [e, va_up_self, if_pos ((hok.p1 hDa ho9).2.resolve_left (fun k => hq14 k.symm))]
                      · rw [va_up_ne _ _ e, if_neg (fun k => e (by have q5 := (hok.r1 hy k).2.2.2; rw [ho9] at q5; exact (Option.some.inj q5).symm))])
                (fun y hy hyp => by rw [epp_20, va_up_ne _ _ hyp, if_neg (fun k => by cases k)])
                (by rw [if_neg (fun k => by have q5 := (hok.rx k).2.2.2; rw [ho9] at q5; cases q5)])
              exact ⟨_, _, hdel.1, hdel.2⟩
            have hTHj21 := hTH20.sub (fun y hy => (hsubj21 y hy).2)
            exact g_vret hx hb hr hlocks hQ hG hS (Nat.zero_le _) (Nat.zero_le _) ⟨rfl, (tAx (ps a) ad), (tPd (ps a) ps), K, Vv, l_, rr19, pp_20, C, rt, lo_j21, hi_j21, hTHj21, hokj21, hkp20, fun i hi => ⟨rfl, rfl⟩⟩ dJ4_deleteEntry_245
          · refine lv_aload_n hx hb dJ4_deleteEntry_210 rfl (lv_at hl 2 rfl) ?_
            have hf22 : p_ a = (some z8) := by rw [ho9]
            refine g_get (C := RJ25) (T := TJ25) (N := 6) (v := .ref z8) hx hb hts hown hK hG (hTH2.2.1 _ hDa) rfl in_J25 4 (by decide) q1183 rfl (congrArg (fun q9 => some (va_rf q9)) hf22) dJ4_deleteEntry_211 ?_
            refine lv_null hx hb dJ4_deleteEntry_214 ?_
            refine g_put (C := RJ25) (T := TJ25) (N := 6) (ty0 := tyJ25) (v := .null) hx hb hts hown hK hG hS (hTH2.2.1 _ hD_z8) rfl in_J25 tyJ25_ok nmJ25 2 (by decide) q1180 rfl (by decide) rfl rfl (Nat.le_of_ble_eq_true rfl) dJ4_deleteEntry_215 (fun H locs hG hS => ?_)
            obtain ⟨ll23, ell23⟩ : ∃ z : Nat → Option Nat, z = va_up l_ z8 none := ⟨_, rfl⟩
            have hTH23 : TH (gup σ2 z8 (tg, gO 18 ((teF K Vv l_ r_ p_ C z8).set 2 (.null)))) tg mp (tIn n ad ps) K Vv ll23 r_ p_ C rt es ks (sz - 1) (md + 1) := by rw [ell23]; exact hTH2.pL hD_z8 none
            have hkp23 : gKeep (fun t => t = tg) σ (gup σ2 z8 (tg, gO 18 ((teF K Vv l_ r_ p_ C z8).set 2 (.null)))) := hkp2.tr (gKeep.up (hTH2.2.1 _ hD_z8) rfl)
            generalize (gup σ2 z8 (tg, gO 18 ((teF K Vv l_ r_ p_ C z8).set 2 (.null)))) = σ23 at hG hTH23 hkp23
            refine lv_goto (tgt := 240) hx hb dJ4_deleteEntry_218 (by decide) ?_
            refine lv_aload_n hx hb dJ4_deleteEntry_240 rfl (lv_at hl 2 rfl) ?_
            refine lv_null hx hb dJ4_deleteEntry_241 ?_
            refine g_put (C := RJ25) (T := TJ25) (N := 6) (ty0 := tyJ25) (v := .null) hx hb hts hown hK hG hS (hTH23.2.1 _ hDa) rfl in_J25 tyJ25_ok nmJ25 4 (by decide) q1183 rfl (by decide) rfl rfl (Nat.le_of_ble_eq_true rfl) dJ4_deleteEntry_242 (fun H locs hG hS => ?_)
            obtain ⟨pp_24, epp_24⟩ : ∃ z : Nat → Option Nat, z = va_up p_ a none := ⟨_, rfl⟩
            have hTH24 : TH (gup σ23 a (tg, gO 18 ((teF K Vv ll23 r_ p_ C a).set 4 (.null)))) tg mp (tIn n ad ps) K Vv ll23 r_ pp_24 C rt es ks (sz - 1) (md + 1) := by rw [epp_24]; exact hTH23.pP hDa none
            have hkp24 : gKeep (fun t => t = tg) σ (gup σ23 a (tg, gO 18 ((teF K Vv ll23 r_ p_ C a).set 4 (.null)))) := hkp23.tr (gKeep.up (hTH23.2.1 _ hDa) rfl)
            generalize (gup σ23 a (tg, gO 18 ((teF K Vv ll23 r_ p_ C a).set 4 (.null)))) = σ24 at hG hTH24 hkp24
            obtain ⟨lo_j25, hi_j25, hokj25, hsubj25⟩ : ∃ lo3 hi3, tOk (n - 1) (tAx (ps a) ad) (tPd (ps a) ps) ll23 r_ pp_24 lo3 hi3 rt ∧ ∀ z, tIn (n - 1) (tAx (ps a) ad) (tPd (ps a) ps) z → z ≠ a ∧ tIn n ad ps z := by
              have hdel := hok.del (e9 := none) (l' := ll23) (r' := r_) (p' := pp_24) (rt' := rt) hDa rfl (Or.inl ⟨ho4, ho7.symm⟩)
                (fun y hy hyp => by
                      rw [ell23]
                      by_cases e : y = z8
                      · rw [e, va_up_self, if_pos hq14.symm]
                      · rw [va_up_ne _ _ e, if_neg (fun k => e (by have q5 := (hok.l1 hy k).2.2.2; rw [ho9] at q5; exact (Option.some.inj q5).symm))])
                (fun y hy hyp => by
                      rw [if_neg (fun k => by have q5 := (hok.r1 hy k).2.2.2; rw [ho9] at q5; have q6 := Option.some.inj q5; rw [← q6] at k; exact absurd k (fun k => by have q7 := hok.r1 hD_z8 k; have q8 := hok.l1 hD_z8 hq14.symm; omega))])
                (fun y hy hyp => by rw [epp_24, va_up_ne _ _ hyp, if_neg (fun k => by cases k)])
                (by rw [if_neg (fun k => by have q5 := (hok.rx k).2.2.2; rw [ho9] at q5; cases q5)])
              exact ⟨_, _, hdel.1, hdel.2⟩
            have hTHj25 := hTH24.sub (fun y hy => (hsubj25 y hy).2)
            exact g_vret hx hb hr hlocks hQ hG hS (Nat.zero_le _) (Nat.zero_le _) ⟨rfl, (tAx (ps a) ad), (tPd (ps a) ps), K, Vv, ll23, r_, pp_24, C, rt, lo_j25, hi_j25, hTHj25, hokj25, hkp24, fun i hi => ⟨rfl, rfl⟩⟩ dJ4_deleteEntry_245
        · have hn2 : 2 ≤ n := by have q1 := hne_pq; have q2 := hDa.1; have q3 := hD_z8.1; have q4 : ps a ≠ ps z8 := fun e => hne_pq (hDa.eq hD_z8 e); omega
          refine lv_aload_n hx hb dJ4_deleteEntry_187 rfl (lv_at hl 1 rfl) ?_
          refine lv_aload_n hx hb dJ4_deleteEntry_188 rfl (lv_at hl 2 rfl) ?_
          refine g_callV (As := [.ref a]) (rest := []) 1 hx hb hml hown hts hK hG hS hl.1 (mJ4_fixAfterDeletion l X σ2 tg mp n ad ps K Vv l_ r_ p_ C rt es ks (sz - 1) (md + 1) hTH2 lo hi hok (fun z => z = a) a hDa (fun z hz => by rw [hz]; exact ⟨ho4, ho7, hDa, by omega, by omega⟩)) hTH2.1 rfl q1551 q1553 qs41 q75 q1554 (by decide +kernel) rfl ⟨Nat.le_of_ble_eq_true rfl, Nat.le_of_ble_eq_true rfl⟩ ⟨Nat.le_of_ble_eq_true rfl, Nat.le_of_ble_eq_true rfl⟩ (Nat.le_of_ble_eq_true rfl) dJ4_deleteEntry_189 (kV (fun σr26 H locs hp hG hS => ?_))
          obtain ⟨l_27, r_27, p_27, C_27, rt_27, lo_27, hi_27, hTH27, hok27, kp27, hlf27⟩ := hp
          have hkp27 := hkp2.tr kp27
          obtain ⟨hlp9, hrp9⟩ := hlf27 a rfl
          have hn2 : 2 ≤ n := by have q2 := hDa.1; have q3 := hD_z8.1; have q4 : ps a ≠ ps z8 := fun e => hne_pq (hDa.eq hD_z8 e); omega
          have hnp2 := hok27.num hDa
          have hl02 := hok27.l0 hDa hlp9
          have hr02 := hok27.r0 hDa hrp9
          refine lv_aload_n hx hb dJ4_deleteEntry_192 rfl (lv_at hl 2 rfl) ?_
          refine g_get (C := RJ25) (T := TJ25) (N := 6) (v := va_rf (p_27 a)) hx hb hts hown hK hG (hTH27.2.1 _ hDa) rfl in_J25 4 (by decide) q1183 rfl rfl dJ4_deleteEntry_193 ?_
          refine g_ifnullR (tgt := 245) hx hb dJ4_deleteEntry_196 (by decide) (fun ho29 => ?_) (fun z28 ho29 => ?_)
          · exfalso; have q5 := hok27.rx (hok27.p0 hDa ho29); omega
          · have hD_z28 := (hok27.p1 hDa ho29).1
            have hup8 := hok27.up hDa ho29
            have hnq8 := hok27.num hD_z28
            have hne_pq8 : a ≠ z28 := fun e => by rw [← e] at hup8; omega
            refine lv_aload_n hx hb dJ4_deleteEntry_199 rfl (lv_at hl 2 rfl) ?_
            refine lv_aload_n hx hb dJ4_deleteEntry_200 rfl (lv_at hl 2 rfl) ?_
            have hf30 : p_27 a = (some z28) := by rw [ho29]
            refine g_get (C := RJ25) (T := TJ25) (N := 6) (v := .ref z28) hx hb hts hown hK hG (hTH27.2.1 _ hDa) rfl in_J25 4 (by decide) q1183 rfl (congrArg (fun q9 => some (va_rf q9)) hf30) dJ4_deleteEntry_201 ?_
            refine g_get (C := RJ25) (T := TJ25) (N := 6) (v := va_rf (l_27 z28)) hx hb hts hown hK hG (hTH27.2.1 _ hD_z28) rfl in_J25 2 (by decide) q1180 rfl rfl dJ4_deleteEntry_204 ?_
            refine lv_acmp_ne (tgt := 221) (rx := (some a)) (ry := (l_27 z28)) hx hb dJ4_deleteEntry_207 (by decide) (fun hq31 => ?_) (fun hq31 => ?_)
            · have hrq : r_27 z28 = some a := (hok27.p1 hDa ho29).2.resolve_left (fun k => hq31 k.symm)
              refine lv_aload_n hx hb dJ4_deleteEntry_221 rfl (lv_at hl 2 rfl) ?_
              refine lv_aload_n hx hb dJ4_deleteEntry_222 rfl (lv_at hl 2 rfl) ?_
              have hf32 : p_27 a = (some z28) := by rw [ho29]
              refine g_get (C := RJ25) (T := TJ25) (N := 6) (v := .ref z28) hx hb hts hown hK hG (hTH27.2.1 _ hDa) rfl in_J25 4 (by decide) q1183 rfl (congrArg (fun q9 => some (va_rf q9)) hf32) dJ4_deleteEntry_223 ?_
              have hf33 : r_27 z28 = (some a) := by rw [hrq]
              refine g_get (C := RJ25) (T := TJ25) (N := 6) (v := .ref a) hx hb hts hown hK hG (hTH27.2.1 _ hD_z28) rfl in_J25 3 (by decide) q1181 rfl (congrArg (fun q9 => some (va_rf q9)) hf33) dJ4_deleteEntry_226 ?_
              refine lv_acmp_ne (tgt := 240) (rx := (some a)) (ry := (some a)) hx hb dJ4_deleteEntry_229 (by decide) (fun hq34 => absurd rfl hq34) (fun hq34 => ?_)
              refine lv_aload_n hx hb dJ4_deleteEntry_232 rfl (lv_at hl 2 rfl) ?_
              have hf35 : p_27 a = (some z28) := by rw [ho29]
              refine g_get (C := RJ25) (T := TJ25) (N := 6) (v := .ref z28) hx hb hts hown hK hG (hTH27.2.1 _ hDa) rfl in_J25 4 (by decide) q1183 rfl (congrArg (fun q9 => some (va_rf q9)) hf35) dJ4_deleteEntry_233 ?_
              refine lv_null hx hb dJ4_deleteEntry_236 ?_
              refine g_put (C := RJ25) (T := TJ25) (N := 6) (ty0 := tyJ25) (v := .null) hx hb hts hown hK hG hS (hTH27.2.1 _ hD_z28) rfl in_J25 tyJ25_ok nmJ25 3 (by decide) q1181 rfl (by decide) rfl rfl (Nat.le_of_ble_eq_true rfl) dJ4_deleteEntry_237 (fun H locs hG hS => ?_)
              obtain ⟨rr36, err36⟩ : ∃ z : Nat → Option Nat, z = va_up r_27 z28 none := ⟨_, rfl⟩
              have hTH36 : TH (gup σr26 z28 (tg, gO 18 ((teF K Vv l_27 r_27 p_27 C_27 z28).set 3 (.null)))) tg mp (tIn n ad ps) K Vv l_27 rr36 p_27 C_27 rt_27 es ks (sz - 1) (md + 1) := by rw [err36]; exact hTH27.pR hD_z28 none
              have hkp36 : gKeep (fun t => t = tg) σ (gup σr26 z28 (tg, gO 18 ((teF K Vv l_27 r_27 p_27 C_27 z28).set 3 (.null)))) := hkp27.tr (gKeep.up (hTH27.2.1 _ hD_z28) rfl)
              generalize (gup σr26 z28 (tg, gO 18 ((teF K Vv l_27 r_27 p_27 C_27 z28).set 3 (.null)))) = σ36 at hG hTH36 hkp36
              refine lv_aload_n hx hb dJ4_deleteEntry_240 rfl (lv_at hl 2 rfl) ?_
              refine lv_null hx hb dJ4_deleteEntry_241 ?_
              refine g_put (C := RJ25) (T := TJ25) (N := 6) (ty0 := tyJ25) (v := .null) hx hb hts hown hK hG hS (hTH36.2.1 _ hDa) rfl in_J25 tyJ25_ok nmJ25 4 (by decide) q1183 rfl (by decide) rfl rfl (Nat.le_of_ble_eq_true rfl) dJ4_deleteEntry_242 (fun H locs hG hS => ?_)
              obtain ⟨pp_37, epp_37⟩ : ∃ z : Nat → Option Nat, z = va_up p_27 a none := ⟨_, rfl⟩
              have hTH37 : TH (gup σ36 a (tg, gO 18 ((teF K Vv l_27 rr36 p_27 C_27 a).set 4 (.null)))) tg mp (tIn n ad ps) K Vv l_27 rr36 pp_37 C_27 rt_27 es ks (sz - 1) (md + 1) := by rw [epp_37]; exact hTH36.pP hDa none
              have hkp37 : gKeep (fun t => t = tg) σ (gup σ36 a (tg, gO 18 ((teF K Vv l_27 rr36 p_27 C_27 a).set 4 (.null)))) := hkp36.tr (gKeep.up (hTH36.2.1 _ hDa) rfl)
              generalize (gup σ36 a (tg, gO 18 ((teF K Vv l_27 rr36 p_27 C_27 a).set 4 (.null)))) = σ37 at hG hTH37 hkp37
              obtain ⟨lo_j38, hi_j38, hokj38, hsubj38⟩ : ∃ lo3 hi3, tOk (n - 1) (tAx (ps a) ad) (tPd (ps a) ps) l_27 rr36 pp_37 lo3 hi3 rt_27 ∧ ∀ z, tIn (n - 1) (tAx (ps a) ad) (tPd (ps a) ps) z → z ≠ a ∧ tIn n ad ps z := by
                have hdel := hok27.del (e9 := none) (l' := l_27) (r' := rr36) (p' := pp_37) (rt' := rt_27) hDa rfl (Or.inl ⟨hlp9, hrp9.symm⟩)
                  (fun y hy hyp => by
                        rw [if_neg (fun k => by have q5 := (hok27.l1 hy k).2.2.2; rw [ho29] at q5; have q6 := Option.some.inj q5; rw [← q6] at k; exact absurd k (fun k => hq31 k.symm))])
                  (fun y hy hyp => by
                        rw [err36]
                        by_cases e : y = z28
                        · rw [e, va_up_self, if_pos ((hok27.p1 hDa ho29).2.resolve_left (fun k => hq31 k.symm))]
                        · rw [va_up_ne _ _ e, if_neg (fun k => e (by have q5 := (hok27.r1 hy k).2.2.2; rw [ho29] at q5; exact (Option.some.inj q5).symm))])
                  (fun y hy hyp => by rw [epp_37, va_up_ne _ _ hyp, if_neg (fun k => by cases k)])
                  (by rw [if_neg (fun k => by have q5 := (hok27.rx k).2.2.2; rw [ho29] at q5; cases q5)])
                exact ⟨_, _, hdel.1, hdel.2⟩
              have hTHj38 := hTH37.sub (fun y hy => (hsubj38 y hy).2)
              exact g_vret hx hb hr hlocks hQ hG hS (Nat.zero_le _) (Nat.zero_le _) ⟨rfl, (tAx (ps a) ad), (tPd (ps a) ps), K, Vv, l_27, rr36, pp_37, C_27, rt_27, lo_j38, hi_j38, hTHj38, hokj38, hkp37, fun i hi => ⟨rfl, rfl⟩⟩ dJ4_deleteEntry_245
            · refine lv_aload_n hx hb dJ4_deleteEntry_210 rfl (lv_at hl 2 rfl) ?_
              have hf39 : p_27 a = (some z28) := by rw [ho29]
              refine g_get (C := RJ25) (T := TJ25) (N := 6) (v := .ref z28) hx hb hts hown hK hG (hTH27.2.1 _ hDa) rfl in_J25 4 (by decide) q1183 rfl (congrArg (fun q9 => some (va_rf q9)) hf39) dJ4_deleteEntry_211 ?_
              refine lv_null hx hb dJ4_deleteEntry_214 ?_
              refine g_put (C := RJ25) (T := TJ25) (N := 6) (ty0 := tyJ25) (v := .null) hx hb hts hown hK hG hS (hTH27.2.1 _ hD_z28) rfl in_J25 tyJ25_ok nmJ25 2 (by decide) q1180 rfl (by decide) rfl rfl (Nat.le_of_ble_eq_true rfl) dJ4_deleteEntry_215 (fun H locs hG hS => ?_)
              obtain ⟨ll40, ell40⟩ : ∃ z : Nat → Option Nat, z = va_up l_27 z28 none := ⟨_, rfl⟩
              have hTH40 : TH (gup σr26 z28 (tg, gO 18 ((teF K Vv l_27 r_27 p_27 C_27 z28).set 2 (.null)))) tg mp (tIn n ad ps) K Vv ll40 r_27 p_27 C_27 rt_27 es ks (sz - 1) (md + 1) := by rw [ell40]; exact hTH27.pL hD_z28 none
              have hkp40 : gKeep (fun t => t = tg) σ (gup σr26 z28 (tg, gO 18 ((teF K Vv l_27 r_27 p_27 C_27 z28).set 2 (.null)))) := hkp27.tr (gKeep.up (hTH27.2.1 _ hD_z28) rfl)
              generalize (gup σr26 z28 (tg, gO 18 ((teF K Vv l_27 r_27 p_27 C_27 z28).set 2 (.null)))) = σ40 at hG hTH40 hkp40
              refine lv_goto (tgt := 240) hx hb dJ4_deleteEntry_218 (by decide) ?_
              refine lv_aload_n hx hb dJ4_deleteEntry_240 rfl (lv_at hl 2 rfl) ?_
              refine lv_null hx hb dJ4_deleteEntry_241 ?_
              refine g_put (C := RJ25) (T := TJ25) (N := 6) (ty0 := tyJ25) (v := .null) hx hb hts hown hK hG hS (hTH40.2.1 _ hDa) rfl in_J25 tyJ25_ok nmJ25 4 (by decide) q1183 rfl (by decide) rfl rfl (Nat.le_of_ble_eq_true rfl) dJ4_deleteEntry_242 (fun H locs hG hS => ?_)
              obtain ⟨pp_41, epp_41⟩ : ∃ z : Nat → Option Nat, z = va_up p_27 a none := ⟨_, rfl⟩
              have hTH41 : TH (gup σ40 a (tg, gO 18 ((teF K Vv ll40 r_27 p_27 C_27 a).set 4 (.null)))) tg mp (tIn n ad ps) K Vv ll40 r_27 pp_41 C_27 rt_27 es ks (sz - 1) (md + 1) := by rw [epp_41]; exact hTH40.pP hDa none
              have hkp41 : gKeep (fun t => t = tg) σ (gup σ40 a (tg, gO 18 ((teF K Vv ll40 r_27 p_27 C_27 a).set 4 (.null)))) := hkp40.tr (gKeep.up (hTH40.2.1 _ hDa) rfl)
              generalize (gup σ40 a (tg, gO 18 ((teF K Vv ll40 r_27 p_27 C_27 a).set 4 (.null)))) = σ41 at hG hTH41 hkp41
              obtain ⟨lo_j42, hi_j42, hokj42, hsubj42⟩ : ∃ lo3 hi3, tOk (n - 1) (tAx (ps a) ad) (tPd (ps a) ps) ll40 r_27 pp_41 lo3 hi3 rt_27 ∧ ∀ z, tIn (n - 1) (tAx (ps a) ad) (tPd (ps a) ps) z → z ≠ a ∧ tIn n ad ps z := by
                have hdel := hok27.del (e9 := none) (l' := ll40) (r' := r_27) (p' := pp_41) (rt' := rt_27) hDa rfl (Or.inl ⟨hlp9, hrp9.symm⟩)
                  (fun y hy hyp => by
                        rw [ell40]
                        by_cases e : y = z28
                        · rw [e, va_up_self, if_pos hq31.symm]
                        · rw [va_up_ne _ _ e, if_neg (fun k => e (by have q5 := (hok27.l1 hy k).2.2.2; rw [ho29] at q5; exact (Option.some.inj q5).symm))])
                  (fun y hy hyp => by
                        rw [if_neg (fun k => by have q5 := (hok27.r1 hy k).2.2.2; rw [ho29] at q5; have q6 := Option.some.inj q5; rw [← q6] at k; exact absurd k (fun k => by have q7 := hok27.r1 hD_z28 k; have q8 := hok27.l1 hD_z28 hq31.symm; omega))])
                  (fun y hy hyp => by rw [epp_41, va_up_ne _ _ hyp, if_neg (fun k => by cases k)])
                  (by rw [if_neg (fun k => by have q5 := (hok27.rx k).2.2.2; rw [ho29] at q5; cases q5)])
                exact ⟨_, _, hdel.1, hdel.2⟩
              have hTHj42 := hTH41.sub (fun y hy => (hsubj42 y hy).2)
              exact g_vret hx hb hr hlocks hQ hG hS (Nat.zero_le _) (Nat.zero_le _) ⟨rfl, (tAx (ps a) ad), (tPd (ps a) ps), K, Vv, ll40, r_27, pp_41, C_27, rt_27, lo_j42, hi_j42, hTHj42, hokj42, hkp41, fun i hi => ⟨rfl, rfl⟩⟩ dJ4_deleteEntry_245
      · refine lv_aload_n hx hb dJ4_deleteEntry_171 rfl (lv_at hl 1 rfl) ?_
        refine lv_null hx hb dJ4_deleteEntry_172 ?_
        refine g_put (C := RJ4) (T := TJ4) (N := 9) (ty0 := tyJ4) (v := .null) hx hb hts hown hK hG hS hTH2.1 rfl in_J4 tyJ4_ok nmJ4 3 (by decide) q146 rfl (by decide) rfl rfl (Nat.le_of_ble_eq_true rfl) dJ4_deleteEntry_173 (fun H locs hG hS => ?_)
        have hTH43 : TH (gup σ2 mp (tg, gO 13 ((tmF rt es ks (sz - 1) (md + 1)).set 3 (.null)))) tg mp (tIn n ad ps) K Vv l_ r_ p_ C none es ks (sz - 1) (md + 1) := hTH2.map rfl
        have hkp43 : gKeep (fun t => t = tg) σ (gup σ2 mp (tg, gO 13 ((tmF rt es ks (sz - 1) (md + 1)).set 3 (.null)))) := hkp2.tr (gKeep.up hTH2.1 rfl)
        generalize (gup σ2 mp (tg, gO 13 ((tmF rt es ks (sz - 1) (md + 1)).set 3 (.null)))) = σ43 at hG hTH43 hkp43
        refine lv_goto (tgt := 245) hx hb dJ4_deleteEntry_176 (by decide) ?_
        obtain ⟨lo_j44, hi_j44, hokj44, hsubj44⟩ : ∃ lo3 hi3, tOk (n - 1) (tAx (ps a) ad) (tPd (ps a) ps) l_ r_ p_ lo3 hi3 none ∧ ∀ z, tIn (n - 1) (tAx (ps a) ad) (tPd (ps a) ps) z → z ≠ a ∧ tIn n ad ps z := by
          have hdel := hok.del (e9 := none) (l' := l_) (r' := r_) (p' := p_) (rt' := none) hDa rfl (Or.inl ⟨ho4, ho7.symm⟩)
            (fun y hy hyp => by
                  rw [if_neg (fun k => by have q5 := (hok.l1 hy k).2.2.2; rw [ho9] at q5; cases q5)])
            (fun y hy hyp => by
                  rw [if_neg (fun k => by have q5 := (hok.r1 hy k).2.2.2; rw [ho9] at q5; cases q5)])
            (fun y hy hyp => by rw [if_neg (fun k => by cases k)])
            (by rw [if_pos (hok.p0 hDa ho9)])
          exact ⟨_, _, hdel.1, hdel.2⟩
        have hTHj44 := hTH43.sub (fun y hy => (hsubj44 y hy).2)
        exact g_vret hx hb hr hlocks hQ hG hS (Nat.zero_le _) (Nat.zero_le _) ⟨rfl, (tAx (ps a) ad), (tPd (ps a) ps), K, Vv, l_, r_, p_, C, none, lo_j44, hi_j44, hTHj44, hokj44, hkp43, fun i hi => ⟨rfl, rfl⟩⟩ dJ4_deleteEntry_245
    · have hD_z6 := (hok.r1 hDa ho7).1
      have hl : lv_has ls 3 [(2, .ref z6), (0, .ref mp), (1, .ref a)] := by first | exact hl | (rw [ho7] at hl; exact hl)
      have hcd := hok.r1 hDa ho7
      have hnd := hok.num hcd.1
      have hne_pd : a ≠ z6 := tIn.ne (ps := ps) (by omega)
      refine lv_aload_n hx hb dJ4_deleteEntry_80 rfl (lv_at hl 0 rfl) ?_
      refine lv_aload_n hx hb dJ4_deleteEntry_81 rfl (lv_at hl 2 rfl) ?_
      refine g_get (C := RJ25) (T := TJ25) (N := 6) (v := va_rf (p_ a)) hx hb hts hown hK hG (hTH2.2.1 _ hDa) rfl in_J25 4 (by decide) q1183 rfl rfl dJ4_deleteEntry_82 ?_
      refine g_put (C := RJ25) (T := TJ25) (N := 6) (ty0 := tyJ25) (v := va_rf (p_ a)) hx hb hts hown hK hG hS (hTH2.2.1 _ hD_z6) rfl in_J25 tyJ25_ok nmJ25 4 (by decide) q1183 rfl (by decide) (nrf _) (frf _) (Nat.le_of_ble_eq_true rfl) dJ4_deleteEntry_85 (fun H locs hG hS => ?_)
      obtain ⟨pp_45, epp_45⟩ : ∃ z : Nat → Option Nat, z = va_up p_ z6 (p_ a) := ⟨_, rfl⟩
      have hTH45 : TH (gup σ2 z6 (tg, gO 18 ((teF K Vv l_ r_ p_ C z6).set 4 (va_rf (p_ a))))) tg mp (tIn n ad ps) K Vv l_ r_ pp_45 C rt es ks (sz - 1) (md + 1) := by rw [epp_45]; exact hTH2.pP hD_z6 (p_ a)
      have hkp45 : gKeep (fun t => t = tg) σ (gup σ2 z6 (tg, gO 18 ((teF K Vv l_ r_ p_ C z6).set 4 (va_rf (p_ a))))) := hkp2.tr (gKeep.up (hTH2.2.1 _ hD_z6) rfl)
      generalize (gup σ2 z6 (tg, gO 18 ((teF K Vv l_ r_ p_ C z6).set 4 (va_rf (p_ a))))) = σ45 at hG hTH45 hkp45
      refine lv_aload_n hx hb dJ4_deleteEntry_88 rfl (lv_at hl 2 rfl) ?_
      have hf46 : pp_45 a = (p_ a) := by rw [epp_45, va_up_ne _ _ hne_pd]
      refine g_get (C := RJ25) (T := TJ25) (N := 6) (v := va_rf (p_ a)) hx hb hts hown hK hG (hTH45.2.1 _ hDa) rfl in_J25 4 (by decide) q1183 rfl (congrArg (fun q9 => some (va_rf q9)) hf46) dJ4_deleteEntry_89 ?_
      refine g_ifnonnullR (tgt := 103) hx hb dJ4_deleteEntry_92 (by decide) (fun z47 ho48 => ?_) (fun ho48 => ?_)
      · have hD_z47 := (hok.p1 hDa ho48).1
        have hup9 := hok.up hDa ho48
        have hnq9 := hok.num hD_z47
        have hne_pq : a ≠ z47 := fun e => by rw [← e] at hup9; omega
        refine lv_aload_n hx hb dJ4_deleteEntry_103 rfl (lv_at hl 2 rfl) ?_
        refine lv_aload_n hx hb dJ4_deleteEntry_104 rfl (lv_at hl 2 rfl) ?_
        have hf49 : pp_45 a = (some z47) := by rw [epp_45, va_up_ne _ _ hne_pd, ho48]
        refine g_get (C := RJ25) (T := TJ25) (N := 6) (v := .ref z47) hx hb hts hown hK hG (hTH45.2.1 _ hDa) rfl in_J25 4 (by decide) q1183 rfl (congrArg (fun q9 => some (va_rf q9)) hf49) dJ4_deleteEntry_105 ?_
        refine g_get (C := RJ25) (T := TJ25) (N := 6) (v := va_rf (l_ z47)) hx hb hts hown hK hG (hTH45.2.1 _ hD_z47) rfl in_J25 2 (by decide) q1180 rfl rfl dJ4_deleteEntry_108 ?_
        refine lv_acmp_ne (tgt := 125) (rx := (some a)) (ry := (l_ z47)) hx hb dJ4_deleteEntry_111 (by decide) (fun hq50 => ?_) (fun hq50 => ?_)
        · refine lv_aload_n hx hb dJ4_deleteEntry_125 rfl (lv_at hl 2 rfl) ?_
          have hf51 : pp_45 a = (some z47) := by rw [epp_45, va_up_ne _ _ hne_pd, ho48]
          refine g_get (C := RJ25) (T := TJ25) (N := 6) (v := .ref z47) hx hb hts hown hK hG (hTH45.2.1 _ hDa) rfl in_J25 4 (by decide) q1183 rfl (congrArg (fun q9 => some (va_rf q9)) hf51) dJ4_deleteEntry_126 ?_
          refine lv_aload_n hx hb dJ4_deleteEntry_129 rfl (lv_at hl 0 rfl) ?_
          refine g_put (C := RJ25) (T := TJ25) (N := 6) (ty0 := tyJ25) (v := .ref z6) hx hb hts hown hK hG hS (hTH45.2.1 _ hD_z47) rfl in_J25 tyJ25_ok nmJ25 3 (by decide) q1181 rfl (by decide) rfl rfl (Nat.le_of_ble_eq_true rfl) dJ4_deleteEntry_130 (fun H locs hG hS => ?_)
          obtain ⟨rr52, err52⟩ : ∃ z : Nat → Option Nat, z = va_up r_ z47 (some z6) := ⟨_, rfl⟩
          have hTH52 : TH (gup σ45 z47 (tg, gO 18 ((teF K Vv l_ r_ pp_45 C z47).set 3 (.ref z6)))) tg mp (tIn n ad ps) K Vv l_ rr52 pp_45 C rt es ks (sz - 1) (md + 1) := by rw [err52]; exact hTH45.pR hD_z47 (some z6)
          have hkp52 : gKeep (fun t => t = tg) σ (gup σ45 z47 (tg, gO 18 ((teF K Vv l_ r_ pp_45 C z47).set 3 (.ref z6)))) := hkp45.tr (gKeep.up (hTH45.2.1 _ hD_z47) rfl)
          generalize (gup σ45 z47 (tg, gO 18 ((teF K Vv l_ r_ pp_45 C z47).set 3 (.ref z6)))) = σ52 at hG hTH52 hkp52
          refine lv_aload_n hx hb dJ4_deleteEntry_133 rfl (lv_at hl 2 rfl) ?_
          refine lv_aload_n hx hb dJ4_deleteEntry_134 rfl (lv_at hl 2 rfl) ?_
          refine lv_aload_n hx hb dJ4_deleteEntry_135 rfl (lv_at hl 2 rfl) ?_
          refine lv_null hx hb dJ4_deleteEntry_136 ?_
          refine lv_dup_x1 hx hb dJ4_deleteEntry_137 rfl rfl ?_
          refine g_put (C := RJ25) (T := TJ25) (N := 6) (ty0 := tyJ25) (v := .null) hx hb hts hown hK hG hS (hTH52.2.1 _ hDa) rfl in_J25 tyJ25_ok nmJ25 4 (by decide) q1183 rfl (by decide) rfl rfl (Nat.le_of_ble_eq_true rfl) dJ4_deleteEntry_138 (fun H locs hG hS => ?_)
          obtain ⟨pp_53, epp_53⟩ : ∃ z : Nat → Option Nat, z = va_up pp_45 a none := ⟨_, rfl⟩
          have hTH53 : TH (gup σ52 a (tg, gO 18 ((teF K Vv l_ rr52 pp_45 C a).set 4 (.null)))) tg mp (tIn n ad ps) K Vv l_ rr52 pp_53 C rt es ks (sz - 1) (md + 1) := by rw [epp_53]; exact hTH52.pP hDa none
          have hkp53 : gKeep (fun t => t = tg) σ (gup σ52 a (tg, gO 18 ((teF K Vv l_ rr52 pp_45 C a).set 4 (.null)))) := hkp52.tr (gKeep.up (hTH52.2.1 _ hDa) rfl)
          generalize (gup σ52 a (tg, gO 18 ((teF K Vv l_ rr52 pp_45 C a).set 4 (.null)))) = σ53 at hG hTH53 hkp53
          refine lv_dup_x1 hx hb dJ4_deleteEntry_141 rfl rfl ?_
          refine g_put (C := RJ25) (T := TJ25) (N := 6) (ty0 := tyJ25) (v := .null) hx hb hts hown hK hG hS (hTH53.2.1 _ hDa) rfl in_J25 tyJ25_ok nmJ25 3 (by decide) q1181 rfl (by decide) rfl rfl (Nat.le_of_ble_eq_true rfl) dJ4_deleteEntry_142 (fun H locs hG hS => ?_)
          obtain ⟨rr54, err54⟩ : ∃ z : Nat → Option Nat, z = va_up rr52 a none := ⟨_, rfl⟩
          have hTH54 : TH (gup σ53 a (tg, gO 18 ((teF K Vv l_ rr52 pp_53 C a).set 3 (.null)))) tg mp (tIn n ad ps) K Vv l_ rr54 pp_53 C rt es ks (sz - 1) (md + 1) := by rw [err54]; exact hTH53.pR hDa none
          have hkp54 : gKeep (fun t => t = tg) σ (gup σ53 a (tg, gO 18 ((teF K Vv l_ rr52 pp_53 C a).set 3 (.null)))) := hkp53.tr (gKeep.up (hTH53.2.1 _ hDa) rfl)
          generalize (gup σ53 a (tg, gO 18 ((teF K Vv l_ rr52 pp_53 C a).set 3 (.null)))) = σ54 at hG hTH54 hkp54
          refine g_put (C := RJ25) (T := TJ25) (N := 6) (ty0 := tyJ25) (v := .null) hx hb hts hown hK hG hS (hTH54.2.1 _ hDa) rfl in_J25 tyJ25_ok nmJ25 2 (by decide) q1180 rfl (by decide) rfl rfl (Nat.le_of_ble_eq_true rfl) dJ4_deleteEntry_145 (fun H locs hG hS => ?_)
          obtain ⟨ll55, ell55⟩ : ∃ z : Nat → Option Nat, z = va_up l_ a none := ⟨_, rfl⟩
          have hTH55 : TH (gup σ54 a (tg, gO 18 ((teF K Vv l_ rr54 pp_53 C a).set 2 (.null)))) tg mp (tIn n ad ps) K Vv ll55 rr54 pp_53 C rt es ks (sz - 1) (md + 1) := by rw [ell55]; exact hTH54.pL hDa none
          have hkp55 : gKeep (fun t => t = tg) σ (gup σ54 a (tg, gO 18 ((teF K Vv l_ rr54 pp_53 C a).set 2 (.null)))) := hkp54.tr (gKeep.up (hTH54.2.1 _ hDa) rfl)
          generalize (gup σ54 a (tg, gO 18 ((teF K Vv l_ rr54 pp_53 C a).set 2 (.null)))) = σ55 at hG hTH55 hkp55
          refine lv_aload_n hx hb dJ4_deleteEntry_148 rfl (lv_at hl 2 rfl) ?_
          refine g_get (C := RJ25) (T := TJ25) (N := 6) (v := .int (iI (C a))) hx hb hts hown hK hG (hTH55.2.1 _ hDa) rfl in_J25 5 (by decide) q1185 rfl rfl dJ4_deleteEntry_149 ?_
          have hc56 := hTH55.2.2 _ hDa
          refine g_iconst hx hb dJ4_deleteEntry_152 ?_
          refine g_icmp_ne (tgt := 245) hx hb dJ4_deleteEntry_153 (by decide) (by omega) (by omega) (fun cq57 => ?_) (fun cq57 => ?_)
          · obtain ⟨lo_j58, hi_j58, hokj58, hsubj58⟩ : ∃ lo3 hi3, tOk (n - 1) (tAx (ps a) ad) (tPd (ps a) ps) ll55 rr54 pp_53 lo3 hi3 rt ∧ ∀ z, tIn (n - 1) (tAx (ps a) ad) (tPd (ps a) ps) z → z ≠ a ∧ tIn n ad ps z := by
              have hdel := hok.del (e9 := (some z6)) (l' := ll55) (r' := rr54) (p' := pp_53) (rt' := rt) hDa rfl (Or.inl ⟨ho4, ho7.symm⟩)
                (fun y hy hyp => by
                      rw [ell55, va_up_ne _ _ hyp, if_neg (fun k => by have q5 := (hok.l1 hy k).2.2.2; rw [ho48] at q5; have q6 := Option.some.inj q5; rw [← q6] at k; exact absurd k (fun k => hq50 k.symm))])
                (fun y hy hyp => by
                      rw [err54, va_up_ne _ _ hyp, err52]
                      by_cases e : y = z47
                      · rw [e, va_up_self, if_pos ((hok.p1 hDa ho48).2.resolve_left (fun k => hq50 k.symm))]
                      · rw [va_up_ne _ _ e, if_neg (fun k => e (by have q5 := (hok.r1 hy k).2.2.2; rw [ho48] at q5; exact (Option.some.inj q5).symm))])
                (fun y hy hyp => by
                      rw [epp_53, va_up_ne _ _ hyp]
                      by_cases e : y = z6
                      · rw [e, epp_45, va_up_self, if_pos rfl]
                      · rw [epp_45, va_up_ne _ _ e, if_neg (fun k => e (Option.some.inj k).symm)])
                (by rw [if_neg (fun k => by have q5 := (hok.rx k).2.2.2; rw [ho48] at q5; cases q5)])
              exact ⟨_, _, hdel.1, hdel.2⟩
            have hTHj58 := hTH55.sub (fun y hy => (hsubj58 y hy).2)
            have hD9d : tIn (n - 1) (tAx (ps a) ad) (tPd (ps a) ps) z6 := (tPd_in hDa rfl hok.1 hne_pd.symm).mpr hD_z6
            exact g_vret hx hb hr hlocks hQ hG hS (Nat.zero_le _) (Nat.zero_le _) ⟨rfl, (tAx (ps a) ad), (tPd (ps a) ps), K, Vv, ll55, rr54, pp_53, C, rt, lo_j58, hi_j58, hTHj58, hokj58, hkp55, fun i hi => ⟨rfl, rfl⟩⟩ dJ4_deleteEntry_245
          · obtain ⟨lo_j59, hi_j59, hokj59, hsubj59⟩ : ∃ lo3 hi3, tOk (n - 1) (tAx (ps a) ad) (tPd (ps a) ps) ll55 rr54 pp_53 lo3 hi3 rt ∧ ∀ z, tIn (n - 1) (tAx (ps a) ad) (tPd (ps a) ps) z → z ≠ a ∧ tIn n ad ps z := by
              have hdel := hok.del (e9 := (some z6)) (l' := ll55) (r' := rr54) (p' := pp_53) (rt' := rt) hDa rfl (Or.inl ⟨ho4, ho7.symm⟩)
                (fun y hy hyp => by
                      rw [ell55, va_up_ne _ _ hyp, if_neg (fun k => by have q5 := (hok.l1 hy k).2.2.2; rw [ho48] at q5; have q6 := Option.some.inj q5; rw [← q6] at k; exact absurd k (fun k => hq50 k.symm))])
                (fun y hy hyp => by
                      rw [err54, va_up_ne _ _ hyp, err52]
                      by_cases e : y = z47
                      · rw [e, va_up_self, if_pos ((hok.p1 hDa ho48).2.resolve_left (fun k => hq50 k.symm))]
                      · rw [va_up_ne _ _ e, if_neg (fun k => e (by have q5 := (hok.r1 hy k).2.2.2; rw [ho48] at q5; exact (Option.some.inj q5).symm))])
                (fun y hy hyp => by
                      rw [epp_53, va_up_ne _ _ hyp]
                      by_cases e : y = z6
                      · rw [e, epp_45, va_up_self, if_pos rfl]
                      · rw [epp_45, va_up_ne _ _ e, if_neg (fun k => e (Option.some.inj k).symm)])
                (by rw [if_neg (fun k => by have q5 := (hok.rx k).2.2.2; rw [ho48] at q5; cases q5)])
              exact ⟨_, _, hdel.1, hdel.2⟩
            have hTHj59 := hTH55.sub (fun y hy => (hsubj59 y hy).2)
            have hD9d : tIn (n - 1) (tAx (ps a) ad) (tPd (ps a) ps) z6 := (tPd_in hDa rfl hok.1 hne_pd.symm).mpr hD_z6
            refine lv_aload_n hx hb dJ4_deleteEntry_156 rfl (lv_at hl 1 rfl) ?_
            refine lv_aload_n hx hb dJ4_deleteEntry_157 rfl (lv_at hl 0 rfl) ?_
            refine g_callV (As := [.ref z6]) (rest := []) 1 hx hb hml hown hts hK hG hS hl.1 (mJ4_fixAfterDeletion l X σ55 tg mp (n - 1) (tAx (ps a) ad) (tPd (ps a) ps) K Vv ll55 rr54 pp_53 C rt es ks (sz - 1) (md + 1) hTHj59 lo_j59 hi_j59 hokj59 (fun _ => False) z6 hD9d (fun z hz => hz.elim)) hTHj59.1 rfl q1551 q1553 qs41 q75 q1554 (by decide +kernel) rfl ⟨Nat.le_of_ble_eq_true rfl, Nat.le_of_ble_eq_true rfl⟩ ⟨Nat.le_of_ble_eq_true rfl, Nat.le_of_ble_eq_true rfl⟩ (Nat.le_of_ble_eq_true rfl) dJ4_deleteEntry_158 (kV (fun σr60 H locs hp hG hS => ?_))
            obtain ⟨l_61, r_61, p_61, C_61, rt_61, lo_61, hi_61, hTH61, hok61, kp61, hlf61⟩ := hp
            have hkp61 := hkp55.tr kp61
            refine lv_goto (tgt := 245) hx hb dJ4_deleteEntry_161 (by decide) ?_
            exact g_vret hx hb hr hlocks hQ hG hS (Nat.zero_le _) (Nat.zero_le _) ⟨rfl, (tAx (ps a) ad), (tPd (ps a) ps), K, Vv, l_61, r_61, p_61, C_61, rt_61, lo_61, hi_61, hTH61, hok61, hkp61, fun i hi => ⟨rfl, rfl⟩⟩ dJ4_deleteEntry_245
        · refine lv_aload_n hx hb dJ4_deleteEntry_114 rfl (lv_at hl 2 rfl) ?_
          have hf62 : pp_45 a = (some z47) := by rw [epp_45, va_up_ne _ _ hne_pd, ho48]
          refine g_get (C := RJ25) (T := TJ25) (N := 6) (v := .ref z47) hx hb hts hown hK hG (hTH45.2.1 _ hDa) rfl in_J25 4 (by decide) q1183 rfl (congrArg (fun q9 => some (va_rf q9)) hf62) dJ4_deleteEntry_115 ?_
          refine lv_aload_n hx hb dJ4_deleteEntry_118 rfl (lv_at hl 0 rfl) ?_
          refine g_put (C := RJ25) (T := TJ25) (N := 6) (ty0 := tyJ25) (v := .ref z6) hx hb hts hown hK hG hS (hTH45.2.1 _ hD_z47) rfl in_J25 tyJ25_ok nmJ25 2 (by decide) q1180 rfl (by decide) rfl rfl (Nat.le_of_ble_eq_true rfl) dJ4_deleteEntry_119 (fun H locs hG hS => ?_)
          obtain ⟨ll63, ell63⟩ : ∃ z : Nat → Option Nat, z = va_up l_ z47 (some z6) := ⟨_, rfl⟩
          have hTH63 : TH (gup σ45 z47 (tg, gO 18 ((teF K Vv l_ r_ pp_45 C z47).set 2 (.ref z6)))) tg mp (tIn n ad ps) K Vv ll63 r_ pp_45 C rt es ks (sz - 1) (md + 1) := by rw [ell63]; exact hTH45.pL hD_z47 (some z6)
          have hkp63 : gKeep (fun t => t = tg) σ (gup σ45 z47 (tg, gO 18 ((teF K Vv l_ r_ pp_45 C z47).set 2 (.ref z6)))) := hkp45.tr (gKeep.up (hTH45.2.1 _ hD_z47) rfl)
          generalize (gup σ45 z47 (tg, gO 18 ((teF K Vv l_ r_ pp_45 C z47).set 2 (.ref z6)))) = σ63 at hG hTH63 hkp63
          refine lv_goto (tgt := 133) hx hb dJ4_deleteEntry_122 (by decide) ?_
          refine lv_aload_n hx hb dJ4_deleteEntry_133 rfl (lv_at hl 2 rfl) ?_
          refine lv_aload_n hx hb dJ4_deleteEntry_134 rfl (lv_at hl 2 rfl) ?_
          refine lv_aload_n hx hb dJ4_deleteEntry_135 rfl (lv_at hl 2 rfl) ?_
          refine lv_null hx hb dJ4_deleteEntry_136 ?_
          refine lv_dup_x1 hx hb dJ4_deleteEntry_137 rfl rfl ?_
          refine g_put (C := RJ25) (T := TJ25) (N := 6) (ty0 := tyJ25) (v := .null) hx hb hts hown hK hG hS (hTH63.2.1 _ hDa) rfl in_J25 tyJ25_ok nmJ25 4 (by decide) q1183 rfl (by decide) rfl rfl (Nat.le_of_ble_eq_true rfl) dJ4_deleteEntry_138 (fun H locs hG hS => ?_)
          obtain ⟨pp_64, epp_64⟩ : ∃ z : Nat → Option Nat, z = va_up pp_45 a none := ⟨_, rfl⟩
          have hTH64 : TH (gup σ63 a (tg, gO 18 ((teF K Vv ll63 r_ pp_45 C a).set 4 (.null)))) tg mp (tIn n ad ps) K Vv ll63 r_ pp_64 C rt es ks (sz - 1) (md + 1) := by rw [epp_64]; exact hTH63.pP hDa none
          have hkp64 : gKeep (fun t => t = tg) σ (gup σ63 a (tg, gO 18 ((teF K Vv ll63 r_ pp_45 C a).set 4 (.null)))) := hkp63.tr (gKeep.up (hTH63.2.1 _ hDa) rfl)
          generalize (gup σ63 a (tg, gO 18 ((teF K Vv ll63 r_ pp_45 C a).set 4 (.null)))) = σ64 at hG hTH64 hkp64
          refine lv_dup_x1 hx hb dJ4_deleteEntry_141 rfl rfl ?_
          refine g_put (C := RJ25) (T := TJ25) (N := 6) (ty0 := tyJ25) (v := .null) hx hb hts hown hK hG hS (hTH64.2.1 _ hDa) rfl in_J25 tyJ25_ok nmJ25 3 (by decide) q1181 rfl (by decide) rfl rfl (Nat.le_of_ble_eq_true rfl) dJ4_deleteEntry_142 (fun H locs hG hS => ?_)
          obtain ⟨rr65, err65⟩ : ∃ z : Nat → Option Nat, z = va_up r_ a none := ⟨_, rfl⟩
          have hTH65 : TH (gup σ64 a (tg, gO 18 ((teF K Vv ll63 r_ pp_64 C a).set 3 (.null)))) tg mp (tIn n ad ps) K Vv ll63 rr65 pp_64 C rt es ks (sz - 1) (md + 1) := by rw [err65]; exact hTH64.pR hDa none
          have hkp65 : gKeep (fun t => t = tg) σ (gup σ64 a (tg, gO 18 ((teF K Vv ll63 r_ pp_64 C a).set 3 (.null)))) := hkp64.tr (gKeep.up (hTH64.2.1 _ hDa) rfl)
          generalize (gup σ64 a (tg, gO 18 ((teF K Vv ll63 r_ pp_64 C a).set 3 (.null)))) = σ65 at hG hTH65 hkp65
          refine g_put (C := RJ25) (T := TJ25) (N := 6) (ty0 := tyJ25) (v := .null) hx hb hts hown hK hG hS (hTH65.2.1 _ hDa) rfl in_J25 tyJ25_ok nmJ25 2 (by decide) q1180 rfl (by decide) rfl rfl (Nat.le_of_ble_eq_true rfl) dJ4_deleteEntry_145 (fun H locs hG hS => ?_)
          obtain ⟨ll66, ell66⟩ : ∃ z : Nat → Option Nat, z = va_up ll63 a none := ⟨_, rfl⟩
          have hTH66 : TH (gup σ65 a (tg, gO 18 ((teF K Vv ll63 rr65 pp_64 C a).set 2 (.null)))) tg mp (tIn n ad ps) K Vv ll66 rr65 pp_64 C rt es ks (sz - 1) (md + 1) := by rw [ell66]; exact hTH65.pL hDa none
          have hkp66 : gKeep (fun t => t = tg) σ (gup σ65 a (tg, gO 18 ((teF K Vv ll63 rr65 pp_64 C a).set 2 (.null)))) := hkp65.tr (gKeep.up (hTH65.2.1 _ hDa) rfl)
          generalize (gup σ65 a (tg, gO 18 ((teF K Vv ll63 rr65 pp_64 C a).set 2 (.null)))) = σ66 at hG hTH66 hkp66
          refine lv_aload_n hx hb dJ4_deleteEntry_148 rfl (lv_at hl 2 rfl) ?_
          refine g_get (C := RJ25) (T := TJ25) (N := 6) (v := .int (iI (C a))) hx hb hts hown hK hG (hTH66.2.1 _ hDa) rfl in_J25 5 (by decide) q1185 rfl rfl dJ4_deleteEntry_149 ?_
          have hc67 := hTH66.2.2 _ hDa
          refine g_iconst hx hb dJ4_deleteEntry_152 ?_
          refine g_icmp_ne (tgt := 245) hx hb dJ4_deleteEntry_153 (by decide) (by omega) (by omega) (fun cq68 => ?_) (fun cq68 => ?_)
          · obtain ⟨lo_j69, hi_j69, hokj69, hsubj69⟩ : ∃ lo3 hi3, tOk (n - 1) (tAx (ps a) ad) (tPd (ps a) ps) ll66 rr65 pp_64 lo3 hi3 rt ∧ ∀ z, tIn (n - 1) (tAx (ps a) ad) (tPd (ps a) ps) z → z ≠ a ∧ tIn n ad ps z := by
              have hdel := hok.del (e9 := (some z6)) (l' := ll66) (r' := rr65) (p' := pp_64) (rt' := rt) hDa rfl (Or.inl ⟨ho4, ho7.symm⟩)
                (fun y hy hyp => by
                      rw [ell66, va_up_ne _ _ hyp, ell63]
                      by_cases e : y = z47
                      · rw [e, va_up_self, if_pos hq50.symm]
                      · rw [va_up_ne _ _ e, if_neg (fun k => e (by have q5 := (hok.l1 hy k).2.2.2; rw [ho48] at q5; exact (Option.some.inj q5).symm))])
                (fun y hy hyp => by
                      rw [err65, va_up_ne _ _ hyp, if_neg (fun k => by have q5 := (hok.r1 hy k).2.2.2; rw [ho48] at q5; have q6 := Option.some.inj q5; rw [← q6] at k; exact absurd k (fun k => by have q7 := hok.r1 hD_z47 k; have q8 := hok.l1 hD_z47 hq50.symm; omega))])
                (fun y hy hyp => by
                      rw [epp_64, va_up_ne _ _ hyp]
                      by_cases e : y = z6
                      · rw [e, epp_45, va_up_self, if_pos rfl]
                      · rw [epp_45, va_up_ne _ _ e, if_neg (fun k => e (Option.some.inj k).symm)])
                (by rw [if_neg (fun k => by have q5 := (hok.rx k).2.2.2; rw [ho48] at q5; cases q5)])
              exact ⟨_, _, hdel.1, hdel.2⟩
            have hTHj69 := hTH66.sub (fun y hy => (hsubj69 y hy).2)
            have hD9d : tIn (n - 1) (tAx (ps a) ad) (tPd (ps a) ps) z6 := (tPd_in hDa rfl hok.1 hne_pd.symm).mpr hD_z6
            exact g_vret hx hb hr hlocks hQ hG hS (Nat.zero_le _) (Nat.zero_le _) ⟨rfl, (tAx (ps a) ad), (tPd (ps a) ps), K, Vv, ll66, rr65, pp_64, C, rt, lo_j69, hi_j69, hTHj69, hokj69, hkp66, fun i hi => ⟨rfl, rfl⟩⟩ dJ4_deleteEntry_245
          · obtain ⟨lo_j70, hi_j70, hokj70, hsubj70⟩ : ∃ lo3 hi3, tOk (n - 1) (tAx (ps a) ad) (tPd (ps a) ps) ll66 rr65 pp_64 lo3 hi3 rt ∧ ∀ z, tIn (n - 1) (tAx (ps a) ad) (tPd (ps a) ps) z → z ≠ a ∧ tIn n ad ps z := by
              have hdel := hok.del (e9 := (some z6)) (l' := ll66) (r' := rr65) (p' := pp_64) (rt' := rt) hDa rfl (Or.inl ⟨ho4, ho7.symm⟩)
                (fun y hy hyp => by
                      rw [ell66, va_up_ne _ _ hyp, ell63]
                      by_cases e : y = z47
                      · rw [e, va_up_self, if_pos hq50.symm]
                      · rw [va_up_ne _ _ e, if_neg (fun k => e (by have q5 := (hok.l1 hy k).2.2.2; rw [ho48] at q5; exact (Option.some.inj q5).symm))])
                (fun y hy hyp => by
                      rw [err65, va_up_ne _ _ hyp, if_neg (fun k => by have q5 := (hok.r1 hy k).2.2.2; rw [ho48] at q5; have q6 := Option.some.inj q5; rw [← q6] at k; exact absurd k (fun k => by have q7 := hok.r1 hD_z47 k; have q8 := hok.l1 hD_z47 hq50.symm; omega))])
                (fun y hy hyp => by
                      rw [epp_64, va_up_ne _ _ hyp]
                      by_cases e : y = z6
                      · rw [e, epp_45, va_up_self, if_pos rfl]
                      · rw [epp_45, va_up_ne _ _ e, if_neg (fun k => e (Option.some.inj k).symm)])
                (by rw [if_neg (fun k => by have q5 := (hok.rx k).2.2.2; rw [ho48] at q5; cases q5)])
              exact ⟨_, _, hdel.1, hdel.2⟩
            have hTHj70 := hTH66.sub (fun y hy => (hsubj70 y hy).2)
            have hD9d : tIn (n - 1) (tAx (ps a) ad) (tPd (ps a) ps) z6 := (tPd_in hDa rfl hok.1 hne_pd.symm).mpr hD_z6
            refine lv_aload_n hx hb dJ4_deleteEntry_156 rfl (lv_at hl 1 rfl) ?_
            refine lv_aload_n hx hb dJ4_deleteEntry_157 rfl (lv_at hl 0 rfl) ?_
            refine g_callV (As := [.ref z6]) (rest := []) 1 hx hb hml hown hts hK hG hS hl.1 (mJ4_fixAfterDeletion l X σ66 tg mp (n - 1) (tAx (ps a) ad) (tPd (ps a) ps) K Vv ll66 rr65 pp_64 C rt es ks (sz - 1) (md + 1) hTHj70 lo_j70 hi_j70 hokj70 (fun _ => False) z6 hD9d (fun z hz => hz.elim)) hTHj70.1 rfl q1551 q1553 qs41 q75 q1554 (by decide +kernel) rfl ⟨Nat.le_of_ble_eq_true rfl, Nat.le_of_ble_eq_true rfl⟩ ⟨Nat.le_of_ble_eq_true rfl, Nat.le_of_ble_eq_true rfl⟩ (Nat.le_of_ble_eq_true rfl) dJ4_deleteEntry_158 (kV (fun σr71 H locs hp hG hS => ?_))
            obtain ⟨l_72, r_72, p_72, C_72, rt_72, lo_72, hi_72, hTH72, hok72, kp72, hlf72⟩ := hp
            have hkp72 := hkp66.tr kp72
            refine lv_goto (tgt := 245) hx hb dJ4_deleteEntry_161 (by decide) ?_
            exact g_vret hx hb hr hlocks hQ hG hS (Nat.zero_le _) (Nat.zero_le _) ⟨rfl, (tAx (ps a) ad), (tPd (ps a) ps), K, Vv, l_72, r_72, p_72, C_72, rt_72, lo_72, hi_72, hTH72, hok72, hkp72, fun i hi => ⟨rfl, rfl⟩⟩ dJ4_deleteEntry_245
      · refine lv_aload_n hx hb dJ4_deleteEntry_95 rfl (lv_at hl 1 rfl) ?_
        refine lv_aload_n hx hb dJ4_deleteEntry_96 rfl (lv_at hl 0 rfl) ?_
        refine g_put (C := RJ4) (T := TJ4) (N := 9) (ty0 := tyJ4) (v := .ref z6) hx hb hts hown hK hG hS hTH45.1 rfl in_J4 tyJ4_ok nmJ4 3 (by decide) q146 rfl (by decide) rfl rfl (Nat.le_of_ble_eq_true rfl) dJ4_deleteEntry_97 (fun H locs hG hS => ?_)
        have hTH73 : TH (gup σ45 mp (tg, gO 13 ((tmF rt es ks (sz - 1) (md + 1)).set 3 (.ref z6)))) tg mp (tIn n ad ps) K Vv l_ r_ pp_45 C (some z6) es ks (sz - 1) (md + 1) := hTH45.map rfl
        have hkp73 : gKeep (fun t => t = tg) σ (gup σ45 mp (tg, gO 13 ((tmF rt es ks (sz - 1) (md + 1)).set 3 (.ref z6)))) := hkp45.tr (gKeep.up hTH45.1 rfl)
        generalize (gup σ45 mp (tg, gO 13 ((tmF rt es ks (sz - 1) (md + 1)).set 3 (.ref z6)))) = σ73 at hG hTH73 hkp73
        refine lv_goto (tgt := 133) hx hb dJ4_deleteEntry_100 (by decide) ?_
        refine lv_aload_n hx hb dJ4_deleteEntry_133 rfl (lv_at hl 2 rfl) ?_
        refine lv_aload_n hx hb dJ4_deleteEntry_134 rfl (lv_at hl 2 rfl) ?_
        refine lv_aload_n hx hb dJ4_deleteEntry_135 rfl (lv_at hl 2 rfl) ?_
        refine lv_null hx hb dJ4_deleteEntry_136 ?_
        refine lv_dup_x1 hx hb dJ4_deleteEntry_137 rfl rfl ?_
        refine g_put (C := RJ25) (T := TJ25) (N := 6) (ty0 := tyJ25) (v := .null) hx hb hts hown hK hG hS (hTH73.2.1 _ hDa) rfl in_J25 tyJ25_ok nmJ25 4 (by decide) q1183 rfl (by decide) rfl rfl (Nat.le_of_ble_eq_true rfl) dJ4_deleteEntry_138 (fun H locs hG hS => ?_)
        obtain ⟨pp_74, epp_74⟩ : ∃ z : Nat → Option Nat, z = va_up pp_45 a none := ⟨_, rfl⟩
        have hTH74 : TH (gup σ73 a (tg, gO 18 ((teF K Vv l_ r_ pp_45 C a).set 4 (.null)))) tg mp (tIn n ad ps) K Vv l_ r_ pp_74 C (some z6) es ks (sz - 1) (md + 1) := by rw [epp_74]; exact hTH73.pP hDa none
        have hkp74 : gKeep (fun t => t = tg) σ (gup σ73 a (tg, gO 18 ((teF K Vv l_ r_ pp_45 C a).set 4 (.null)))) := hkp73.tr (gKeep.up (hTH73.2.1 _ hDa) rfl)
        generalize (gup σ73 a (tg, gO 18 ((teF K Vv l_ r_ pp_45 C a).set 4 (.null)))) = σ74 at hG hTH74 hkp74
        refine lv_dup_x1 hx hb dJ4_deleteEntry_141 rfl rfl ?_
        refine g_put (C := RJ25) (T := TJ25) (N := 6) (ty0 := tyJ25) (v := .null) hx hb hts hown hK hG hS (hTH74.2.1 _ hDa) rfl in_J25 tyJ25_ok nmJ25 3 (by decide) q1181 rfl (by decide) rfl rfl (Nat.le_of_ble_eq_true rfl) dJ4_deleteEntry_142 (fun H locs hG hS => ?_)
        obtain ⟨rr75, err75⟩ : ∃ z : Nat → Option Nat, z = va_up r_ a none := ⟨_, rfl⟩
        have hTH75 : TH (gup σ74 a (tg, gO 18 ((teF K Vv l_ r_ pp_74 C a).set 3 (.null)))) tg mp (tIn n ad ps) K Vv l_ rr75 pp_74 C (some z6) es ks (sz - 1) (md + 1) := by rw [err75]; exact hTH74.pR hDa none
        have hkp75 : gKeep (fun t => t = tg) σ (gup σ74 a (tg, gO 18 ((teF K Vv l_ r_ pp_74 C a).set 3 (.null)))) := hkp74.tr (gKeep.up (hTH74.2.1 _ hDa) rfl)
        generalize (gup σ74 a (tg, gO 18 ((teF K Vv l_ r_ pp_74 C a).set 3 (.null)))) = σ75 at hG hTH75 hkp75
        refine g_put (C := RJ25) (T := TJ25) (N := 6) (ty0 := tyJ25) (v := .null) hx hb hts hown hK hG hS (hTH75.2.1 _ hDa) rfl in_J25 tyJ25_ok nmJ25 2 (by decide) q1180 rfl (by decide) rfl rfl (Nat.le_of_ble_eq_true rfl) dJ4_deleteEntry_145 (fun H locs hG hS => ?_)
        obtain ⟨ll76, ell76⟩ : ∃ z : Nat → Option Nat, z = va_up l_ a none := ⟨_, rfl⟩
        have hTH76 : TH (gup σ75 a (tg, gO 18 ((teF K Vv l_ rr75 pp_74 C a).set 2 (.null)))) tg mp (tIn n ad ps) K Vv ll76 rr75 pp_74 C (some z6) es ks (sz - 1) (md + 1) := by rw [ell76]; exact hTH75.pL hDa none
        have hkp76 : gKeep (fun t => t = tg) σ (gup σ75 a (tg, gO 18 ((teF K Vv l_ rr75 pp_74 C a).set 2 (.null)))) := hkp75.tr (gKeep.up (hTH75.2.1 _ hDa) rfl)
        generalize (gup σ75 a (tg, gO 18 ((teF K Vv l_ rr75 pp_74 C a).set 2 (.null)))) = σ76 at hG hTH76 hkp76
        refine lv_aload_n hx hb dJ4_deleteEntry_148 rfl (lv_at hl 2 rfl) ?_
        refine g_get (C := RJ25) (T := TJ25) (N := 6) (v := .int (iI (C a))) hx hb hts hown hK hG (hTH76.2.1 _ hDa) rfl in_J25 5 (by decide) q1185 rfl rfl dJ4_deleteEntry_149 ?_
        have hc77 := hTH76.2.2 _ hDa
        refine g_iconst hx hb dJ4_deleteEntry_152 ?_
        refine g_icmp_ne (tgt := 245) hx hb dJ4_deleteEntry_153 (by decide) (by omega) (by omega) (fun cq78 => ?_) (fun cq78 => ?_)
        · obtain ⟨lo_j79, hi_j79, hokj79, hsubj79⟩ : ∃ lo3 hi3, tOk (n - 1) (tAx (ps a) ad) (tPd (ps a) ps) ll76 rr75 pp_74 lo3 hi3 (some z6) ∧ ∀ z, tIn (n - 1) (tAx (ps a) ad) (tPd (ps a) ps) z → z ≠ a ∧ tIn n ad ps z := by
            have hdel := hok.del (e9 := (some z6)) (l' := ll76) (r' := rr75) (p' := pp_74) (rt' := (some z6)) hDa rfl (Or.inl ⟨ho4, ho7.symm⟩)
              (fun y hy hyp => by
                    rw [ell76, va_up_ne _ _ hyp, if_neg (fun k => by have q5 := (hok.l1 hy k).2.2.2; rw [ho48] at q5; cases q5)])
              (fun y hy hyp => by
                    rw [err75, va_up_ne _ _ hyp, if_neg (fun k => by have q5 := (hok.r1 hy k).2.2.2; rw [ho48] at q5; cases q5)])
              (fun y hy hyp => by
                    rw [epp_74, va_up_ne _ _ hyp]
                    by_cases e : y = z6
                    · rw [e, epp_45, va_up_self, if_pos rfl]
                    · rw [epp_45, va_up_ne _ _ e, if_neg (fun k => e (Option.some.inj k).symm)])
              (by rw [if_pos (hok.p0 hDa ho48)])
            exact ⟨_, _, hdel.1, hdel.2⟩
          have hTHj79 := hTH76.sub (fun y hy => (hsubj79 y hy).2)
          have hD9d : tIn (n - 1) (tAx (ps a) ad) (tPd (ps a) ps) z6 := (tPd_in hDa rfl hok.1 hne_pd.symm).mpr hD_z6
          exact g_vret hx hb hr hlocks hQ hG hS (Nat.zero_le _) (Nat.zero_le _) ⟨rfl, (tAx (ps a) ad), (tPd (ps a) ps), K, Vv, ll76, rr75, pp_74, C, (some z6), lo_j79, hi_j79, hTHj79, hokj79, hkp76, fun i hi => ⟨rfl, rfl⟩⟩ dJ4_deleteEntry_245
        · obtain ⟨lo_j80, hi_j80, hokj80, hsubj80⟩ : ∃ lo3 hi3, tOk (n - 1) (tAx (ps a) ad) (tPd (ps a) ps) ll76 rr75 pp_74 lo3 hi3 (some z6) ∧ ∀ z, tIn (n - 1) (tAx (ps a) ad) (tPd (ps a) ps) z → z ≠ a ∧ tIn n ad ps z := by
            have hdel := hok.del (e9 := (some z6)) (l' := ll76) (r' := rr75) (p' := pp_74) (rt' := (some z6)) hDa rfl (Or.inl ⟨ho4, ho7.symm⟩)
              (fun y hy hyp => by
                    rw [ell76, va_up_ne _ _ hyp, if_neg (fun k => by have q5 := (hok.l1 hy k).2.2.2; rw [ho48] at q5; cases q5)])
              (fun y hy hyp => by
                    rw [err75, va_up_ne _ _ hyp, if_neg (fun k => by have q5 := (hok.r1 hy k).2.2.2; rw [ho48] at q5; cases q5)])
              (fun y hy hyp => by
                    rw [epp_74, va_up_ne _ _ hyp]
                    by_cases e : y = z6
                    · rw [e, epp_45, va_up_self, if_pos rfl]
                    · rw [epp_45, va_up_ne _ _ e, if_neg (fun k => e (Option.some.inj k).symm)])
              (by rw [if_pos (hok.p0 hDa ho48)])
            exact ⟨_, _, hdel.1, hdel.2⟩
          have hTHj80 := hTH76.sub (fun y hy => (hsubj80 y hy).2)
          have hD9d : tIn (n - 1) (tAx (ps a) ad) (tPd (ps a) ps) z6 := (tPd_in hDa rfl hok.1 hne_pd.symm).mpr hD_z6
          refine lv_aload_n hx hb dJ4_deleteEntry_156 rfl (lv_at hl 1 rfl) ?_
          refine lv_aload_n hx hb dJ4_deleteEntry_157 rfl (lv_at hl 0 rfl) ?_
          refine g_callV (As := [.ref z6]) (rest := []) 1 hx hb hml hown hts hK hG hS hl.1 (mJ4_fixAfterDeletion l X σ76 tg mp (n - 1) (tAx (ps a) ad) (tPd (ps a) ps) K Vv ll76 rr75 pp_74 C (some z6) es ks (sz - 1) (md + 1) hTHj80 lo_j80 hi_j80 hokj80 (fun _ => False) z6 hD9d (fun z hz => hz.elim)) hTHj80.1 rfl q1551 q1553 qs41 q75 q1554 (by decide +kernel) rfl ⟨Nat.le_of_ble_eq_true rfl, Nat.le_of_ble_eq_true rfl⟩ ⟨Nat.le_of_ble_eq_true rfl, Nat.le_of_ble_eq_true rfl⟩ (Nat.le_of_ble_eq_true rfl) dJ4_deleteEntry_158 (kV (fun σr81 H locs hp hG hS => ?_))
          obtain ⟨l_82, r_82, p_82, C_82, rt_82, lo_82, hi_82, hTH82, hok82, kp82, hlf82⟩ := hp
          have hkp82 := hkp76.tr kp82
          refine lv_goto (tgt := 245) hx hb dJ4_deleteEntry_161 (by decide) ?_
          exact g_vret hx hb hr hlocks hQ hG hS (Nat.zero_le _) (Nat.zero_le _) ⟨rfl, (tAx (ps a) ad), (tPd (ps a) ps), K, Vv, l_82, r_82, p_82, C_82, rt_82, lo_82, hi_82, hTH82, hok82, hkp82, fun i hi => ⟨rfl, rfl⟩⟩ dJ4_deleteEntry_245
  · have hD_z3 := (hok.l1 hDa ho4).1
    refine lv_aload_n hx hb dJ4_deleteEntry_27 rfl (lv_at hl 1 rfl) ?_
    refine g_get (C := RJ25) (T := TJ25) (N := 6) (v := va_rf (r_ a)) hx hb hts hown hK hG (hTH2.2.1 _ hDa) rfl in_J25 3 (by decide) q1181 rfl rfl dJ4_deleteEntry_28 ?_
    refine g_ifnullR (tgt := 57) hx hb dJ4_deleteEntry_31 (by decide) (fun ho84 => ?_) (fun z83 ho84 => ?_)
    · have hnp := hok.num hDa
      refine lv_aload_n hx hb dJ4_deleteEntry_57 rfl (lv_at hl 1 rfl) ?_
      have hf85 : l_ a = (some z3) := by rw [ho4]
      refine g_get (C := RJ25) (T := TJ25) (N := 6) (v := .ref z3) hx hb hts hown hK hG (hTH2.2.1 _ hDa) rfl in_J25 2 (by decide) q1180 rfl (congrArg (fun q9 => some (va_rf q9)) hf85) dJ4_deleteEntry_58 ?_
      refine lv_ifnull hx hb dJ4_deleteEntry_61 ?_
      refine lv_aload_n hx hb dJ4_deleteEntry_64 rfl (lv_at hl 1 rfl) ?_
      have hf86 : l_ a = (some z3) := by rw [ho4]
      refine g_get (C := RJ25) (T := TJ25) (N := 6) (v := .ref z3) hx hb hts hown hK hG (hTH2.2.1 _ hDa) rfl in_J25 2 (by decide) q1180 rfl (congrArg (fun q9 => some (va_rf q9)) hf86) dJ4_deleteEntry_65 ?_
      refine lv_goto (tgt := 75) hx hb dJ4_deleteEntry_68 (by decide) ?_
      refine lv_astore_n (lv' := [(2, .ref z3), (0, .ref mp), (1, .ref a)]) hx hb dJ4_deleteEntry_75 rfl hl (by decide) rfl (fun ls hl => ?_)
      refine lv_aload_n hx hb dJ4_deleteEntry_76 rfl (lv_at hl 0 rfl) ?_
      refine lv_ifnull hx hb dJ4_deleteEntry_77 ?_
      have hcd := hok.l1 hDa ho4
      have hnd := hok.num hcd.1
      have hne_pd : a ≠ z3 := tIn.ne (ps := ps) (by omega)
      refine lv_aload_n hx hb dJ4_deleteEntry_80 rfl (lv_at hl 0 rfl) ?_
      refine lv_aload_n hx hb dJ4_deleteEntry_81 rfl (lv_at hl 2 rfl) ?_
      refine g_get (C := RJ25) (T := TJ25) (N := 6) (v := va_rf (p_ a)) hx hb hts hown hK hG (hTH2.2.1 _ hDa) rfl in_J25 4 (by decide) q1183 rfl rfl dJ4_deleteEntry_82 ?_
      refine g_put (C := RJ25) (T := TJ25) (N := 6) (ty0 := tyJ25) (v := va_rf (p_ a)) hx hb hts hown hK hG hS (hTH2.2.1 _ hD_z3) rfl in_J25 tyJ25_ok nmJ25 4 (by decide) q1183 rfl (by decide) (nrf _) (frf _) (Nat.le_of_ble_eq_true rfl) dJ4_deleteEntry_85 (fun H locs hG hS => ?_)
      obtain ⟨pp_87, epp_87⟩ : ∃ z : Nat → Option Nat, z = va_up p_ z3 (p_ a) := ⟨_, rfl⟩
      have hTH87 : TH (gup σ2 z3 (tg, gO 18 ((teF K Vv l_ r_ p_ C z3).set 4 (va_rf (p_ a))))) tg mp (tIn n ad ps) K Vv l_ r_ pp_87 C rt es ks (sz - 1) (md + 1) := by rw [epp_87]; exact hTH2.pP hD_z3 (p_ a)
      have hkp87 : gKeep (fun t => t = tg) σ (gup σ2 z3 (tg, gO 18 ((teF K Vv l_ r_ p_ C z3).set 4 (va_rf (p_ a))))) := hkp2.tr (gKeep.up (hTH2.2.1 _ hD_z3) rfl)
      generalize (gup σ2 z3 (tg, gO 18 ((teF K Vv l_ r_ p_ C z3).set 4 (va_rf (p_ a))))) = σ87 at hG hTH87 hkp87
      refine lv_aload_n hx hb dJ4_deleteEntry_88 rfl (lv_at hl 2 rfl) ?_
      have hf88 : pp_87 a = (p_ a) := by rw [epp_87, va_up_ne _ _ hne_pd]
      refine g_get (C := RJ25) (T := TJ25) (N := 6) (v := va_rf (p_ a)) hx hb hts hown hK hG (hTH87.2.1 _ hDa) rfl in_J25 4 (by decide) q1183 rfl (congrArg (fun q9 => some (va_rf q9)) hf88) dJ4_deleteEntry_89 ?_
      refine g_ifnonnullR (tgt := 103) hx hb dJ4_deleteEntry_92 (by decide) (fun z89 ho90 => ?_) (fun ho90 => ?_)
      · have hD_z89 := (hok.p1 hDa ho90).1
        have hup9 := hok.up hDa ho90
        have hnq9 := hok.num hD_z89
        have hne_pq : a ≠ z89 := fun e => by rw [← e] at hup9; omega
        refine lv_aload_n hx hb dJ4_deleteEntry_103 rfl (lv_at hl 2 rfl) ?_
        refine lv_aload_n hx hb dJ4_deleteEntry_104 rfl (lv_at hl 2 rfl) ?_
        have hf91 : pp_87 a = (some z89) := by rw [epp_87, va_up_ne _ _ hne_pd, ho90]
        refine g_get (C := RJ25) (T := TJ25) (N := 6) (v := .ref z89) hx hb hts hown hK hG (hTH87.2.1 _ hDa) rfl in_J25 4 (by decide) q1183 rfl (congrArg (fun q9 => some (va_rf q9)) hf91) dJ4_deleteEntry_105 ?_
        refine g_get (C := RJ25) (T := TJ25) (N := 6) (v := va_rf (l_ z89)) hx hb hts hown hK hG (hTH87.2.1 _ hD_z89) rfl in_J25 2 (by decide) q1180 rfl rfl dJ4_deleteEntry_108 ?_
        refine lv_acmp_ne (tgt := 125) (rx := (some a)) (ry := (l_ z89)) hx hb dJ4_deleteEntry_111 (by decide) (fun hq92 => ?_) (fun hq92 => ?_)
        · refine lv_aload_n hx hb dJ4_deleteEntry_125 rfl (lv_at hl 2 rfl) ?_
          have hf93 : pp_87 a = (some z89) := by rw [epp_87, va_up_ne _ _ hne_pd, ho90]
          refine g_get (C := RJ25) (T := TJ25) (N := 6) (v := .ref z89) hx hb hts hown hK hG (hTH87.2.1 _ hDa) rfl in_J25 4 (by decide) q1183 rfl (congrArg (fun q9 => some (va_rf q9)) hf93) dJ4_deleteEntry_126 ?_
          refine lv_aload_n hx hb dJ4_deleteEntry_129 rfl (lv_at hl 0 rfl) ?_
          refine g_put (C := RJ25) (T := TJ25) (N := 6) (ty0 := tyJ25) (v := .ref z3) hx hb hts hown hK hG hS (hTH87.2.1 _ hD_z89) rfl in_J25 tyJ25_ok nmJ25 3 (by decide) q1181 rfl (by decide) rfl rfl (Nat.le_of_ble_eq_true rfl) dJ4_deleteEntry_130 (fun H locs hG hS => ?_)
          obtain ⟨rr94, err94⟩ : ∃ z : Nat → Option Nat, z = va_up r_ z89 (some z3) := ⟨_, rfl⟩
          have hTH94 : TH (gup σ87 z89 (tg, gO 18 ((teF K Vv l_ r_ pp_87 C z89).set 3 (.ref z3)))) tg mp (tIn n ad ps) K Vv l_ rr94 pp_87 C rt es ks (sz - 1) (md + 1) := by rw [err94]; exact hTH87.pR hD_z89 (some z3)
          have hkp94 : gKeep (fun t => t = tg) σ (gup σ87 z89 (tg, gO 18 ((teF K Vv l_ r_ pp_87 C z89).set 3 (.ref z3)))) := hkp87.tr (gKeep.up (hTH87.2.1 _ hD_z89) rfl)
          generalize (gup σ87 z89 (tg, gO 18 ((teF K Vv l_ r_ pp_87 C z89).set 3 (.ref z3)))) = σ94 at hG hTH94 hkp94
          refine lv_aload_n hx hb dJ4_deleteEntry_133 rfl (lv_at hl 2 rfl) ?_
          refine lv_aload_n hx hb dJ4_deleteEntry_134 rfl (lv_at hl 2 rfl) ?_
          refine lv_aload_n hx hb dJ4_deleteEntry_135 rfl (lv_at hl 2 rfl) ?_
          refine lv_null hx hb dJ4_deleteEntry_136 ?_
          refine lv_dup_x1 hx hb dJ4_deleteEntry_137 rfl rfl ?_
          refine g_put (C := RJ25) (T := TJ25) (N := 6) (ty0 := tyJ25) (v := .null) hx hb hts hown hK hG hS (hTH94.2.1 _ hDa) rfl in_J25 tyJ25_ok nmJ25 4 (by decide) q1183 rfl (by decide) rfl rfl (Nat.le_of_ble_eq_true rfl) dJ4_deleteEntry_138 (fun H locs hG hS => ?_)
          obtain ⟨pp_95, epp_95⟩ : ∃ z : Nat → Option Nat, z = va_up pp_87 a none := ⟨_, rfl⟩
          have hTH95 : TH (gup σ94 a (tg, gO 18 ((teF K Vv l_ rr94 pp_87 C a).set 4 (.null)))) tg mp (tIn n ad ps) K Vv l_ rr94 pp_95 C rt es ks (sz - 1) (md + 1) := by rw [epp_95]; exact hTH94.pP hDa none
          have hkp95 : gKeep (fun t => t = tg) σ (gup σ94 a (tg, gO 18 ((teF K Vv l_ rr94 pp_87 C a).set 4 (.null)))) := hkp94.tr (gKeep.up (hTH94.2.1 _ hDa) rfl)
          generalize (gup σ94 a (tg, gO 18 ((teF K Vv l_ rr94 pp_87 C a).set 4 (.null)))) = σ95 at hG hTH95 hkp95
          refine lv_dup_x1 hx hb dJ4_deleteEntry_141 rfl rfl ?_
          refine g_put (C := RJ25) (T := TJ25) (N := 6) (ty0 := tyJ25) (v := .null) hx hb hts hown hK hG hS (hTH95.2.1 _ hDa) rfl in_J25 tyJ25_ok nmJ25 3 (by decide) q1181 rfl (by decide) rfl rfl (Nat.le_of_ble_eq_true rfl) dJ4_deleteEntry_142 (fun H locs hG hS => ?_)
          obtain ⟨rr96, err96⟩ : ∃ z : Nat → Option Nat, z = va_up rr94 a none := ⟨_, rfl⟩
          have hTH96 : TH (gup σ95 a (tg, gO 18 ((teF K Vv l_ rr94 pp_95 C a).set 3 (.null)))) tg mp (tIn n ad ps) K Vv l_ rr96 pp_95 C rt es ks (sz - 1) (md + 1) := by rw [err96]; exact hTH95.pR hDa none
          have hkp96 : gKeep (fun t => t = tg) σ (gup σ95 a (tg, gO 18 ((teF K Vv l_ rr94 pp_95 C a).set 3 (.null)))) := hkp95.tr (gKeep.up (hTH95.2.1 _ hDa) rfl)
          generalize (gup σ95 a (tg, gO 18 ((teF K Vv l_ rr94 pp_95 C a).set 3 (.null)))) = σ96 at hG hTH96 hkp96
          refine g_put (C := RJ25) (T := TJ25) (N := 6) (ty0 := tyJ25) (v := .null) hx hb hts hown hK hG hS (hTH96.2.1 _ hDa) rfl in_J25 tyJ25_ok nmJ25 2 (by decide) q1180 rfl (by decide) rfl rfl (Nat.le_of_ble_eq_true rfl) dJ4_deleteEntry_145 (fun H locs hG hS => ?_)
          obtain ⟨ll97, ell97⟩ : ∃ z : Nat → Option Nat, z = va_up l_ a none := ⟨_, rfl⟩
          have hTH97 : TH (gup σ96 a (tg, gO 18 ((teF K Vv l_ rr96 pp_95 C a).set 2 (.null)))) tg mp (tIn n ad ps) K Vv ll97 rr96 pp_95 C rt es ks (sz - 1) (md + 1) := by rw [ell97]; exact hTH96.pL hDa none
          have hkp97 : gKeep (fun t => t = tg) σ (gup σ96 a (tg, gO 18 ((teF K Vv l_ rr96 pp_95 C a).set 2 (.null)))) := hkp96.tr (gKeep.up (hTH96.2.1 _ hDa) rfl)
          generalize (gup σ96 a (tg, gO 18 ((teF K Vv l_ rr96 pp_95 C a).set 2 (.null)))) = σ97 at hG hTH97 hkp97
          refine lv_aload_n hx hb dJ4_deleteEntry_148 rfl (lv_at hl 2 rfl) ?_
          refine g_get (C := RJ25) (T := TJ25) (N := 6) (v := .int (iI (C a))) hx hb hts hown hK hG (hTH97.2.1 _ hDa) rfl in_J25 5 (by decide) q1185 rfl rfl dJ4_deleteEntry_149 ?_
          have hc98 := hTH97.2.2 _ hDa
          refine g_iconst hx hb dJ4_deleteEntry_152 ?_
          refine g_icmp_ne (tgt := 245) hx hb dJ4_deleteEntry_153 (by decide) (by omega) (by omega) (fun cq99 => ?_) (fun cq99 => ?_)
          · obtain ⟨lo_j100, hi_j100, hokj100, hsubj100⟩ : ∃ lo3 hi3, tOk (n - 1) (tAx (ps a) ad) (tPd (ps a) ps) ll97 rr96 pp_95 lo3 hi3 rt ∧ ∀ z, tIn (n - 1) (tAx (ps a) ad) (tPd (ps a) ps) z → z ≠ a ∧ tIn n ad ps z := by
              have hdel := hok.del (e9 := (some z3)) (l' := ll97) (r' := rr96) (p' := pp_95) (rt' := rt) hDa rfl (Or.inr ⟨ho84, ho4.symm⟩)
                (fun y hy hyp => by
                      rw [ell97, va_up_ne _ _ hyp, if_neg (fun k => by have q5 := (hok.l1 hy k).2.2.2; rw [ho90] at q5; have q6 := Option.some.inj q5; rw [← q6] at k; exact absurd k (fun k => hq92 k.symm))])
                (fun y hy hyp => by
                      rw [err96, va_up_ne _ _ hyp, err94]
                      by_cases e : y = z89
                      · rw [e, va_up_self, if_pos ((hok.p1 hDa ho90).2.resolve_left (fun k => hq92 k.symm))]
                      · rw [va_up_ne _ _ e, if_neg (fun k => e (by have q5 := (hok.r1 hy k).2.2.2; rw [ho90] at q5; exact (Option.some.inj q5).symm))])
                (fun y hy hyp => by
                      rw [epp_95, va_up_ne _ _ hyp]
                      by_cases e : y = z3
                      · rw [e, epp_87, va_up_self, if_pos rfl]
                      · rw [epp_87, va_up_ne _ _ e, if_neg (fun k => e (Option.some.inj k).symm)])
                (by rw [if_neg (fun k => by have q5 := (hok.rx k).2.2.2; rw [ho90] at q5; cases q5)])
              exact ⟨_, _, hdel.1, hdel.2⟩
            have hTHj100 := hTH97.sub (fun y hy => (hsubj100 y hy).2)
            have hD9d : tIn (n - 1) (tAx (ps a) ad) (tPd (ps a) ps) z3 := (tPd_in hDa rfl hok.1 hne_pd.symm).mpr hD_z3
            exact g_vret hx hb hr hlocks hQ hG hS (Nat.zero_le _) (Nat.zero_le _) ⟨rfl, (tAx (ps a) ad), (tPd (ps a) ps), K, Vv, ll97, rr96, pp_95, C, rt, lo_j100, hi_j100, hTHj100, hokj100, hkp97, fun i hi => ⟨rfl, rfl⟩⟩ dJ4_deleteEntry_245
          · obtain ⟨lo_j101, hi_j101, hokj101, hsubj101⟩ : ∃ lo3 hi3, tOk (n - 1) (tAx (ps a) ad) (tPd (ps a) ps) ll97 rr96 pp_95 lo3 hi3 rt ∧ ∀ z, tIn (n - 1) (tAx (ps a) ad) (tPd (ps a) ps) z → z ≠ a ∧ tIn n ad ps z := by
              have hdel := hok.del (e9 := (some z3)) (l' := ll97) (r' := rr96) (p' := pp_95) (rt' := rt) hDa rfl (Or.inr ⟨ho84, ho4.symm⟩)
                (fun y hy hyp => by
                      rw [ell97, va_up_ne _ _ hyp, if_neg (fun k => by have q5 := (hok.l1 hy k).2.2.2; rw [ho90] at q5; have q6 := Option.some.inj q5; rw [← q6] at k; exact absurd k (fun k => hq92 k.symm))])
                (fun y hy hyp => by
                      rw [err96, va_up_ne _ _ hyp, err94]
                      by_cases e : y = z89
                      · rw [e, va_up_self, if_pos ((hok.p1 hDa ho90).2.resolve_left (fun k => hq92 k.symm))]
                      · rw [va_up_ne _ _ e, if_neg (fun k => e (by have q5 := (hok.r1 hy k).2.2.2; rw [ho90] at q5; exact (Option.some.inj q5).symm))])
                (fun y hy hyp => by
                      rw [epp_95, va_up_ne _ _ hyp]
                      by_cases e : y = z3
                      · rw [e, epp_87, va_up_self, if_pos rfl]
                      · rw [epp_87, va_up_ne _ _ e, if_neg (fun k => e (Option.some.inj k).symm)])
                (by rw [if_neg (fun k => by have q5 := (hok.rx k).2.2.2; rw [ho90] at q5; cases q5)])
              exact ⟨_, _, hdel.1, hdel.2⟩
            have hTHj101 := hTH97.sub (fun y hy => (hsubj101 y hy).2)
            have hD9d : tIn (n - 1) (tAx (ps a) ad) (tPd (ps a) ps) z3 := (tPd_in hDa rfl hok.1 hne_pd.symm).mpr hD_z3
            refine lv_aload_n hx hb dJ4_deleteEntry_156 rfl (lv_at hl 1 rfl) ?_
            refine lv_aload_n hx hb dJ4_deleteEntry_157 rfl (lv_at hl 0 rfl) ?_
            refine g_callV (As := [.ref z3]) (rest := []) 1 hx hb hml hown hts hK hG hS hl.1 (mJ4_fixAfterDeletion l X σ97 tg mp (n - 1) (tAx (ps a) ad) (tPd (ps a) ps) K Vv ll97 rr96 pp_95 C rt es ks (sz - 1) (md + 1) hTHj101 lo_j101 hi_j101 hokj101 (fun _ => False) z3 hD9d (fun z hz => hz.elim)) hTHj101.1 rfl q1551 q1553 qs41 q75 q1554 (by decide +kernel) rfl ⟨Nat.le_of_ble_eq_true rfl, Nat.le_of_ble_eq_true rfl⟩ ⟨Nat.le_of_ble_eq_true rfl, Nat.le_of_ble_eq_true rfl⟩ (Nat.le_of_ble_eq_true rfl) dJ4_deleteEntry_158 (kV (fun σr102 H locs hp hG hS => ?_))
            obtain ⟨l_103, r_103, p_103, C_103, rt_103, lo_103, hi_103, hTH103, hok103, kp103, hlf103⟩ := hp
            have hkp103 := hkp97.tr kp103
            refine lv_goto (tgt := 245) hx hb dJ4_deleteEntry_161 (by decide) ?_
            exact g_vret hx hb hr hlocks hQ hG hS (Nat.zero_le _) (Nat.zero_le _) ⟨rfl, (tAx (ps a) ad), (tPd (ps a) ps), K, Vv, l_103, r_103, p_103, C_103, rt_103, lo_103, hi_103, hTH103, hok103, hkp103, fun i hi => ⟨rfl, rfl⟩⟩ dJ4_deleteEntry_245
        · refine lv_aload_n hx hb dJ4_deleteEntry_114 rfl (lv_at hl 2 rfl) ?_
          have hf104 : pp_87 a = (some z89) := by rw [epp_87, va_up_ne _ _ hne_pd, ho90]
          refine g_get (C := RJ25) (T := TJ25) (N := 6) (v := .ref z89) hx hb hts hown hK hG (hTH87.2.1 _ hDa) rfl in_J25 4 (by decide) q1183 rfl (congrArg (fun q9 => some (va_rf q9)) hf104) dJ4_deleteEntry_115 ?_
          refine lv_aload_n hx hb dJ4_deleteEntry_118 rfl (lv_at hl 0 rfl) ?_
          refine g_put (C := RJ25) (T := TJ25) (N := 6) (ty0 := tyJ25) (v := .ref z3) hx hb hts hown hK hG hS (hTH87.2.1 _ hD_z89) rfl in_J25 tyJ25_ok nmJ25 2 (by decide) q1180 rfl (by decide) rfl rfl (Nat.le_of_ble_eq_true rfl) dJ4_deleteEntry_119 (fun H locs hG hS => ?_)
          obtain ⟨ll105, ell105⟩ : ∃ z : Nat → Option Nat, z = va_up l_ z89 (some z3) := ⟨_, rfl⟩
          have hTH105 : TH (gup σ87 z89 (tg, gO 18 ((teF K Vv l_ r_ pp_87 C z89).set 2 (.ref z3)))) tg mp (tIn n ad ps) K Vv ll105 r_ pp_87 C rt es ks (sz - 1) (md + 1) := by rw [ell105]; exact hTH87.pL hD_z89 (some z3)
          have hkp105 : gKeep (fun t => t = tg) σ (gup σ87 z89 (tg, gO 18 ((teF K Vv l_ r_ pp_87 C z89).set 2 (.ref z3)))) := hkp87.tr (gKeep.up (hTH87.2.1 _ hD_z89) rfl)
          generalize (gup σ87 z89 (tg, gO 18 ((teF K Vv l_ r_ pp_87 C z89).set 2 (.ref z3)))) = σ105 at hG hTH105 hkp105
          refine lv_goto (tgt := 133) hx hb dJ4_deleteEntry_122 (by decide) ?_
          refine lv_aload_n hx hb dJ4_deleteEntry_133 rfl (lv_at hl 2 rfl) ?_
          refine lv_aload_n hx hb dJ4_deleteEntry_134 rfl (lv_at hl 2 rfl) ?_
          refine lv_aload_n hx hb dJ4_deleteEntry_135 rfl (lv_at hl 2 rfl) ?_
          refine lv_null hx hb dJ4_deleteEntry_136 ?_
          refine lv_dup_x1 hx hb dJ4_deleteEntry_137 rfl rfl ?_
          refine g_put (C := RJ25) (T := TJ25) (N := 6) (ty0 := tyJ25) (v := .null) hx hb hts hown hK hG hS (hTH105.2.1 _ hDa) rfl in_J25 tyJ25_ok nmJ25 4 (by decide) q1183 rfl (by decide) rfl rfl (Nat.le_of_ble_eq_true rfl) dJ4_deleteEntry_138 (fun H locs hG hS => ?_)
          obtain ⟨pp_106, epp_106⟩ : ∃ z : Nat → Option Nat, z = va_up pp_87 a none := ⟨_, rfl⟩
          have hTH106 : TH (gup σ105 a (tg, gO 18 ((teF K Vv ll105 r_ pp_87 C a).set 4 (.null)))) tg mp (tIn n ad ps) K Vv ll105 r_ pp_106 C rt es ks (sz - 1) (md + 1) := by rw [epp_106]; exact hTH105.pP hDa none
          have hkp106 : gKeep (fun t => t = tg) σ (gup σ105 a (tg, gO 18 ((teF K Vv ll105 r_ pp_87 C a).set 4 (.null)))) := hkp105.tr (gKeep.up (hTH105.2.1 _ hDa) rfl)
          generalize (gup σ105 a (tg, gO 18 ((teF K Vv ll105 r_ pp_87 C a).set 4 (.null)))) = σ106 at hG hTH106 hkp106
          refine lv_dup_x1 hx hb dJ4_deleteEntry_141 rfl rfl ?_
          refine g_put (C := RJ25) (T := TJ25) (N := 6) (ty0 := tyJ25) (v := .null) hx hb hts hown hK hG hS (hTH106.2.1 _ hDa) rfl in_J25 tyJ25_ok nmJ25 3 (by decide) q1181 rfl (by decide) rfl rfl (Nat.le_of_ble_eq_true rfl) dJ4_deleteEntry_142 (fun H locs hG hS => ?_)
          obtain ⟨rr107, err107⟩ : ∃ z : Nat → Option Nat, z = va_up r_ a none := ⟨_, rfl⟩
          have hTH107 : TH (gup σ106 a (tg, gO 18 ((teF K Vv ll105 r_ pp_106 C a).set 3 (.null)))) tg mp (tIn n ad ps) K Vv ll105 rr107 pp_106 C rt es ks (sz - 1) (md + 1) := by rw [err107]; exact hTH106.pR hDa none
          have hkp107 : gKeep (fun t => t = tg) σ (gup σ106 a (tg, gO 18 ((teF K Vv ll105 r_ pp_106 C a).set 3 (.null)))) := hkp106.tr (gKeep.up (hTH106.2.1 _ hDa) rfl)
          generalize (gup σ106 a (tg, gO 18 ((teF K Vv ll105 r_ pp_106 C a).set 3 (.null)))) = σ107 at hG hTH107 hkp107
          refine g_put (C := RJ25) (T := TJ25) (N := 6) (ty0 := tyJ25) (v := .null) hx hb hts hown hK hG hS (hTH107.2.1 _ hDa) rfl in_J25 tyJ25_ok nmJ25 2 (by decide) q1180 rfl (by decide) rfl rfl (Nat.le_of_ble_eq_true rfl) dJ4_deleteEntry_145 (fun H locs hG hS => ?_)
          obtain ⟨ll108, ell108⟩ : ∃ z : Nat → Option Nat, z = va_up ll105 a none := ⟨_, rfl⟩
          have hTH108 : TH (gup σ107 a (tg, gO 18 ((teF K Vv ll105 rr107 pp_106 C a).set 2 (.null)))) tg mp (tIn n ad ps) K Vv ll108 rr107 pp_106 C rt es ks (sz - 1) (md + 1) := by rw [ell108]; exact hTH107.pL hDa none
          have hkp108 : gKeep (fun t => t = tg) σ (gup σ107 a (tg, gO 18 ((teF K Vv ll105 rr107 pp_106 C a).set 2 (.null)))) := hkp107.tr (gKeep.up (hTH107.2.1 _ hDa) rfl)
          generalize (gup σ107 a (tg, gO 18 ((teF K Vv ll105 rr107 pp_106 C a).set 2 (.null)))) = σ108 at hG hTH108 hkp108
          refine lv_aload_n hx hb dJ4_deleteEntry_148 rfl (lv_at hl 2 rfl) ?_
          refine g_get (C := RJ25) (T := TJ25) (N := 6) (v := .int (iI (C a))) hx hb hts hown hK hG (hTH108.2.1 _ hDa) rfl in_J25 5 (by decide) q1185 rfl rfl dJ4_deleteEntry_149 ?_
          have hc109 := hTH108.2.2 _ hDa
          refine g_iconst hx hb dJ4_deleteEntry_152 ?_
          refine g_icmp_ne (tgt := 245) hx hb dJ4_deleteEntry_153 (by decide) (by omega) (by omega) (fun cq110 => ?_) (fun cq110 => ?_)
          · obtain ⟨lo_j111, hi_j111, hokj111, hsubj111⟩ : ∃ lo3 hi3, tOk (n - 1) (tAx (ps a) ad) (tPd (ps a) ps) ll108 rr107 pp_106 lo3 hi3 rt ∧ ∀ z, tIn (n - 1) (tAx (ps a) ad) (tPd (ps a) ps) z → z ≠ a ∧ tIn n ad ps z := by
              have hdel := hok.del (e9 := (some z3)) (l' := ll108) (r' := rr107) (p' := pp_106) (rt' := rt) hDa rfl (Or.inr ⟨ho84, ho4.symm⟩)
                (fun y hy hyp => by
                      rw [ell108, va_up_ne _ _ hyp, ell105]
                      by_cases e : y = z89
                      · rw [e, va_up_self, if_pos hq92.symm]
                      · rw [va_up_ne _ _ e, if_neg (fun k => e (by have q5 := (hok.l1 hy k).2.2.2; rw [ho90] at q5; exact (Option.some.inj q5).symm))])
                (fun y hy hyp => by
                      rw [err107, va_up_ne _ _ hyp, if_neg (fun k => by have q5 := (hok.r1 hy k).2.2.2; rw [ho90] at q5; have q6 := Option.some.inj q5; rw [← q6] at k; exact absurd k (fun k => by have q7 := hok.r1 hD_z89 k; have q8 := hok.l1 hD_z89 hq92.symm; omega))])
                (fun y hy hyp => by
                      rw [epp_106, va_up_ne _ _ hyp]
                      by_cases e : y = z3
                      · rw [e, epp_87, va_up_self, if_pos rfl]
                      · rw [epp_87, va_up_ne _ _ e, if_neg (fun k => e (Option.some.inj k).symm)])
                (by rw [if_neg (fun k => by have q5 := (hok.rx k).2.2.2; rw [ho90] at q5; cases q5)])
              exact ⟨_, _, hdel.1, hdel.2⟩
            have hTHj111 := hTH108.sub (fun y hy => (hsubj111 y hy).2)
            have hD9d : tIn (n - 1) (tAx (ps a) ad) (tPd (ps a) ps) z3 := (tPd_in hDa rfl hok.1 hne_pd.symm).mpr hD_z3
            exact g_vret hx hb hr hlocks hQ hG hS (Nat.zero_le _) (Nat.zero_le _) ⟨rfl, (tAx (ps a) ad), (tPd (ps a) ps), K, Vv, ll108, rr107, pp_106, C, rt, lo_j111, hi_j111, hTHj111, hokj111, hkp108, fun i hi => ⟨rfl, rfl⟩⟩ dJ4_deleteEntry_245
          · obtain ⟨lo_j112, hi_j112, hokj112, hsubj112⟩ : ∃ lo3 hi3, tOk (n - 1) (tAx (ps a) ad) (tPd (ps a) ps) ll108 rr107 pp_106 lo3 hi3 rt ∧ ∀ z, tIn (n - 1) (tAx (ps a) ad) (tPd (ps a) ps) z → z ≠ a ∧ tIn n ad ps z := by
              have hdel := hok.del (e9 := (some z3)) (l' := ll108) (r' := rr107) (p' := pp_106) (rt' := rt) hDa rfl (Or.inr ⟨ho84, ho4.symm⟩)
                (fun y hy hyp => by
                      rw [ell108, va_up_ne _ _ hyp, ell105]
                      by_cases e : y = z89
                      · rw [e, va_up_self, if_pos hq92.symm]
                      · rw [va_up_ne _ _ e, if_neg (fun k => e (by have q5 := (hok.l1 hy k).2.2.2; rw [ho90] at q5; exact (Option.some.inj q5).symm))])
                (fun y hy hyp => by
                      rw [err107, va_up_ne _ _ hyp, if_neg (fun k => by have q5 := (hok.r1 hy k).2.2.2; rw [ho90] at q5; have q6 := Option.some.inj q5; rw [← q6] at k; exact absurd k (fun k => by have q7 := hok.r1 hD_z89 k; have q8 := hok.l1 hD_z89 hq92.symm; omega))])
                (fun y hy hyp => by
                      rw [epp_106, va_up_ne _ _ hyp]
                      by_cases e : y = z3
                      · rw [e, epp_87, va_up_self, if_pos rfl]
                      · rw [epp_87, va_up_ne _ _ e, if_neg (fun k => e (Option.some.inj k).symm)])
                (by rw [if_neg (fun k => by have q5 := (hok.rx k).2.2.2; rw [ho90] at q5; cases q5)])
              exact ⟨_, _, hdel.1, hdel.2⟩
            have hTHj112 := hTH108.sub (fun y hy => (hsubj112 y hy).2)
            have hD9d : tIn (n - 1) (tAx (ps a) ad) (tPd (ps a) ps) z3 := (tPd_in hDa rfl hok.1 hne_pd.symm).mpr hD_z3
            refine lv_aload_n hx hb dJ4_deleteEntry_156 rfl (lv_at hl 1 rfl) ?_
            refine lv_aload_n hx hb dJ4_deleteEntry_157 rfl (lv_at hl 0 rfl) ?_
            refine g_callV (As := [.ref z3]) (rest := []) 1 hx hb hml hown hts hK hG hS hl.1 (mJ4_fixAfterDeletion l X σ108 tg mp (n - 1) (tAx (ps a) ad) (tPd (ps a) ps) K Vv ll108 rr107 pp_106 C rt es ks (sz - 1) (md + 1) hTHj112 lo_j112 hi_j112 hokj112 (fun _ => False) z3 hD9d (fun z hz => hz.elim)) hTHj112.1 rfl q1551 q1553 qs41 q75 q1554 (by decide +kernel) rfl ⟨Nat.le_of_ble_eq_true rfl, Nat.le_of_ble_eq_true rfl⟩ ⟨Nat.le_of_ble_eq_true rfl, Nat.le_of_ble_eq_true rfl⟩ (Nat.le_of_ble_eq_true rfl) dJ4_deleteEntry_158 (kV (fun σr113 H locs hp hG hS => ?_))
            obtain ⟨l_114, r_114, p_114, C_114, rt_114, lo_114, hi_114, hTH114, hok114, kp114, hlf114⟩ := hp
            have hkp114 := hkp108.tr kp114
            refine lv_goto (tgt := 245) hx hb dJ4_deleteEntry_161 (by decide) ?_
            exact g_vret hx hb hr hlocks hQ hG hS (Nat.zero_le _) (Nat.zero_le _) ⟨rfl, (tAx (ps a) ad), (tPd (ps a) ps), K, Vv, l_114, r_114, p_114, C_114, rt_114, lo_114, hi_114, hTH114, hok114, hkp114, fun i hi => ⟨rfl, rfl⟩⟩ dJ4_deleteEntry_245
      · refine lv_aload_n hx hb dJ4_deleteEntry_95 rfl (lv_at hl 1 rfl) ?_
        refine lv_aload_n hx hb dJ4_deleteEntry_96 rfl (lv_at hl 0 rfl) ?_
        refine g_put (C := RJ4) (T := TJ4) (N := 9) (ty0 := tyJ4) (v := .ref z3) hx hb hts hown hK hG hS hTH87.1 rfl in_J4 tyJ4_ok nmJ4 3 (by decide) q146 rfl (by decide) rfl rfl (Nat.le_of_ble_eq_true rfl) dJ4_deleteEntry_97 (fun H locs hG hS => ?_)
        have hTH115 : TH (gup σ87 mp (tg, gO 13 ((tmF rt es ks (sz - 1) (md + 1)).set 3 (.ref z3)))) tg mp (tIn n ad ps) K Vv l_ r_ pp_87 C (some z3) es ks (sz - 1) (md + 1) := hTH87.map rfl
        have hkp115 : gKeep (fun t => t = tg) σ (gup σ87 mp (tg, gO 13 ((tmF rt es ks (sz - 1) (md + 1)).set 3 (.ref z3)))) := hkp87.tr (gKeep.up hTH87.1 rfl)
        generalize (gup σ87 mp (tg, gO 13 ((tmF rt es ks (sz - 1) (md + 1)).set 3 (.ref z3)))) = σ115 at hG hTH115 hkp115
        refine lv_goto (tgt := 133) hx hb dJ4_deleteEntry_100 (by decide) ?_
        refine lv_aload_n hx hb dJ4_deleteEntry_133 rfl (lv_at hl 2 rfl) ?_
        refine lv_aload_n hx hb dJ4_deleteEntry_134 rfl (lv_at hl 2 rfl) ?_
        refine lv_aload_n hx hb dJ4_deleteEntry_135 rfl (lv_at hl 2 rfl) ?_
        refine lv_null hx hb dJ4_deleteEntry_136 ?_
        refine lv_dup_x1 hx hb dJ4_deleteEntry_137 rfl rfl ?_
        refine g_put (C := RJ25) (T := TJ25) (N := 6) (ty0 := tyJ25) (v := .null) hx hb hts hown hK hG hS (hTH115.2.1 _ hDa) rfl in_J25 tyJ25_ok nmJ25 4 (by decide) q1183 rfl (by decide) rfl rfl (Nat.le_of_ble_eq_true rfl) dJ4_deleteEntry_138 (fun H locs hG hS => ?_)
        obtain ⟨pp_116, epp_116⟩ : ∃ z : Nat → Option Nat, z = va_up pp_87 a none := ⟨_, rfl⟩
        have hTH116 : TH (gup σ115 a (tg, gO 18 ((teF K Vv l_ r_ pp_87 C a).set 4 (.null)))) tg mp (tIn n ad ps) K Vv l_ r_ pp_116 C (some z3) es ks (sz - 1) (md + 1) := by rw [epp_116]; exact hTH115.pP hDa none
        have hkp116 : gKeep (fun t => t = tg) σ (gup σ115 a (tg, gO 18 ((teF K Vv l_ r_ pp_87 C a).set 4 (.null)))) := hkp115.tr (gKeep.up (hTH115.2.1 _ hDa) rfl)
        generalize (gup σ115 a (tg, gO 18 ((teF K Vv l_ r_ pp_87 C a).set 4 (.null)))) = σ116 at hG hTH116 hkp116
        refine lv_dup_x1 hx hb dJ4_deleteEntry_141 rfl rfl ?_
        refine g_put (C := RJ25) (T := TJ25) (N := 6) (ty0 := tyJ25) (v := .null) hx hb hts hown hK hG hS (hTH116.2.1 _ hDa) rfl in_J25 tyJ25_ok nmJ25 3 (by decide) q1181 rfl (by decide) rfl rfl (Nat.le_of_ble_eq_true rfl) dJ4_deleteEntry_142 (fun H locs hG hS => ?_)
        obtain ⟨rr117, err117⟩ : ∃ z : Nat → Option Nat, z = va_up r_ a none := ⟨_, rfl⟩
        have hTH117 : TH (gup σ116 a (tg, gO 18 ((teF K Vv l_ r_ pp_116 C a).set 3 (.null)))) tg mp (tIn n ad ps) K Vv l_ rr117 pp_116 C (some z3) es ks (sz - 1) (md + 1) := by rw [err117]; exact hTH116.pR hDa none
        have hkp117 : gKeep (fun t => t = tg) σ (gup σ116 a (tg, gO 18 ((teF K Vv l_ r_ pp_116 C a).set 3 (.null)))) := hkp116.tr (gKeep.up (hTH116.2.1 _ hDa) rfl)
        generalize (gup σ116 a (tg, gO 18 ((teF K Vv l_ r_ pp_116 C a).set 3 (.null)))) = σ117 at hG hTH117 hkp117
        refine g_put (C := RJ25) (T := TJ25) (N := 6) (ty0 := tyJ25) (v := .null) hx hb hts hown hK hG hS (hTH117.2.1 _ hDa) rfl in_J25 tyJ25_ok nmJ25 2 (by decide) q1180 rfl (by decide) rfl rfl (Nat.le_of_ble_eq_true rfl) dJ4_deleteEntry_145 (fun H locs hG hS => ?_)
        obtain ⟨ll118, ell118⟩ : ∃ z : Nat → Option Nat, z = va_up l_ a none := ⟨_, rfl⟩
        have hTH118 : TH (gup σ117 a (tg, gO 18 ((teF K Vv l_ rr117 pp_116 C a).set 2 (.null)))) tg mp (tIn n ad ps) K Vv ll118 rr117 pp_116 C (some z3) es ks (sz - 1) (md + 1) := by rw [ell118]; exact hTH117.pL hDa none
        have hkp118 : gKeep (fun t => t = tg) σ (gup σ117 a (tg, gO 18 ((teF K Vv l_ rr117 pp_116 C a).set 2 (.null)))) := hkp117.tr (gKeep.up (hTH117.2.1 _ hDa) rfl)
        generalize (gup σ117 a (tg, gO 18 ((teF K Vv l_ rr117 pp_116 C a).set 2 (.null)))) = σ118 at hG hTH118 hkp118
        refine lv_aload_n hx hb dJ4_deleteEntry_148 rfl (lv_at hl 2 rfl) ?_
        refine g_get (C := RJ25) (T := TJ25) (N := 6) (v := .int (iI (C a))) hx hb hts hown hK hG (hTH118.2.1 _ hDa) rfl in_J25 5 (by decide) q1185 rfl rfl dJ4_deleteEntry_149 ?_
        have hc119 := hTH118.2.2 _ hDa
        refine g_iconst hx hb dJ4_deleteEntry_152 ?_
        refine g_icmp_ne (tgt := 245) hx hb dJ4_deleteEntry_153 (by decide) (by omega) (by omega) (fun cq120 => ?_) (fun cq120 => ?_)
        · obtain ⟨lo_j121, hi_j121, hokj121, hsubj121⟩ : ∃ lo3 hi3, tOk (n - 1) (tAx (ps a) ad) (tPd (ps a) ps) ll118 rr117 pp_116 lo3 hi3 (some z3) ∧ ∀ z, tIn (n - 1) (tAx (ps a) ad) (tPd (ps a) ps) z → z ≠ a ∧ tIn n ad ps z := by
            have hdel := hok.del (e9 := (some z3)) (l' := ll118) (r' := rr117) (p' := pp_116) (rt' := (some z3)) hDa rfl (Or.inr ⟨ho84, ho4.symm⟩)
              (fun y hy hyp => by
                    rw [ell118, va_up_ne _ _ hyp, if_neg (fun k => by have q5 := (hok.l1 hy k).2.2.2; rw [ho90] at q5; cases q5)])
              (fun y hy hyp => by
                    rw [err117, va_up_ne _ _ hyp, if_neg (fun k => by have q5 := (hok.r1 hy k).2.2.2; rw [ho90] at q5; cases q5)])
              (fun y hy hyp => by
                    rw [epp_116, va_up_ne _ _ hyp]
                    by_cases e : y = z3
                    · rw [e, epp_87, va_up_self, if_pos rfl]
                    · rw [epp_87, va_up_ne _ _ e, if_neg (fun k => e (Option.some.inj k).symm)])
              (by rw [if_pos (hok.p0 hDa ho90)])
            exact ⟨_, _, hdel.1, hdel.2⟩
          have hTHj121 := hTH118.sub (fun y hy => (hsubj121 y hy).2)
          have hD9d : tIn (n - 1) (tAx (ps a) ad) (tPd (ps a) ps) z3 := (tPd_in hDa rfl hok.1 hne_pd.symm).mpr hD_z3
          exact g_vret hx hb hr hlocks hQ hG hS (Nat.zero_le _) (Nat.zero_le _) ⟨rfl, (tAx (ps a) ad), (tPd (ps a) ps), K, Vv, ll118, rr117, pp_116, C, (some z3), lo_j121, hi_j121, hTHj121, hokj121, hkp118, fun i hi => ⟨rfl, rfl⟩⟩ dJ4_deleteEntry_245
        · obtain ⟨lo_j122, hi_j122, hokj122, hsubj122⟩ : ∃ lo3 hi3, tOk (n - 1) (tAx (ps a) ad) (tPd (ps a) ps) ll118 rr117 pp_116 lo3 hi3 (some z3) ∧ ∀ z, tIn (n - 1) (tAx (ps a) ad) (tPd (ps a) ps) z → z ≠ a ∧ tIn n ad ps z := by
            have hdel := hok.del (e9 := (some z3)) (l' := ll118) (r' := rr117) (p' := pp_116) (rt' := (some z3)) hDa rfl (Or.inr ⟨ho84, ho4.symm⟩)
              (fun y hy hyp => by
                    rw [ell118, va_up_ne _ _ hyp, if_neg (fun k => by have q5 := (hok.l1 hy k).2.2.2; rw [ho90] at q5; cases q5)])
              (fun y hy hyp => by
                    rw [err117, va_up_ne _ _ hyp, if_neg (fun k => by have q5 := (hok.r1 hy k).2.2.2; rw [ho90] at q5; cases q5)])
              (fun y hy hyp => by
                    rw [epp_116, va_up_ne _ _ hyp]
                    by_cases e : y = z3
                    · rw [e, epp_87, va_up_self, if_pos rfl]
                    · rw [epp_87, va_up_ne _ _ e, if_neg (fun k => e (Option.some.inj k).symm)])
              (by rw [if_pos (hok.p0 hDa ho90)])
            exact ⟨_, _, hdel.1, hdel.2⟩
          have hTHj122 := hTH118.sub (fun y hy => (hsubj122 y hy).2)
          have hD9d : tIn (n - 1) (tAx (ps a) ad) (tPd (ps a) ps) z3 := (tPd_in hDa rfl hok.1 hne_pd.symm).mpr hD_z3
          refine lv_aload_n hx hb dJ4_deleteEntry_156 rfl (lv_at hl 1 rfl) ?_
          refine lv_aload_n hx hb dJ4_deleteEntry_157 rfl (lv_at hl 0 rfl) ?_
          refine g_callV (As := [.ref z3]) (rest := []) 1 hx hb hml hown hts hK hG hS hl.1 (mJ4_fixAfterDeletion l X σ118 tg mp (n - 1) (tAx (ps a) ad) (tPd (ps a) ps) K Vv ll118 rr117 pp_116 C (some z3) es ks (sz - 1) (md + 1) hTHj122 lo_j122 hi_j122 hokj122 (fun _ => False) z3 hD9d (fun z hz => hz.elim)) hTHj122.1 rfl q1551 q1553 qs41 q75 q1554 (by decide +kernel) rfl ⟨Nat.le_of_ble_eq_true rfl, Nat.le_of_ble_eq_true rfl⟩ ⟨Nat.le_of_ble_eq_true rfl, Nat.le_of_ble_eq_true rfl⟩ (Nat.le_of_ble_eq_true rfl) dJ4_deleteEntry_158 (kV (fun σr123 H locs hp hG hS => ?_))
          obtain ⟨l_124, r_124, p_124, C_124, rt_124, lo_124, hi_124, hTH124, hok124, kp124, hlf124⟩ := hp
          have hkp124 := hkp118.tr kp124
          refine lv_goto (tgt := 245) hx hb dJ4_deleteEntry_161 (by decide) ?_
          exact g_vret hx hb hr hlocks hQ hG hS (Nat.zero_le _) (Nat.zero_le _) ⟨rfl, (tAx (ps a) ad), (tPd (ps a) ps), K, Vv, l_124, r_124, p_124, C_124, rt_124, lo_124, hi_124, hTH124, hok124, hkp124, fun i hi => ⟨rfl, rfl⟩⟩ dJ4_deleteEntry_245
    · have hD_z83 := (hok.r1 hDa ho84).1
      refine lv_aload_n hx hb dJ4_deleteEntry_34 rfl (lv_at hl 1 rfl) ?_
      refine g_callS (As := [.ref a]) (rest := []) 1 hx hb hml hown hts hK hG hS hl.1 (mJ4_successor l X σ2 tg mp n ad ps K Vv l_ r_ p_ C rt es ks (sz - 1) (md + 1) hTH2 lo hi hok a hDa) q1550 q1381 q75 q1382 (by decide +kernel) rfl ⟨Nat.le_of_ble_eq_true rfl, Nat.le_of_ble_eq_true rfl⟩ ⟨Nat.le_of_ble_eq_true rfl, Nat.le_of_ble_eq_true rfl⟩ (Nat.le_of_ble_eq_true rfl) dJ4_deleteEntry_35 (kA (fun r125 σr125 H locs hp hG hS => ?_))
      obtain ⟨rfl, hsuc, rfl⟩ := hp
      have hrb := hok.r1 hDa ho84
      have hnb := hok.num hrb.1
      have hs1 : ps a + 1 < n := by omega
      obtain ⟨s9, hs9⟩ : ∃ z, z = ad (ps a + 1) := ⟨_, rfl⟩
      have hDs : tIn n ad ps s9 := by rw [hs9]; exact (hok.at hs1).1
      have hps : ps s9 = ps a + 1 := by rw [hs9]; exact (hok.at hs1).2
      have hls : l_ s9 = none := by rw [hs9]; exact hsuc ⟨_, ho84⟩
      have hne_as : a ≠ s9 := tIn.ne (ps := ps) (by omega)
      refine g_rwv (v := .ref s9) (by rw [if_pos hs1, hs9]; rfl) ?_
      refine lv_astore_n (lv' := [(2, .ref s9), (0, .ref mp), (1, .ref a)]) hx hb dJ4_deleteEntry_38 rfl hl (by decide) rfl (fun ls hl => ?_)
      refine lv_aload_n hx hb dJ4_deleteEntry_39 rfl (lv_at hl 2 rfl) ?_
      refine lv_aload_n hx hb dJ4_deleteEntry_40 rfl (lv_at hl 0 rfl) ?_
      refine g_get (C := RJ25) (T := TJ25) (N := 6) (v := .ref (K s9)) hx hb hts hown hK hG (hTH2.2.1 _ hDs) rfl in_J25 0 (by decide) q1177 rfl rfl dJ4_deleteEntry_41 ?_
      refine g_put (C := RJ25) (T := TJ25) (N := 6) (ty0 := tyJ25) (v := .ref (K s9)) hx hb hts hown hK hG hS (hTH2.2.1 _ hDa) rfl in_J25 tyJ25_ok nmJ25 0 (by decide) q1177 rfl (by decide) rfl rfl (Nat.le_of_ble_eq_true rfl) dJ4_deleteEntry_44 (fun H locs hG hS => ?_)
      obtain ⟨kk126, ekk126⟩ : ∃ z : Nat → Nat, z = va_up K a (K s9) := ⟨_, rfl⟩
      have hTH126 : TH (gup σ2 a (tg, gO 18 ((teF K Vv l_ r_ p_ C a).set 0 (.ref (K s9))))) tg mp (tIn n ad ps) kk126 Vv l_ r_ p_ C rt es ks (sz - 1) (md + 1) := by rw [ekk126]; exact hTH2.pK hDa (K s9)
      have hkp126 : gKeep (fun t => t = tg) σ (gup σ2 a (tg, gO 18 ((teF K Vv l_ r_ p_ C a).set 0 (.ref (K s9))))) := hkp2.tr (gKeep.up (hTH2.2.1 _ hDa) rfl)
      generalize (gup σ2 a (tg, gO 18 ((teF K Vv l_ r_ p_ C a).set 0 (.ref (K s9))))) = σ126 at hG hTH126 hkp126
      refine lv_aload_n hx hb dJ4_deleteEntry_47 rfl (lv_at hl 2 rfl) ?_
      refine lv_aload_n hx hb dJ4_deleteEntry_48 rfl (lv_at hl 0 rfl) ?_
      refine g_get (C := RJ25) (T := TJ25) (N := 6) (v := va_rf (Vv s9)) hx hb hts hown hK hG (hTH126.2.1 _ hDs) rfl in_J25 1 (by decide) q1179 rfl rfl dJ4_deleteEntry_49 ?_
      refine g_put (C := RJ25) (T := TJ25) (N := 6) (ty0 := tyJ25) (v := va_rf (Vv s9)) hx hb hts hown hK hG hS (hTH126.2.1 _ hDa) rfl in_J25 tyJ25_ok nmJ25 1 (by decide) q1179 rfl (by decide) (nrf _) (frf _) (Nat.le_of_ble_eq_true rfl) dJ4_deleteEntry_52 (fun H locs hG hS => ?_)
      obtain ⟨vv127, evv127⟩ : ∃ z : Nat → Option Nat, z = va_up Vv a (Vv s9) := ⟨_, rfl⟩
      have hTH127 : TH (gup σ126 a (tg, gO 18 ((teF kk126 Vv l_ r_ p_ C a).set 1 (va_rf (Vv s9))))) tg mp (tIn n ad ps) kk126 vv127 l_ r_ p_ C rt es ks (sz - 1) (md + 1) := by rw [evv127]; exact hTH126.pV hDa (Vv s9)
      have hkp127 : gKeep (fun t => t = tg) σ (gup σ126 a (tg, gO 18 ((teF kk126 Vv l_ r_ p_ C a).set 1 (va_rf (Vv s9))))) := hkp126.tr (gKeep.up (hTH126.2.1 _ hDa) rfl)
      generalize (gup σ126 a (tg, gO 18 ((teF kk126 Vv l_ r_ p_ C a).set 1 (va_rf (Vv s9))))) = σ127 at hG hTH127 hkp127
      refine lv_aload_n hx hb dJ4_deleteEntry_55 rfl (lv_at hl 0 rfl) ?_
      refine lv_astore_n (lv' := [(1, .ref s9), (2, .ref s9), (0, .ref mp)]) hx hb dJ4_deleteEntry_56 rfl hl (by decide) rfl (fun ls hl => ?_)
      have hnp := hok.num hDs
      refine lv_aload_n hx hb dJ4_deleteEntry_57 rfl (lv_at hl 0 rfl) ?_
      have hf128 : l_ s9 = none := by rw [hls]
      refine g_get (C := RJ25) (T := TJ25) (N := 6) (v := .null) hx hb hts hown hK hG (hTH127.2.1 _ hDs) rfl in_J25 2 (by decide) q1180 rfl (congrArg (fun q9 => some (va_rf q9)) hf128) dJ4_deleteEntry_58 ?_
      refine lv_ifnullN (tgt := 71) hx hb dJ4_deleteEntry_61 (by decide) ?_
      refine lv_aload_n hx hb dJ4_deleteEntry_71 rfl (lv_at hl 0 rfl) ?_
      refine g_get (C := RJ25) (T := TJ25) (N := 6) (v := va_rf (r_ s9)) hx hb hts hown hK hG (hTH127.2.1 _ hDs) rfl in_J25 3 (by decide) q1181 rfl rfl dJ4_deleteEntry_72 ?_
      refine g_astore_nR (lv' := [(2, va_rf (r_ s9)), (1, .ref s9), (0, .ref mp)]) hx hb dJ4_deleteEntry_75 rfl hl (by decide) rfl (fun ls hl => ?_)
      refine g_aload_nR hx hb dJ4_deleteEntry_76 rfl (lv_at hl 0 rfl) ?_
      refine g_ifnullR (tgt := 164) hx hb dJ4_deleteEntry_77 (by decide) (fun ho130 => ?_) (fun z129 ho130 => ?_)
      · have hl : lv_has ls 3 [(2, .null), (1, .ref s9), (0, .ref mp)] := by first | exact hl | (rw [ho130] at hl; exact hl)
        refine lv_aload_n hx hb dJ4_deleteEntry_164 rfl (lv_at hl 1 rfl) ?_
        refine g_get (C := RJ25) (T := TJ25) (N := 6) (v := va_rf (p_ s9)) hx hb hts hown hK hG (hTH127.2.1 _ hDs) rfl in_J25 4 (by decide) q1183 rfl rfl dJ4_deleteEntry_165 ?_
        refine g_ifnonnullR (tgt := 179) hx hb dJ4_deleteEntry_168 (by decide) (fun z131 ho132 => ?_) (fun ho132 => ?_)
        · have hD_z131 := (hok.p1 hDs ho132).1
          have hup9 := hok.up hDs ho132
          have hnq9 := hok.num hD_z131
          have hne_pq : s9 ≠ z131 := fun e => by rw [← e] at hup9; omega
          refine lv_aload_n hx hb dJ4_deleteEntry_179 rfl (lv_at hl 1 rfl) ?_
          refine g_get (C := RJ25) (T := TJ25) (N := 6) (v := .int (iI (C s9))) hx hb hts hown hK hG (hTH127.2.1 _ hDs) rfl in_J25 5 (by decide) q1185 rfl rfl dJ4_deleteEntry_180 ?_
          have hc133 := hTH127.2.2 _ hDs
          refine g_iconst hx hb dJ4_deleteEntry_183 ?_
          refine g_icmp_ne (tgt := 192) hx hb dJ4_deleteEntry_184 (by decide) (by omega) (by omega) (fun cq134 => ?_) (fun cq134 => ?_)
          · have hn2 : 2 ≤ n := by have q2 := hDs.1; have q3 := hD_z131.1; have q4 : ps s9 ≠ ps z131 := fun e => hne_pq (hDs.eq hD_z131 e); omega
            have hnp2 := hok.num hDs
            have hl02 := hok.l0 hDs hls
            have hr02 := hok.r0 hDs ho130
            refine lv_aload_n hx hb dJ4_deleteEntry_192 rfl (lv_at hl 1 rfl) ?_
            have hf135 : p_ s9 = (some z131) := by rw [ho132]
            refine g_get (C := RJ25) (T := TJ25) (N := 6) (v := .ref z131) hx hb hts hown hK hG (hTH127.2.1 _ hDs) rfl in_J25 4 (by decide) q1183 rfl (congrArg (fun q9 => some (va_rf q9)) hf135) dJ4_deleteEntry_193 ?_
            refine lv_ifnull hx hb dJ4_deleteEntry_196 ?_
            refine lv_aload_n hx hb dJ4_deleteEntry_199 rfl (lv_at hl 1 rfl) ?_
            refine lv_aload_n hx hb dJ4_deleteEntry_200 rfl (lv_at hl 1 rfl) ?_
            have hf136 : p_ s9 = (some z131) := by rw [ho132]
            refine g_get (C := RJ25) (T := TJ25) (N := 6) (v := .ref z131) hx hb hts hown hK hG (hTH127.2.1 _ hDs) rfl in_J25 4 (by decide) q1183 rfl (congrArg (fun q9 => some (va_rf q9)) hf136) dJ4_deleteEntry_201 ?_
            refine g_get (C := RJ25) (T := TJ25) (N := 6) (v := va_rf (l_ z131)) hx hb hts hown hK hG (hTH127.2.1 _ hD_z131) rfl in_J25 2 (by decide) q1180 rfl rfl dJ4_deleteEntry_204 ?_
            refine lv_acmp_ne (tgt := 221) (rx := (some s9)) (ry := (l_ z131)) hx hb dJ4_deleteEntry_207 (by decide) (fun hq137 => ?_) (fun hq137 => ?_)
            · have hrq : r_ z131 = some s9 := (hok.p1 hDs ho132).2.resolve_left (fun k => hq137 k.symm)
              refine lv_aload_n hx hb dJ4_deleteEntry_221 rfl (lv_at hl 1 rfl) ?_
              refine lv_aload_n hx hb dJ4_deleteEntry_222 rfl (lv_at hl 1 rfl) ?_
              have hf138 : p_ s9 = (some z131) := by rw [ho132]
              refine g_get (C := RJ25) (T := TJ25) (N := 6) (v := .ref z131) hx hb hts hown hK hG (hTH127.2.1 _ hDs) rfl in_J25 4 (by decide) q1183 rfl (congrArg (fun q9 => some (va_rf q9)) hf138) dJ4_deleteEntry_223 ?_
              have hf139 : r_ z131 = (some s9) := by rw [hrq]
              refine g_get (C := RJ25) (T := TJ25) (N := 6) (v := .ref s9) hx hb hts hown hK hG (hTH127.2.1 _ hD_z131) rfl in_J25 3 (by decide) q1181 rfl (congrArg (fun q9 => some (va_rf q9)) hf139) dJ4_deleteEntry_226 ?_
              refine lv_acmp_ne (tgt := 240) (rx := (some s9)) (ry := (some s9)) hx hb dJ4_deleteEntry_229 (by decide) (fun hq140 => absurd rfl hq140) (fun hq140 => ?_)
              refine lv_aload_n hx hb dJ4_deleteEntry_232 rfl (lv_at hl 1 rfl) ?_
              have hf141 : p_ s9 = (some z131) := by rw [ho132]
              refine g_get (C := RJ25) (T := TJ25) (N := 6) (v := .ref z131) hx hb hts hown hK hG (hTH127.2.1 _ hDs) rfl in_J25 4 (by decide) q1183 rfl (congrArg (fun q9 => some (va_rf q9)) hf141) dJ4_deleteEntry_233 ?_
              refine lv_null hx hb dJ4_deleteEntry_236 ?_
              refine g_put (C := RJ25) (T := TJ25) (N := 6) (ty0 := tyJ25) (v := .null) hx hb hts hown hK hG hS (hTH127.2.1 _ hD_z131) rfl in_J25 tyJ25_ok nmJ25 3 (by decide) q1181 rfl (by decide) rfl rfl (Nat.le_of_ble_eq_true rfl) dJ4_deleteEntry_237 (fun H locs hG hS => ?_)
              obtain ⟨rr142, err142⟩ : ∃ z : Nat → Option Nat, z = va_up r_ z131 none := ⟨_, rfl⟩
              have hTH142 : TH (gup σ127 z131 (tg, gO 18 ((teF kk126 vv127 l_ r_ p_ C z131).set 3 (.null)))) tg mp (tIn n ad ps) kk126 vv127 l_ rr142 p_ C rt es ks (sz - 1) (md + 1) := by rw [err142]; exact hTH127.pR hD_z131 none
              have hkp142 : gKeep (fun t => t = tg) σ (gup σ127 z131 (tg, gO 18 ((teF kk126 vv127 l_ r_ p_ C z131).set 3 (.null)))) := hkp127.tr (gKeep.up (hTH127.2.1 _ hD_z131) rfl)
              generalize (gup σ127 z131 (tg, gO 18 ((teF kk126 vv127 l_ r_ p_ C z131).set 3 (.null)))) = σ142 at hG hTH142 hkp142
              refine lv_aload_n hx hb dJ4_deleteEntry_240 rfl (lv_at hl 1 rfl) ?_
              refine lv_null hx hb dJ4_deleteEntry_241 ?_
              refine g_put (C := RJ25) (T := TJ25) (N := 6) (ty0 := tyJ25) (v := .null) hx hb hts hown hK hG hS (hTH142.2.1 _ hDs) rfl in_J25 tyJ25_ok nmJ25 4 (by decide) q1183 rfl (by decide) rfl rfl (Nat.le_of_ble_eq_true rfl) dJ4_deleteEntry_242 (fun H locs hG hS => ?_)
              obtain ⟨pp_143, epp_143⟩ : ∃ z : Nat → Option Nat, z = va_up p_ s9 none := ⟨_, rfl⟩
              have hTH143 : TH (gup σ142 s9 (tg, gO 18 ((teF kk126 vv127 l_ rr142 p_ C s9).set 4 (.null)))) tg mp (tIn n ad ps) kk126 vv127 l_ rr142 pp_143 C rt es ks (sz - 1) (md + 1) := by rw [epp_143]; exact hTH142.pP hDs none
              have hkp143 : gKeep (fun t => t = tg) σ (gup σ142 s9 (tg, gO 18 ((teF kk126 vv127 l_ rr142 p_ C s9).set 4 (.null)))) := hkp142.tr (gKeep.up (hTH142.2.1 _ hDs) rfl)
              generalize (gup σ142 s9 (tg, gO 18 ((teF kk126 vv127 l_ rr142 p_ C s9).set 4 (.null)))) = σ143 at hG hTH143 hkp143
              obtain ⟨lo_j144, hi_j144, hokj144, hsubj144⟩ : ∃ lo3 hi3, tOk (n - 1) (tAx (ps s9) ad) (tPd (ps s9) ps) l_ rr142 pp_143 lo3 hi3 rt ∧ ∀ z, tIn (n - 1) (tAx (ps s9) ad) (tPd (ps s9) ps) z → z ≠ s9 ∧ tIn n ad ps z := by
                have hdel := hok.del (e9 := none) (l' := l_) (r' := rr142) (p' := pp_143) (rt' := rt) hDs rfl (Or.inl ⟨hls, ho130.symm⟩)
                  (fun y hy hyp => by
                        rw [if_neg (fun k => by have q5 := (hok.l1 hy k).2.2.2; rw [ho132] at q5; have q6 := Option.some.inj q5; rw [← q6] at k; exact absurd k (fun k => hq137 k.symm))])
                  (fun y hy hyp => by
                        rw [err142]
                        by_cases e : y = z131
                        · rw [e, va_up_self, if_pos ((hok.p1 hDs ho132).2.resolve_left (fun k => hq137 k.symm))]
                        · rw [va_up_ne _ _ e, if_neg (fun k => e (by have q5 := (hok.r1 hy k).2.2.2; rw [ho132] at q5; exact (Option.some.inj q5).symm))])
                  (fun y hy hyp => by rw [epp_143, va_up_ne _ _ hyp, if_neg (fun k => by cases k)])
                  (by rw [if_neg (fun k => by have q5 := (hok.rx k).2.2.2; rw [ho132] at q5; cases q5)])
                exact ⟨_, _, hdel.1, hdel.2⟩
              have hTHj144 := hTH143.sub (fun y hy => (hsubj144 y hy).2)
              exact g_vret hx hb hr hlocks hQ hG hS (Nat.zero_le _) (Nat.zero_le _) ⟨rfl, (tAx (ps s9) ad), (tPd (ps s9) ps), kk126, vv127, l_, rr142, pp_143, C, rt, lo_j144, hi_j144, hTHj144, hokj144, hkp143, fun i hi => by
                        rw [ekk126, evv127, hps]
                        by_cases e : i = ps a
                        · have e1 : tAx (ps a + 1) ad i = a := by unfold tAx; rw [if_pos (by omega), e, hDa.2]
                          have e2 : tAx (ps a) ad i = s9 := by unfold tAx; rw [if_neg (by omega), e, hs9]
                          rw [e1, e2, va_up_self, va_up_self]
                          exact ⟨rfl, rfl⟩
                        · have e1 : tAx (ps a + 1) ad i = tAx (ps a) ad i := by
                            unfold tAx
                            by_cases e3 : i < ps a
                            · rw [if_pos (by omega), if_pos e3]
                            · rw [if_neg (by omega), if_neg e3]
                          have e2 : tAx (ps a) ad i ≠ a := fun k => by
                            unfold tAx at k
                            by_cases e3 : i < ps a
                            · rw [if_pos e3] at k; have q := hok.1 i (by omega); rw [k] at q; omega
                            · rw [if_neg e3] at k; have q := hok.1 (i + 1) (by omega); rw [k] at q; omega
                          rw [e1, va_up_ne _ _ e2, va_up_ne _ _ e2]
                          exact ⟨rfl, rfl⟩⟩ dJ4_deleteEntry_245
            · refine lv_aload_n hx hb dJ4_deleteEntry_210 rfl (lv_at hl 1 rfl) ?_
              have hf145 : p_ s9 = (some z131) := by rw [ho132]
              refine g_get (C := RJ25) (T := TJ25) (N := 6) (v := .ref z131) hx hb hts hown hK hG (hTH127.2.1 _ hDs) rfl in_J25 4 (by decide) q1183 rfl (congrArg (fun q9 => some (va_rf q9)) hf145) dJ4_deleteEntry_211 ?_
              refine lv_null hx hb dJ4_deleteEntry_214 ?_
              refine g_put (C := RJ25) (T := TJ25) (N := 6) (ty0 := tyJ25) (v := .null) hx hb hts hown hK hG hS (hTH127.2.1 _ hD_z131) rfl in_J25 tyJ25_ok nmJ25 2 (by decide) q1180 rfl (by decide) rfl rfl (Nat.le_of_ble_eq_true rfl) dJ4_deleteEntry_215 (fun H locs hG hS => ?_)
              obtain ⟨ll146, ell146⟩ : ∃ z : Nat → Option Nat, z = va_up l_ z131 none := ⟨_, rfl⟩
              have hTH146 : TH (gup σ127 z131 (tg, gO 18 ((teF kk126 vv127 l_ r_ p_ C z131).set 2 (.null)))) tg mp (tIn n ad ps) kk126 vv127 ll146 r_ p_ C rt es ks (sz - 1) (md + 1) := by rw [ell146]; exact hTH127.pL hD_z131 none
              have hkp146 : gKeep (fun t => t = tg) σ (gup σ127 z131 (tg, gO 18 ((teF kk126 vv127 l_ r_ p_ C z131).set 2 (.null)))) := hkp127.tr (gKeep.up (hTH127.2.1 _ hD_z131) rfl)
              generalize (gup σ127 z131 (tg, gO 18 ((teF kk126 vv127 l_ r_ p_ C z131).set 2 (.null)))) = σ146 at hG hTH146 hkp146
              refine lv_goto (tgt := 240) hx hb dJ4_deleteEntry_218 (by decide) ?_
              refine lv_aload_n hx hb dJ4_deleteEntry_240 rfl (lv_at hl 1 rfl) ?_
              refine lv_null hx hb dJ4_deleteEntry_241 ?_
              refine g_put (C := RJ25) (T := TJ25) (N := 6) (ty0 := tyJ25) (v := .null) hx hb hts hown hK hG hS (hTH146.2.1 _ hDs) rfl in_J25 tyJ25_ok nmJ25 4 (by decide) q1183 rfl (by decide) rfl rfl (Nat.le_of_ble_eq_true rfl) dJ4_deleteEntry_242 (fun H locs hG hS => ?_)
              obtain ⟨pp_147, epp_147⟩ : ∃ z : Nat → Option Nat, z = va_up p_ s9 none := ⟨_, rfl⟩
              have hTH147 : TH (gup σ146 s9 (tg, gO 18 ((teF kk126 vv127 ll146 r_ p_ C s9).set 4 (.null)))) tg mp (tIn n ad ps) kk126 vv127 ll146 r_ pp_147 C rt es ks (sz - 1) (md + 1) := by rw [epp_147]; exact hTH146.pP hDs none
              have hkp147 : gKeep (fun t => t = tg) σ (gup σ146 s9 (tg, gO 18 ((teF kk126 vv127 ll146 r_ p_ C s9).set 4 (.null)))) := hkp146.tr (gKeep.up (hTH146.2.1 _ hDs) rfl)
              generalize (gup σ146 s9 (tg, gO 18 ((teF kk126 vv127 ll146 r_ p_ C s9).set 4 (.null)))) = σ147 at hG hTH147 hkp147
              obtain ⟨lo_j148, hi_j148, hokj148, hsubj148⟩ : ∃ lo3 hi3, tOk (n - 1) (tAx (ps s9) ad) (tPd (ps s9) ps) ll146 r_ pp_147 lo3 hi3 rt ∧ ∀ z, tIn (n - 1) (tAx (ps s9) ad) (tPd (ps s9) ps) z → z ≠ s9 ∧ tIn n ad ps z := by
                have hdel := hok.del (e9 := none) (l' := ll146) (r' := r_) (p' := pp_147) (rt' := rt) hDs rfl (Or.inl ⟨hls, ho130.symm⟩)
                  (fun y hy hyp => by
                        rw [ell146]
                        by_cases e : y = z131
                        · rw [e, va_up_self, if_pos hq137.symm]
                        · rw [va_up_ne _ _ e, if_neg (fun k => e (by have q5 := (hok.l1 hy k).2.2.2; rw [ho132] at q5; exact (Option.some.inj q5).symm))])
                  (fun y hy hyp => by
                        rw [if_neg (fun k => by have q5 := (hok.r1 hy k).2.2.2; rw [ho132] at q5; have q6 := Option.some.inj q5; rw [← q6] at k; exact absurd k (fun k => by have q7 := hok.r1 hD_z131 k; have q8 := hok.l1 hD_z131 hq137.symm; omega))])
                  (fun y hy hyp => by rw [epp_147, va_up_ne _ _ hyp, if_neg (fun k => by cases k)])
                  (by rw [if_neg (fun k => by have q5 := (hok.rx k).2.2.2; rw [ho132] at q5; cases q5)])
                exact ⟨_, _, hdel.1, hdel.2⟩
              have hTHj148 := hTH147.sub (fun y hy => (hsubj148 y hy).2)
              exact g_vret hx hb hr hlocks hQ hG hS (Nat.zero_le _) (Nat.zero_le _) ⟨rfl, (tAx (ps s9) ad), (tPd (ps s9) ps), kk126, vv127, ll146, r_, pp_147, C, rt, lo_j148, hi_j148, hTHj148, hokj148, hkp147, fun i hi => by
                        rw [ekk126, evv127, hps]
                        by_cases e : i = ps a
                        · have e1 : tAx (ps a + 1) ad i = a := by unfold tAx; rw [if_pos (by omega), e, hDa.2]
                          have e2 : tAx (ps a) ad i = s9 := by unfold tAx; rw [if_neg (by omega), e, hs9]
                          rw [e1, e2, va_up_self, va_up_self]
                          exact ⟨rfl, rfl⟩
                        · have e1 : tAx (ps a + 1) ad i = tAx (ps a) ad i := by
                            unfold tAx
                            by_cases e3 : i < ps a
                            · rw [if_pos (by omega), if_pos e3]
                            · rw [if_neg (by omega), if_neg e3]
                          have e2 : tAx (ps a) ad i ≠ a := fun k => by
                            unfold tAx at k
                            by_cases e3 : i < ps a
                            · rw [if_pos e3] at k; have q := hok.1 i (by omega); rw [k] at q; omega
                            · rw [if_neg e3] at k; have q := hok.1 (i + 1) (by omega); rw [k] at q; omega
                          rw [e1, va_up_ne _ _ e2, va_up_ne _ _ e2]
                          exact ⟨rfl, rfl⟩⟩ dJ4_deleteEntry_245
          · have hn2 : 2 ≤ n := by have q1 := hne_pq; have q2 := hDs.1; have q3 := hD_z131.1; have q4 : ps s9 ≠ ps z131 := fun e => hne_pq (hDs.eq hD_z131 e); omega
            refine lv_aload_n hx hb dJ4_deleteEntry_187 rfl (lv_at hl 2 rfl) ?_
            refine lv_aload_n hx hb dJ4_deleteEntry_188 rfl (lv_at hl 1 rfl) ?_
            refine g_callV (As := [.ref s9]) (rest := []) 1 hx hb hml hown hts hK hG hS hl.1 (mJ4_fixAfterDeletion l X σ127 tg mp n ad ps kk126 vv127 l_ r_ p_ C rt es ks (sz - 1) (md + 1) hTH127 lo hi hok (fun z => z = s9) s9 hDs (fun z hz => by rw [hz]; exact ⟨hls, ho130, hDs, by omega, by omega⟩)) hTH127.1 rfl q1551 q1553 qs41 q75 q1554 (by decide +kernel) rfl ⟨Nat.le_of_ble_eq_true rfl, Nat.le_of_ble_eq_true rfl⟩ ⟨Nat.le_of_ble_eq_true rfl, Nat.le_of_ble_eq_true rfl⟩ (Nat.le_of_ble_eq_true rfl) dJ4_deleteEntry_189 (kV (fun σr149 H locs hp hG hS => ?_))
            obtain ⟨l_150, r_150, p_150, C_150, rt_150, lo_150, hi_150, hTH150, hok150, kp150, hlf150⟩ := hp
            have hkp150 := hkp127.tr kp150
            obtain ⟨hlp9, hrp9⟩ := hlf150 s9 rfl
            have hn2 : 2 ≤ n := by have q2 := hDs.1; have q3 := hD_z131.1; have q4 : ps s9 ≠ ps z131 := fun e => hne_pq (hDs.eq hD_z131 e); omega
            have hnp2 := hok150.num hDs
            have hl02 := hok150.l0 hDs hlp9
            have hr02 := hok150.r0 hDs hrp9
            refine lv_aload_n hx hb dJ4_deleteEntry_192 rfl (lv_at hl 1 rfl) ?_
            refine g_get (C := RJ25) (T := TJ25) (N := 6) (v := va_rf (p_150 s9)) hx hb hts hown hK hG (hTH150.2.1 _ hDs) rfl in_J25 4 (by decide) q1183 rfl rfl dJ4_deleteEntry_193 ?_
            refine g_ifnullR (tgt := 245) hx hb dJ4_deleteEntry_196 (by decide) (fun ho152 => ?_) (fun z151 ho152 => ?_)
            · exfalso; have q5 := hok150.rx (hok150.p0 hDs ho152); omega
            · have hD_z151 := (hok150.p1 hDs ho152).1
              have hup8 := hok150.up hDs ho152
              have hnq8 := hok150.num hD_z151
              have hne_pq8 : s9 ≠ z151 := fun e => by rw [← e] at hup8; omega
              refine lv_aload_n hx hb dJ4_deleteEntry_199 rfl (lv_at hl 1 rfl) ?_
              refine lv_aload_n hx hb dJ4_deleteEntry_200 rfl (lv_at hl 1 rfl) ?_
              have hf153 : p_150 s9 = (some z151) := by rw [ho152]
              refine g_get (C := RJ25) (T := TJ25) (N := 6) (v := .ref z151) hx hb hts hown hK hG (hTH150.2.1 _ hDs) rfl in_J25 4 (by decide) q1183 rfl (congrArg (fun q9 => some (va_rf q9)) hf153) dJ4_deleteEntry_201 ?_
              refine g_get (C := RJ25) (T := TJ25) (N := 6) (v := va_rf (l_150 z151)) hx hb hts hown hK hG (hTH150.2.1 _ hD_z151) rfl in_J25 2 (by decide) q1180 rfl rfl dJ4_deleteEntry_204 ?_
              refine lv_acmp_ne (tgt := 221) (rx := (some s9)) (ry := (l_150 z151)) hx hb dJ4_deleteEntry_207 (by decide) (fun hq154 => ?_) (fun hq154 => ?_)
              · have hrq : r_150 z151 = some s9 := (hok150.p1 hDs ho152).2.resolve_left (fun k => hq154 k.symm)
                refine lv_aload_n hx hb dJ4_deleteEntry_221 rfl (lv_at hl 1 rfl) ?_
                refine lv_aload_n hx hb dJ4_deleteEntry_222 rfl (lv_at hl 1 rfl) ?_
                have hf155 : p_150 s9 = (some z151) := by rw [ho152]
                refine g_get (C := RJ25) (T := TJ25) (N := 6) (v := .ref z151) hx hb hts hown hK hG (hTH150.2.1 _ hDs) rfl in_J25 4 (by decide) q1183 rfl (congrArg (fun q9 => some (va_rf q9)) hf155) dJ4_deleteEntry_223 ?_
                have hf156 : r_150 z151 = (some s9) := by rw [hrq]
                refine g_get (C := RJ25) (T := TJ25) (N := 6) (v := .ref s9) hx hb hts hown hK hG (hTH150.2.1 _ hD_z151) rfl in_J25 3 (by decide) q1181 rfl (congrArg (fun q9 => some (va_rf q9)) hf156) dJ4_deleteEntry_226 ?_
                refine lv_acmp_ne (tgt := 240) (rx := (some s9)) (ry := (some s9)) hx hb dJ4_deleteEntry_229 (by decide) (fun hq157 => absurd rfl hq157) (fun hq157 => ?_)
                refine lv_aload_n hx hb dJ4_deleteEntry_232 rfl (lv_at hl 1 rfl) ?_
                have hf158 : p_150 s9 = (some z151) := by rw [ho152]
                refine g_get (C := RJ25) (T := TJ25) (N := 6) (v := .ref z151) hx hb hts hown hK hG (hTH150.2.1 _ hDs) rfl in_J25 4 (by decide) q1183 rfl (congrArg (fun q9 => some (va_rf q9)) hf158) dJ4_deleteEntry_233 ?_
                refine lv_null hx hb dJ4_deleteEntry_236 ?_
                refine g_put (C := RJ25) (T := TJ25) (N := 6) (ty0 := tyJ25) (v := .null) hx hb hts hown hK hG hS (hTH150.2.1 _ hD_z151) rfl in_J25 tyJ25_ok nmJ25 3 (by decide) q1181 rfl (by decide) rfl rfl (Nat.le_of_ble_eq_true rfl) dJ4_deleteEntry_237 (fun H locs hG hS => ?_)
                obtain ⟨rr159, err159⟩ : ∃ z : Nat → Option Nat, z = va_up r_150 z151 none := ⟨_, rfl⟩
                have hTH159 : TH (gup σr149 z151 (tg, gO 18 ((teF kk126 vv127 l_150 r_150 p_150 C_150 z151).set 3 (.null)))) tg mp (tIn n ad ps) kk126 vv127 l_150 rr159 p_150 C_150 rt_150 es ks (sz - 1) (md + 1) := by rw [err159]; exact hTH150.pR hD_z151 none
                have hkp159 : gKeep (fun t => t = tg) σ (gup σr149 z151 (tg, gO 18 ((teF kk126 vv127 l_150 r_150 p_150 C_150 z151).set 3 (.null)))) := hkp150.tr (gKeep.up (hTH150.2.1 _ hD_z151) rfl)
                generalize (gup σr149 z151 (tg, gO 18 ((teF kk126 vv127 l_150 r_150 p_150 C_150 z151).set 3 (.null)))) = σ159 at hG hTH159 hkp159
                refine lv_aload_n hx hb dJ4_deleteEntry_240 rfl (lv_at hl 1 rfl) ?_
                refine lv_null hx hb dJ4_deleteEntry_241 ?_
                refine g_put (C := RJ25) (T := TJ25) (N := 6) (ty0 := tyJ25) (v := .null) hx hb hts hown hK hG hS (hTH159.2.1 _ hDs) rfl in_J25 tyJ25_ok nmJ25 4 (by decide) q1183 rfl (by decide) rfl rfl (Nat.le_of_ble_eq_true rfl) dJ4_deleteEntry_242 (fun H locs hG hS => ?_)
                obtain ⟨pp_160, epp_160⟩ : ∃ z : Nat → Option Nat, z = va_up p_150 s9 none := ⟨_, rfl⟩
                have hTH160 : TH (gup σ159 s9 (tg, gO 18 ((teF kk126 vv127 l_150 rr159 p_150 C_150 s9).set 4 (.null)))) tg mp (tIn n ad ps) kk126 vv127 l_150 rr159 pp_160 C_150 rt_150 es ks (sz - 1) (md + 1) := by rw [epp_160]; exact hTH159.pP hDs none
                have hkp160 : gKeep (fun t => t = tg) σ (gup σ159 s9 (tg, gO 18 ((teF kk126 vv127 l_150 rr159 p_150 C_150 s9).set 4 (.null)))) := hkp159.tr (gKeep.up (hTH159.2.1 _ hDs) rfl)
                generalize (gup σ159 s9 (tg, gO 18 ((teF kk126 vv127 l_150 rr159 p_150 C_150 s9).set 4 (.null)))) = σ160 at hG hTH160 hkp160
                obtain ⟨lo_j161, hi_j161, hokj161, hsubj161⟩ : ∃ lo3 hi3, tOk (n - 1) (tAx (ps s9) ad) (tPd (ps s9) ps) l_150 rr159 pp_160 lo3 hi3 rt_150 ∧ ∀ z, tIn (n - 1) (tAx (ps s9) ad) (tPd (ps s9) ps) z → z ≠ s9 ∧ tIn n ad ps z := by
                  have hdel := hok150.del (e9 := none) (l' := l_150) (r' := rr159) (p' := pp_160) (rt' := rt_150) hDs rfl (Or.inl ⟨hlp9, hrp9.symm⟩)
                    (fun y hy hyp => by
                          rw [if_neg (fun k => by have q5 := (hok150.l1 hy k).2.2.2; rw [ho152] at q5; have q6 := Option.some.inj q5; rw [← q6] at k; exact absurd k (fun k => hq154 k.symm))])
                    (fun y hy hyp => by
                          rw [err159]
                          by_cases e : y = z151
                          · rw [e, va_up_self, if_pos ((hok150.p1 hDs ho152).2.resolve_left (fun k => hq154 k.symm))]
                          · rw [va_up_ne _ _ e, if_neg (fun k => e (by have q5 := (hok150.r1 hy k).2.2.2; rw [ho152] at q5; exact (Option.some.inj q5).symm))])
                    (fun y hy hyp => by rw [epp_160, va_up_ne _ _ hyp, if_neg (fun k => by cases k)])
                    (by rw [if_neg (fun k => by have q5 := (hok150.rx k).2.2.2; rw [ho152] at q5; cases q5)])
                  exact ⟨_, _, hdel.1, hdel.2⟩
                have hTHj161 := hTH160.sub (fun y hy => (hsubj161 y hy).2)
                exact g_vret hx hb hr hlocks hQ hG hS (Nat.zero_le _) (Nat.zero_le _) ⟨rfl, (tAx (ps s9) ad), (tPd (ps s9) ps), kk126, vv127, l_150, rr159, pp_160, C_150, rt_150, lo_j161, hi_j161, hTHj161, hokj161, hkp160, fun i hi => by
                          rw [ekk126, evv127, hps]
                          by_cases e : i = ps a
                          · have e1 : tAx (ps a + 1) ad i = a := by unfold tAx; rw [if_pos (by omega), e, hDa.2]
                            have e2 : tAx (ps a) ad i = s9 := by unfold tAx; rw [if_neg (by omega), e, hs9]
                            rw [e1, e2, va_up_self, va_up_self]
                            exact ⟨rfl, rfl⟩
                          · have e1 : tAx (ps a + 1) ad i = tAx (ps a) ad i := by
                              unfold tAx
                              by_cases e3 : i < ps a
                              · rw [if_pos (by omega), if_pos e3]
                              · rw [if_neg (by omega), if_neg e3]
                            have e2 : tAx (ps a) ad i ≠ a := fun k => by
                              unfold tAx at k
                              by_cases e3 : i < ps a
                              · rw [if_pos e3] at k; have q := hok.1 i (by omega); rw [k] at q; omega
                              · rw [if_neg e3] at k; have q := hok.1 (i + 1) (by omega); rw [k] at q; omega
                            rw [e1, va_up_ne _ _ e2, va_up_ne _ _ e2]
                            exact ⟨rfl, rfl⟩⟩ dJ4_deleteEntry_245
              · refine lv_aload_n hx hb dJ4_deleteEntry_210 rfl (lv_at hl 1 rfl) ?_
                have hf162 : p_150 s9 = (some z151) := by rw [ho152]
                refine g_get (C := RJ25) (T := TJ25) (N := 6) (v := .ref z151) hx hb hts hown hK hG (hTH150.2.1 _ hDs) rfl in_J25 4 (by decide) q1183 rfl (congrArg (fun q9 => some (va_rf q9)) hf162) dJ4_deleteEntry_211 ?_
                refine lv_null hx hb dJ4_deleteEntry_214 ?_
                refine g_put (C := RJ25) (T := TJ25) (N := 6) (ty0 := tyJ25) (v := .null) hx hb hts hown hK hG hS (hTH150.2.1 _ hD_z151) rfl in_J25 tyJ25_ok nmJ25 2 (by decide) q1180 rfl (by decide) rfl rfl (Nat.le_of_ble_eq_true rfl) dJ4_deleteEntry_215 (fun H locs hG hS => ?_)
                obtain ⟨ll163, ell163⟩ : ∃ z : Nat → Option Nat, z = va_up l_150 z151 none := ⟨_, rfl⟩
                have hTH163 : TH (gup σr149 z151 (tg, gO 18 ((teF kk126 vv127 l_150 r_150 p_150 C_150 z151).set 2 (.null)))) tg mp (tIn n ad ps) kk126 vv127 ll163 r_150 p_150 C_150 rt_150 es ks (sz - 1) (md + 1) := by rw [ell163]; exact hTH150.pL hD_z151 none
                have hkp163 : gKeep (fun t => t = tg) σ (gup σr149 z151 (tg, gO 18 ((teF kk126 vv127 l_150 r_150 p_150 C_150 z151).set 2 (.null)))) := hkp150.tr (gKeep.up (hTH150.2.1 _ hD_z151) rfl)
                generalize (gup σr149 z151 (tg, gO 18 ((teF kk126 vv127 l_150 r_150 p_150 C_150 z151).set 2 (.null)))) = σ163 at hG hTH163 hkp163
                refine lv_goto (tgt := 240) hx hb dJ4_deleteEntry_218 (by decide) ?_
                refine lv_aload_n hx hb dJ4_deleteEntry_240 rfl (lv_at hl 1 rfl) ?_
                refine lv_null hx hb dJ4_deleteEntry_241 ?_
                refine g_put (C := RJ25) (T := TJ25) (N := 6) (ty0 := tyJ25) (v := .null) hx hb hts hown hK hG hS (hTH163.2.1 _ hDs) rfl in_J25 tyJ25_ok nmJ25 4 (by decide) q1183 rfl (by decide) rfl rfl (Nat.le_of_ble_eq_true rfl) dJ4_deleteEntry_242 (fun H locs hG hS => ?_)
                obtain ⟨pp_164, epp_164⟩ : ∃ z : Nat → Option Nat, z = va_up p_150 s9 none := ⟨_, rfl⟩
                have hTH164 : TH (gup σ163 s9 (tg, gO 18 ((teF kk126 vv127 ll163 r_150 p_150 C_150 s9).set 4 (.null)))) tg mp (tIn n ad ps) kk126 vv127 ll163 r_150 pp_164 C_150 rt_150 es ks (sz - 1) (md + 1) := by rw [epp_164]; exact hTH163.pP hDs none
                have hkp164 : gKeep (fun t => t = tg) σ (gup σ163 s9 (tg, gO 18 ((teF kk126 vv127 ll163 r_150 p_150 C_150 s9).set 4 (.null)))) := hkp163.tr (gKeep.up (hTH163.2.1 _ hDs) rfl)
                generalize (gup σ163 s9 (tg, gO 18 ((teF kk126 vv127 ll163 r_150 p_150 C_150 s9).set 4 (.null)))) = σ164 at hG hTH164 hkp164
                obtain ⟨lo_j165, hi_j165, hokj165, hsubj165⟩ : ∃ lo3 hi3, tOk (n - 1) (tAx (ps s9) ad) (tPd (ps s9) ps) ll163 r_150 pp_164 lo3 hi3 rt_150 ∧ ∀ z, tIn (n - 1) (tAx (ps s9) ad) (tPd (ps s9) ps) z → z ≠ s9 ∧ tIn n ad ps z := by
                  have hdel := hok150.del (e9 := none) (l' := ll163) (r' := r_150) (p' := pp_164) (rt' := rt_150) hDs rfl (Or.inl ⟨hlp9, hrp9.symm⟩)
                    (fun y hy hyp => by
                          rw [ell163]
                          by_cases e : y = z151
                          · rw [e, va_up_self, if_pos hq154.symm]
                          · rw [va_up_ne _ _ e, if_neg (fun k => e (by have q5 := (hok150.l1 hy k).2.2.2; rw [ho152] at q5; exact (Option.some.inj q5).symm))])
                    (fun y hy hyp => by
                          rw [if_neg (fun k => by have q5 := (hok150.r1 hy k).2.2.2; rw [ho152] at q5; have q6 := Option.some.inj q5; rw [← q6] at k; exact absurd k (fun k => by have q7 := hok150.r1 hD_z151 k; have q8 := hok150.l1 hD_z151 hq154.symm; omega))])
                    (fun y hy hyp => by rw [epp_164, va_up_ne _ _ hyp, if_neg (fun k => by cases k)])
                    (by rw [if_neg (fun k => by have q5 := (hok150.rx k).2.2.2; rw [ho152] at q5; cases q5)])
                  exact ⟨_, _, hdel.1, hdel.2⟩
                have hTHj165 := hTH164.sub (fun y hy => (hsubj165 y hy).2)
                exact g_vret hx hb hr hlocks hQ hG hS (Nat.zero_le _) (Nat.zero_le _) ⟨rfl, (tAx (ps s9) ad), (tPd (ps s9) ps), kk126, vv127, ll163, r_150, pp_164, C_150, rt_150, lo_j165, hi_j165, hTHj165, hokj165, hkp164, fun i hi => by
                          rw [ekk126, evv127, hps]
                          by_cases e : i = ps a
                          · have e1 : tAx (ps a + 1) ad i = a := by unfold tAx; rw [if_pos (by omega), e, hDa.2]
                            have e2 : tAx (ps a) ad i = s9 := by unfold tAx; rw [if_neg (by omega), e, hs9]
                            rw [e1, e2, va_up_self, va_up_self]
                            exact ⟨rfl, rfl⟩
                          · have e1 : tAx (ps a + 1) ad i = tAx (ps a) ad i := by
                              unfold tAx
                              by_cases e3 : i < ps a
                              · rw [if_pos (by omega), if_pos e3]
                              · rw [if_neg (by omega), if_neg e3]
                            have e2 : tAx (ps a) ad i ≠ a := fun k => by
                              unfold tAx at k
                              by_cases e3 : i < ps a
                              · rw [if_pos e3] at k; have q := hok.1 i (by omega); rw [k] at q; omega
                              · rw [if_neg e3] at k; have q := hok.1 (i + 1) (by omega); rw [k] at q; omega
                            rw [e1, va_up_ne _ _ e2, va_up_ne _ _ e2]
                            exact ⟨rfl, rfl⟩⟩ dJ4_deleteEntry_245
        · refine lv_aload_n hx hb dJ4_deleteEntry_171 rfl (lv_at hl 2 rfl) ?_
          refine lv_null hx hb dJ4_deleteEntry_172 ?_
          refine g_put (C := RJ4) (T := TJ4) (N := 9) (ty0 := tyJ4) (v := .null) hx hb hts hown hK hG hS hTH127.1 rfl in_J4 tyJ4_ok nmJ4 3 (by decide) q146 rfl (by decide) rfl rfl (Nat.le_of_ble_eq_true rfl) dJ4_deleteEntry_173 (fun H locs hG hS => ?_)
          have hTH166 : TH (gup σ127 mp (tg, gO 13 ((tmF rt es ks (sz - 1) (md + 1)).set 3 (.null)))) tg mp (tIn n ad ps) kk126 vv127 l_ r_ p_ C none es ks (sz - 1) (md + 1) := hTH127.map rfl
          have hkp166 : gKeep (fun t => t = tg) σ (gup σ127 mp (tg, gO 13 ((tmF rt es ks (sz - 1) (md + 1)).set 3 (.null)))) := hkp127.tr (gKeep.up hTH127.1 rfl)
          generalize (gup σ127 mp (tg, gO 13 ((tmF rt es ks (sz - 1) (md + 1)).set 3 (.null)))) = σ166 at hG hTH166 hkp166
          refine lv_goto (tgt := 245) hx hb dJ4_deleteEntry_176 (by decide) ?_
          obtain ⟨lo_j167, hi_j167, hokj167, hsubj167⟩ : ∃ lo3 hi3, tOk (n - 1) (tAx (ps s9) ad) (tPd (ps s9) ps) l_ r_ p_ lo3 hi3 none ∧ ∀ z, tIn (n - 1) (tAx (ps s9) ad) (tPd (ps s9) ps) z → z ≠ s9 ∧ tIn n ad ps z := by
            have hdel := hok.del (e9 := none) (l' := l_) (r' := r_) (p' := p_) (rt' := none) hDs rfl (Or.inl ⟨hls, ho130.symm⟩)
              (fun y hy hyp => by
                    rw [if_neg (fun k => by have q5 := (hok.l1 hy k).2.2.2; rw [ho132] at q5; cases q5)])
              (fun y hy hyp => by
                    rw [if_neg (fun k => by have q5 := (hok.r1 hy k).2.2.2; rw [ho132] at q5; cases q5)])
              (fun y hy hyp => by rw [if_neg (fun k => by cases k)])
              (by rw [if_pos (hok.p0 hDs ho132)])
            exact ⟨_, _, hdel.1, hdel.2⟩
          have hTHj167 := hTH166.sub (fun y hy => (hsubj167 y hy).2)
          exact g_vret hx hb hr hlocks hQ hG hS (Nat.zero_le _) (Nat.zero_le _) ⟨rfl, (tAx (ps s9) ad), (tPd (ps s9) ps), kk126, vv127, l_, r_, p_, C, none, lo_j167, hi_j167, hTHj167, hokj167, hkp166, fun i hi => by
                    rw [ekk126, evv127, hps]
                    by_cases e : i = ps a
                    · have e1 : tAx (ps a + 1) ad i = a := by unfold tAx; rw [if_pos (by omega), e, hDa.2]
                      have e2 : tAx (ps a) ad i = s9 := by unfold tAx; rw [if_neg (by omega), e, hs9]
                      rw [e1, e2, va_up_self, va_up_self]
                      exact ⟨rfl, rfl⟩
                    · have e1 : tAx (ps a + 1) ad i = tAx (ps a) ad i := by
                        unfold tAx
                        by_cases e3 : i < ps a
                        · rw [if_pos (by omega), if_pos e3]
                        · rw [if_neg (by omega), if_neg e3]
                      have e2 : tAx (ps a) ad i ≠ a := fun k => by
                        unfold tAx at k
                        by_cases e3 : i < ps a
                        · rw [if_pos e3] at k; have q := hok.1 i (by omega); rw [k] at q; omega
                        · rw [if_neg e3] at k; have q := hok.1 (i + 1) (by omega); rw [k] at q; omega
                      rw [e1, va_up_ne _ _ e2, va_up_ne _ _ e2]
                      exact ⟨rfl, rfl⟩⟩ dJ4_deleteEntry_245
      · have hD_z129 := (hok.r1 hDs ho130).1
        have hl : lv_has ls 3 [(2, .ref z129), (1, .ref s9), (0, .ref mp)] := by first | exact hl | (rw [ho130] at hl; exact hl)
        have hcd := hok.r1 hDs ho130
        have hnd := hok.num hcd.1
        have hne_pd : s9 ≠ z129 := tIn.ne (ps := ps) (by omega)
        have hne_ad9 : a ≠ z129 := tIn.ne (ps := ps) (by omega)
        refine lv_aload_n hx hb dJ4_deleteEntry_80 rfl (lv_at hl 0 rfl) ?_
        refine lv_aload_n hx hb dJ4_deleteEntry_81 rfl (lv_at hl 1 rfl) ?_
        refine g_get (C := RJ25) (T := TJ25) (N := 6) (v := va_rf (p_ s9)) hx hb hts hown hK hG (hTH127.2.1 _ hDs) rfl in_J25 4 (by decide) q1183 rfl rfl dJ4_deleteEntry_82 ?_
        refine g_put (C := RJ25) (T := TJ25) (N := 6) (ty0 := tyJ25) (v := va_rf (p_ s9)) hx hb hts hown hK hG hS (hTH127.2.1 _ hD_z129) rfl in_J25 tyJ25_ok nmJ25 4 (by decide) q1183 rfl (by decide) (nrf _) (frf _) (Nat.le_of_ble_eq_true rfl) dJ4_deleteEntry_85 (fun H locs hG hS => ?_)
        obtain ⟨pp_168, epp_168⟩ : ∃ z : Nat → Option Nat, z = va_up p_ z129 (p_ s9) := ⟨_, rfl⟩
        have hTH168 : TH (gup σ127 z129 (tg, gO 18 ((teF kk126 vv127 l_ r_ p_ C z129).set 4 (va_rf (p_ s9))))) tg mp (tIn n ad ps) kk126 vv127 l_ r_ pp_168 C rt es ks (sz - 1) (md + 1) := by rw [epp_168]; exact hTH127.pP hD_z129 (p_ s9)
        have hkp168 : gKeep (fun t => t = tg) σ (gup σ127 z129 (tg, gO 18 ((teF kk126 vv127 l_ r_ p_ C z129).set 4 (va_rf (p_ s9))))) := hkp127.tr (gKeep.up (hTH127.2.1 _ hD_z129) rfl)
        generalize (gup σ127 z129 (tg, gO 18 ((teF kk126 vv127 l_ r_ p_ C z129).set 4 (va_rf (p_ s9))))) = σ168 at hG hTH168 hkp168
        refine lv_aload_n hx hb dJ4_deleteEntry_88 rfl (lv_at hl 1 rfl) ?_
        have hf169 : pp_168 s9 = (p_ s9) := by rw [epp_168, va_up_ne _ _ hne_pd]
        refine g_get (C := RJ25) (T := TJ25) (N := 6) (v := va_rf (p_ s9)) hx hb hts hown hK hG (hTH168.2.1 _ hDs) rfl in_J25 4 (by decide) q1183 rfl (congrArg (fun q9 => some (va_rf q9)) hf169) dJ4_deleteEntry_89 ?_
        refine g_ifnonnullR (tgt := 103) hx hb dJ4_deleteEntry_92 (by decide) (fun z170 ho171 => ?_) (fun ho171 => ?_)
        · have hD_z170 := (hok.p1 hDs ho171).1
          have hup9 := hok.up hDs ho171
          have hnq9 := hok.num hD_z170
          have hne_pq : s9 ≠ z170 := fun e => by rw [← e] at hup9; omega
          refine lv_aload_n hx hb dJ4_deleteEntry_103 rfl (lv_at hl 1 rfl) ?_
          refine lv_aload_n hx hb dJ4_deleteEntry_104 rfl (lv_at hl 1 rfl) ?_
          have hf172 : pp_168 s9 = (some z170) := by rw [epp_168, va_up_ne _ _ hne_pd, ho171]
          refine g_get (C := RJ25) (T := TJ25) (N := 6) (v := .ref z170) hx hb hts hown hK hG (hTH168.2.1 _ hDs) rfl in_J25 4 (by decide) q1183 rfl (congrArg (fun q9 => some (va_rf q9)) hf172) dJ4_deleteEntry_105 ?_
          refine g_get (C := RJ25) (T := TJ25) (N := 6) (v := va_rf (l_ z170)) hx hb hts hown hK hG (hTH168.2.1 _ hD_z170) rfl in_J25 2 (by decide) q1180 rfl rfl dJ4_deleteEntry_108 ?_
          refine lv_acmp_ne (tgt := 125) (rx := (some s9)) (ry := (l_ z170)) hx hb dJ4_deleteEntry_111 (by decide) (fun hq173 => ?_) (fun hq173 => ?_)
          · refine lv_aload_n hx hb dJ4_deleteEntry_125 rfl (lv_at hl 1 rfl) ?_
            have hf174 : pp_168 s9 = (some z170) := by rw [epp_168, va_up_ne _ _ hne_pd, ho171]
            refine g_get (C := RJ25) (T := TJ25) (N := 6) (v := .ref z170) hx hb hts hown hK hG (hTH168.2.1 _ hDs) rfl in_J25 4 (by decide) q1183 rfl (congrArg (fun q9 => some (va_rf q9)) hf174) dJ4_deleteEntry_126 ?_
            refine lv_aload_n hx hb dJ4_deleteEntry_129 rfl (lv_at hl 0 rfl) ?_
            refine g_put (C := RJ25) (T := TJ25) (N := 6) (ty0 := tyJ25) (v := .ref z129) hx hb hts hown hK hG hS (hTH168.2.1 _ hD_z170) rfl in_J25 tyJ25_ok nmJ25 3 (by decide) q1181 rfl (by decide) rfl rfl (Nat.le_of_ble_eq_true rfl) dJ4_deleteEntry_130 (fun H locs hG hS => ?_)
            obtain ⟨rr175, err175⟩ : ∃ z : Nat → Option Nat, z = va_up r_ z170 (some z129) := ⟨_, rfl⟩
            have hTH175 : TH (gup σ168 z170 (tg, gO 18 ((teF kk126 vv127 l_ r_ pp_168 C z170).set 3 (.ref z129)))) tg mp (tIn n ad ps) kk126 vv127 l_ rr175 pp_168 C rt es ks (sz - 1) (md + 1) := by rw [err175]; exact hTH168.pR hD_z170 (some z129)
            have hkp175 : gKeep (fun t => t = tg) σ (gup σ168 z170 (tg, gO 18 ((teF kk126 vv127 l_ r_ pp_168 C z170).set 3 (.ref z129)))) := hkp168.tr (gKeep.up (hTH168.2.1 _ hD_z170) rfl)
            generalize (gup σ168 z170 (tg, gO 18 ((teF kk126 vv127 l_ r_ pp_168 C z170).set 3 (.ref z129)))) = σ175 at hG hTH175 hkp175
            refine lv_aload_n hx hb dJ4_deleteEntry_133 rfl (lv_at hl 1 rfl) ?_
            refine lv_aload_n hx hb dJ4_deleteEntry_134 rfl (lv_at hl 1 rfl) ?_
            refine lv_aload_n hx hb dJ4_deleteEntry_135 rfl (lv_at hl 1 rfl) ?_
            refine lv_null hx hb dJ4_deleteEntry_136 ?_
            refine lv_dup_x1 hx hb dJ4_deleteEntry_137 rfl rfl ?_
            refine g_put (C := RJ25) (T := TJ25) (N := 6) (ty0 := tyJ25) (v := .null) hx hb hts hown hK hG hS (hTH175.2.1 _ hDs) rfl in_J25 tyJ25_ok nmJ25 4 (by decide) q1183 rfl (by decide) rfl rfl (Nat.le_of_ble_eq_true rfl) dJ4_deleteEntry_138 (fun H locs hG hS => ?_)
            obtain ⟨pp_176, epp_176⟩ : ∃ z : Nat → Option Nat, z = va_up pp_168 s9 none := ⟨_, rfl⟩
            have hTH176 : TH (gup σ175 s9 (tg, gO 18 ((teF kk126 vv127 l_ rr175 pp_168 C s9).set 4 (.null)))) tg mp (tIn n ad ps) kk126 vv127 l_ rr175 pp_176 C rt es ks (sz - 1) (md + 1) := by rw [epp_176]; exact hTH175.pP hDs none
            have hkp176 : gKeep (fun t => t = tg) σ (gup σ175 s9 (tg, gO 18 ((teF kk126 vv127 l_ rr175 pp_168 C s9).set 4 (.null)))) := hkp175.tr (gKeep.up (hTH175.2.1 _ hDs) rfl)
            generalize (gup σ175 s9 (tg, gO 18 ((teF kk126 vv127 l_ rr175 pp_168 C s9).set 4 (.null)))) = σ176 at hG hTH176 hkp176
            refine lv_dup_x1 hx hb dJ4_deleteEntry_141 rfl rfl ?_
            refine g_put (C := RJ25) (T := TJ25) (N := 6) (ty0 := tyJ25) (v := .null) hx hb hts hown hK hG hS (hTH176.2.1 _ hDs) rfl in_J25 tyJ25_ok nmJ25 3 (by decide) q1181 rfl (by decide) rfl rfl (Nat.le_of_ble_eq_true rfl) dJ4_deleteEntry_142 (fun H locs hG hS => ?_)
            obtain ⟨rr177, err177⟩ : ∃ z : Nat → Option Nat, z = va_up rr175 s9 none := ⟨_, rfl⟩
            have hTH177 : TH (gup σ176 s9 (tg, gO 18 ((teF kk126 vv127 l_ rr175 pp_176 C s9).set 3 (.null)))) tg mp (tIn n ad ps) kk126 vv127 l_ rr177 pp_176 C rt es ks (sz - 1) (md + 1) := by rw [err177]; exact hTH176.pR hDs none
            have hkp177 : gKeep (fun t => t = tg) σ (gup σ176 s9 (tg, gO 18 ((teF kk126 vv127 l_ rr175 pp_176 C s9).set 3 (.null)))) := hkp176.tr (gKeep.up (hTH176.2.1 _ hDs) rfl)
            generalize (gup σ176 s9 (tg, gO 18 ((teF kk126 vv127 l_ rr175 pp_176 C s9).set 3 (.null)))) = σ177 at hG hTH177 hkp177
            refine g_put (C := RJ25) (T := TJ25) (N := 6) (ty0 := tyJ25) (v := .null) hx hb hts hown hK hG hS (hTH177.2.1 _ hDs) rfl in_J25 tyJ25_ok nmJ25 2 (by decide) q1180 rfl (by decide) rfl rfl (Nat.le_of_ble_eq_true rfl) dJ4_deleteEntry_145 (fun H locs hG hS => ?_)
            obtain ⟨ll178, ell178⟩ : ∃ z : Nat → Option Nat, z = va_up l_ s9 none := ⟨_, rfl⟩
            have hTH178 : TH (gup σ177 s9 (tg, gO 18 ((teF kk126 vv127 l_ rr177 pp_176 C s9).set 2 (.null)))) tg mp (tIn n ad ps) kk126 vv127 ll178 rr177 pp_176 C rt es ks (sz - 1) (md + 1) := by rw [ell178]; exact hTH177.pL hDs none
            have hkp178 : gKeep (fun t => t = tg) σ (gup σ177 s9 (tg, gO 18 ((teF kk126 vv127 l_ rr177 pp_176 C s9).set 2 (.null)))) := hkp177.tr (gKeep.up (hTH177.2.1 _ hDs) rfl)
            generalize (gup σ177 s9 (tg, gO 18 ((teF kk126 vv127 l_ rr177 pp_176 C s9).set 2 (.null)))) = σ178 at hG hTH178 hkp178
            refine lv_aload_n hx hb dJ4_deleteEntry_148 rfl (lv_at hl 1 rfl) ?_
            refine g_get (C := RJ25) (T := TJ25) (N := 6) (v := .int (iI (C s9))) hx hb hts hown hK hG (hTH178.2.1 _ hDs) rfl in_J25 5 (by decide) q1185 rfl rfl dJ4_deleteEntry_149 ?_
            have hc179 := hTH178.2.2 _ hDs
            refine g_iconst hx hb dJ4_deleteEntry_152 ?_
            refine g_icmp_ne (tgt := 245) hx hb dJ4_deleteEntry_153 (by decide) (by omega) (by omega) (fun cq180 => ?_) (fun cq180 => ?_)
            · obtain ⟨lo_j181, hi_j181, hokj181, hsubj181⟩ : ∃ lo3 hi3, tOk (n - 1) (tAx (ps s9) ad) (tPd (ps s9) ps) ll178 rr177 pp_176 lo3 hi3 rt ∧ ∀ z, tIn (n - 1) (tAx (ps s9) ad) (tPd (ps s9) ps) z → z ≠ s9 ∧ tIn n ad ps z := by
                have hdel := hok.del (e9 := (some z129)) (l' := ll178) (r' := rr177) (p' := pp_176) (rt' := rt) hDs rfl (Or.inl ⟨hls, ho130.symm⟩)
                  (fun y hy hyp => by
                        rw [ell178, va_up_ne _ _ hyp, if_neg (fun k => by have q5 := (hok.l1 hy k).2.2.2; rw [ho171] at q5; have q6 := Option.some.inj q5; rw [← q6] at k; exact absurd k (fun k => hq173 k.symm))])
                  (fun y hy hyp => by
                        rw [err177, va_up_ne _ _ hyp, err175]
                        by_cases e : y = z170
                        · rw [e, va_up_self, if_pos ((hok.p1 hDs ho171).2.resolve_left (fun k => hq173 k.symm))]
                        · rw [va_up_ne _ _ e, if_neg (fun k => e (by have q5 := (hok.r1 hy k).2.2.2; rw [ho171] at q5; exact (Option.some.inj q5).symm))])
                  (fun y hy hyp => by
                        rw [epp_176, va_up_ne _ _ hyp]
                        by_cases e : y = z129
                        · rw [e, epp_168, va_up_self, if_pos rfl]
                        · rw [epp_168, va_up_ne _ _ e, if_neg (fun k => e (Option.some.inj k).symm)])
                  (by rw [if_neg (fun k => by have q5 := (hok.rx k).2.2.2; rw [ho171] at q5; cases q5)])
                exact ⟨_, _, hdel.1, hdel.2⟩
              have hTHj181 := hTH178.sub (fun y hy => (hsubj181 y hy).2)
              have hD9d : tIn (n - 1) (tAx (ps s9) ad) (tPd (ps s9) ps) z129 := (tPd_in hDs rfl hok.1 hne_pd.symm).mpr hD_z129
              exact g_vret hx hb hr hlocks hQ hG hS (Nat.zero_le _) (Nat.zero_le _) ⟨rfl, (tAx (ps s9) ad), (tPd (ps s9) ps), kk126, vv127, ll178, rr177, pp_176, C, rt, lo_j181, hi_j181, hTHj181, hokj181, hkp178, fun i hi => by
                        rw [ekk126, evv127, hps]
                        by_cases e : i = ps a
                        · have e1 : tAx (ps a + 1) ad i = a := by unfold tAx; rw [if_pos (by omega), e, hDa.2]
                          have e2 : tAx (ps a) ad i = s9 := by unfold tAx; rw [if_neg (by omega), e, hs9]
                          rw [e1, e2, va_up_self, va_up_self]
                          exact ⟨rfl, rfl⟩
                        · have e1 : tAx (ps a + 1) ad i = tAx (ps a) ad i := by
                            unfold tAx
                            by_cases e3 : i < ps a
                            · rw [if_pos (by omega), if_pos e3]
                            · rw [if_neg (by omega), if_neg e3]
                          have e2 : tAx (ps a) ad i ≠ a := fun k => by
                            unfold tAx at k
                            by_cases e3 : i < ps a
                            · rw [if_pos e3] at k; have q := hok.1 i (by omega); rw [k] at q; omega
                            · rw [if_neg e3] at k; have q := hok.1 (i + 1) (by omega); rw [k] at q; omega
                          rw [e1, va_up_ne _ _ e2, va_up_ne _ _ e2]
                          exact ⟨rfl, rfl⟩⟩ dJ4_deleteEntry_245
            · obtain ⟨lo_j182, hi_j182, hokj182, hsubj182⟩ : ∃ lo3 hi3, tOk (n - 1) (tAx (ps s9) ad) (tPd (ps s9) ps) ll178 rr177 pp_176 lo3 hi3 rt ∧ ∀ z, tIn (n - 1) (tAx (ps s9) ad) (tPd (ps s9) ps) z → z ≠ s9 ∧ tIn n ad ps z := by
                have hdel := hok.del (e9 := (some z129)) (l' := ll178) (r' := rr177) (p' := pp_176) (rt' := rt) hDs rfl (Or.inl ⟨hls, ho130.symm⟩)
                  (fun y hy hyp => by
                        rw [ell178, va_up_ne _ _ hyp, if_neg (fun k => by have q5 := (hok.l1 hy k).2.2.2; rw [ho171] at q5; have q6 := Option.some.inj q5; rw [← q6] at k; exact absurd k (fun k => hq173 k.symm))])
                  (fun y hy hyp => by
                        rw [err177, va_up_ne _ _ hyp, err175]
                        by_cases e : y = z170
                        · rw [e, va_up_self, if_pos ((hok.p1 hDs ho171).2.resolve_left (fun k => hq173 k.symm))]
                        · rw [va_up_ne _ _ e, if_neg (fun k => e (by have q5 := (hok.r1 hy k).2.2.2; rw [ho171] at q5; exact (Option.some.inj q5).symm))])
                  (fun y hy hyp => by
                        rw [epp_176, va_up_ne _ _ hyp]
                        by_cases e : y = z129
                        · rw [e, epp_168, va_up_self, if_pos rfl]
                        · rw [epp_168, va_up_ne _ _ e, if_neg (fun k => e (Option.some.inj k).symm)])
                  (by rw [if_neg (fun k => by have q5 := (hok.rx k).2.2.2; rw [ho171] at q5; cases q5)])
                exact ⟨_, _, hdel.1, hdel.2⟩
              have hTHj182 := hTH178.sub (fun y hy => (hsubj182 y hy).2)
              have hD9d : tIn (n - 1) (tAx (ps s9) ad) (tPd (ps s9) ps) z129 := (tPd_in hDs rfl hok.1 hne_pd.symm).mpr hD_z129
              refine lv_aload_n hx hb dJ4_deleteEntry_156 rfl (lv_at hl 2 rfl) ?_
              refine lv_aload_n hx hb dJ4_deleteEntry_157 rfl (lv_at hl 0 rfl) ?_
              refine g_callV (As := [.ref z129]) (rest := []) 1 hx hb hml hown hts hK hG hS hl.1 (mJ4_fixAfterDeletion l X σ178 tg mp (n - 1) (tAx (ps s9) ad) (tPd (ps s9) ps) kk126 vv127 ll178 rr177 pp_176 C rt es ks (sz - 1) (md + 1) hTHj182 lo_j182 hi_j182 hokj182 (fun _ => False) z129 hD9d (fun z hz => hz.elim)) hTHj182.1 rfl q1551 q1553 qs41 q75 q1554 (by decide +kernel) rfl ⟨Nat.le_of_ble_eq_true rfl, Nat.le_of_ble_eq_true rfl⟩ ⟨Nat.le_of_ble_eq_true rfl, Nat.le_of_ble_eq_true rfl⟩ (Nat.le_of_ble_eq_true rfl) dJ4_deleteEntry_158 (kV (fun σr183 H locs hp hG hS => ?_))
              obtain ⟨l_184, r_184, p_184, C_184, rt_184, lo_184, hi_184, hTH184, hok184, kp184, hlf184⟩ := hp
              have hkp184 := hkp178.tr kp184
              refine lv_goto (tgt := 245) hx hb dJ4_deleteEntry_161 (by decide) ?_
              exact g_vret hx hb hr hlocks hQ hG hS (Nat.zero_le _) (Nat.zero_le _) ⟨rfl, (tAx (ps s9) ad), (tPd (ps s9) ps), kk126, vv127, l_184, r_184, p_184, C_184, rt_184, lo_184, hi_184, hTH184, hok184, hkp184, fun i hi => by
                        rw [ekk126, evv127, hps]
                        by_cases e : i = ps a
                        · have e1 : tAx (ps a + 1) ad i = a := by unfold tAx; rw [if_pos (by omega), e, hDa.2]
                          have e2 : tAx (ps a) ad i = s9 := by unfold tAx; rw [if_neg (by omega), e, hs9]
                          rw [e1, e2, va_up_self, va_up_self]
                          exact ⟨rfl, rfl⟩
                        · have e1 : tAx (ps a + 1) ad i = tAx (ps a) ad i := by
                            unfold tAx
                            by_cases e3 : i < ps a
                            · rw [if_pos (by omega), if_pos e3]
                            · rw [if_neg (by omega), if_neg e3]
                          have e2 : tAx (ps a) ad i ≠ a := fun k => by
                            unfold tAx at k
                            by_cases e3 : i < ps a
                            · rw [if_pos e3] at k; have q := hok.1 i (by omega); rw [k] at q; omega
                            · rw [if_neg e3] at k; have q := hok.1 (i + 1) (by omega); rw [k] at q; omega
                          rw [e1, va_up_ne _ _ e2, va_up_ne _ _ e2]
                          exact ⟨rfl, rfl⟩⟩ dJ4_deleteEntry_245
          · refine lv_aload_n hx hb dJ4_deleteEntry_114 rfl (lv_at hl 1 rfl) ?_
            have hf185 : pp_168 s9 = (some z170) := by rw [epp_168, va_up_ne _ _ hne_pd, ho171]
            refine g_get (C := RJ25) (T := TJ25) (N := 6) (v := .ref z170) hx hb hts hown hK hG (hTH168.2.1 _ hDs) rfl in_J25 4 (by decide) q1183 rfl (congrArg (fun q9 => some (va_rf q9)) hf185) dJ4_deleteEntry_115 ?_
            refine lv_aload_n hx hb dJ4_deleteEntry_118 rfl (lv_at hl 0 rfl) ?_
            refine g_put (C := RJ25) (T := TJ25) (N := 6) (ty0 := tyJ25) (v := .ref z129) hx hb hts hown hK hG hS (hTH168.2.1 _ hD_z170) rfl in_J25 tyJ25_ok nmJ25 2 (by decide) q1180 rfl (by decide) rfl rfl (Nat.le_of_ble_eq_true rfl) dJ4_deleteEntry_119 (fun H locs hG hS => ?_)
            obtain ⟨ll186, ell186⟩ : ∃ z : Nat → Option Nat, z = va_up l_ z170 (some z129) := ⟨_, rfl⟩
            have hTH186 : TH (gup σ168 z170 (tg, gO 18 ((teF kk126 vv127 l_ r_ pp_168 C z170).set 2 (.ref z129)))) tg mp (tIn n ad ps) kk126 vv127 ll186 r_ pp_168 C rt es ks (sz - 1) (md + 1) := by rw [ell186]; exact hTH168.pL hD_z170 (some z129)
            have hkp186 : gKeep (fun t => t = tg) σ (gup σ168 z170 (tg, gO 18 ((teF kk126 vv127 l_ r_ pp_168 C z170).set 2 (.ref z129)))) := hkp168.tr (gKeep.up (hTH168.2.1 _ hD_z170) rfl)
            generalize (gup σ168 z170 (tg, gO 18 ((teF kk126 vv127 l_ r_ pp_168 C z170).set 2 (.ref z129)))) = σ186 at hG hTH186 hkp186
            refine lv_goto (tgt := 133) hx hb dJ4_deleteEntry_122 (by decide) ?_
            refine lv_aload_n hx hb dJ4_deleteEntry_133 rfl (lv_at hl 1 rfl) ?_
            refine lv_aload_n hx hb dJ4_deleteEntry_134 rfl (lv_at hl 1 rfl) ?_
            refine lv_aload_n hx hb dJ4_deleteEntry_135 rfl (lv_at hl 1 rfl) ?_
            refine lv_null hx hb dJ4_deleteEntry_136 ?_
            refine lv_dup_x1 hx hb dJ4_deleteEntry_137 rfl rfl ?_
            refine g_put (C := RJ25) (T := TJ25) (N := 6) (ty0 := tyJ25) (v := .null) hx hb hts hown hK hG hS (hTH186.2.1 _ hDs) rfl in_J25 tyJ25_ok nmJ25 4 (by decide) q1183 rfl (by decide) rfl rfl (Nat.le_of_ble_eq_true rfl) dJ4_deleteEntry_138 (fun H locs hG hS => ?_)
            obtain ⟨pp_187, epp_187⟩ : ∃ z : Nat → Option Nat, z = va_up pp_168 s9 none := ⟨_, rfl⟩
            have hTH187 : TH (gup σ186 s9 (tg, gO 18 ((teF kk126 vv127 ll186 r_ pp_168 C s9).set 4 (.null)))) tg mp (tIn n ad ps) kk126 vv127 ll186 r_ pp_187 C rt es ks (sz - 1) (md + 1) := by rw [epp_187]; exact hTH186.pP hDs none
            have hkp187 : gKeep (fun t => t = tg) σ (gup σ186 s9 (tg, gO 18 ((teF kk126 vv127 ll186 r_ pp_168 C s9).set 4 (.null)))) := hkp186.tr (gKeep.up (hTH186.2.1 _ hDs) rfl)
            generalize (gup σ186 s9 (tg, gO 18 ((teF kk126 vv127 ll186 r_ pp_168 C s9).set 4 (.null)))) = σ187 at hG hTH187 hkp187
            refine lv_dup_x1 hx hb dJ4_deleteEntry_141 rfl rfl ?_
            refine g_put (C := RJ25) (T := TJ25) (N := 6) (ty0 := tyJ25) (v := .null) hx hb hts hown hK hG hS (hTH187.2.1 _ hDs) rfl in_J25 tyJ25_ok nmJ25 3 (by decide) q1181 rfl (by decide) rfl rfl (Nat.le_of_ble_eq_true rfl) dJ4_deleteEntry_142 (fun H locs hG hS => ?_)
            obtain ⟨rr188, err188⟩ : ∃ z : Nat → Option Nat, z = va_up r_ s9 none := ⟨_, rfl⟩
            have hTH188 : TH (gup σ187 s9 (tg, gO 18 ((teF kk126 vv127 ll186 r_ pp_187 C s9).set 3 (.null)))) tg mp (tIn n ad ps) kk126 vv127 ll186 rr188 pp_187 C rt es ks (sz - 1) (md + 1) := by rw [err188]; exact hTH187.pR hDs none
            have hkp188 : gKeep (fun t => t = tg) σ (gup σ187 s9 (tg, gO 18 ((teF kk126 vv127 ll186 r_ pp_187 C s9).set 3 (.null)))) := hkp187.tr (gKeep.up (hTH187.2.1 _ hDs) rfl)
            generalize (gup σ187 s9 (tg, gO 18 ((teF kk126 vv127 ll186 r_ pp_187 C s9).set 3 (.null)))) = σ188 at hG hTH188 hkp188
            refine g_put (C := RJ25) (T := TJ25) (N := 6) (ty0 := tyJ25) (v := .null) hx hb hts hown hK hG hS (hTH188.2.1 _ hDs) rfl in_J25 tyJ25_ok nmJ25 2 (by decide) q1180 rfl (by decide) rfl rfl (Nat.le_of_ble_eq_true rfl) dJ4_deleteEntry_145 (fun H locs hG hS => ?_)
            obtain ⟨ll189, ell189⟩ : ∃ z : Nat → Option Nat, z = va_up ll186 s9 none := ⟨_, rfl⟩
            have hTH189 : TH (gup σ188 s9 (tg, gO 18 ((teF kk126 vv127 ll186 rr188 pp_187 C s9).set 2 (.null)))) tg mp (tIn n ad ps) kk126 vv127 ll189 rr188 pp_187 C rt es ks (sz - 1) (md + 1) := by rw [ell189]; exact hTH188.pL hDs none
            have hkp189 : gKeep (fun t => t = tg) σ (gup σ188 s9 (tg, gO 18 ((teF kk126 vv127 ll186 rr188 pp_187 C s9).set 2 (.null)))) := hkp188.tr (gKeep.up (hTH188.2.1 _ hDs) rfl)
            generalize (gup σ188 s9 (tg, gO 18 ((teF kk126 vv127 ll186 rr188 pp_187 C s9).set 2 (.null)))) = σ189 at hG hTH189 hkp189
            refine lv_aload_n hx hb dJ4_deleteEntry_148 rfl (lv_at hl 1 rfl) ?_
            refine g_get (C := RJ25) (T := TJ25) (N := 6) (v := .int (iI (C s9))) hx hb hts hown hK hG (hTH189.2.1 _ hDs) rfl in_J25 5 (by decide) q1185 rfl rfl dJ4_deleteEntry_149 ?_
            have hc190 := hTH189.2.2 _ hDs
            refine g_iconst hx hb dJ4_deleteEntry_152 ?_
            refine g_icmp_ne (tgt := 245) hx hb dJ4_deleteEntry_153 (by decide) (by omega) (by omega) (fun cq191 => ?_) (fun cq191 => ?_)
            · obtain ⟨lo_j192, hi_j192, hokj192, hsubj192⟩ : ∃ lo3 hi3, tOk (n - 1) (tAx (ps s9) ad) (tPd (ps s9) ps) ll189 rr188 pp_187 lo3 hi3 rt ∧ ∀ z, tIn (n - 1) (tAx (ps s9) ad) (tPd (ps s9) ps) z → z ≠ s9 ∧ tIn n ad ps z := by
                have hdel := hok.del (e9 := (some z129)) (l' := ll189) (r' := rr188) (p' := pp_187) (rt' := rt) hDs rfl (Or.inl ⟨hls, ho130.symm⟩)
                  (fun y hy hyp => by
                        rw [ell189, va_up_ne _ _ hyp, ell186]
                        by_cases e : y = z170
                        · rw [e, va_up_self, if_pos hq173.symm]
                        · rw [va_up_ne _ _ e, if_neg (fun k => e (by have q5 := (hok.l1 hy k).2.2.2; rw [ho171] at q5; exact (Option.some.inj q5).symm))])
                  (fun y hy hyp => by
                        rw [err188, va_up_ne _ _ hyp, if_neg (fun k => by have q5 := (hok.r1 hy k).2.2.2; rw [ho171] at q5; have q6 := Option.some.inj q5; rw [← q6] at k; exact absurd k (fun k => by have q7 := hok.r1 hD_z170 k; have q8 := hok.l1 hD_z170 hq173.symm; omega))])
                  (fun y hy hyp => by
                        rw [epp_187, va_up_ne _ _ hyp]
                        by_cases e : y = z129
                        · rw [e, epp_168, va_up_self, if_pos rfl]
                        · rw [epp_168, va_up_ne _ _ e, if_neg (fun k => e (Option.some.inj k).symm)])
                  (by rw [if_neg (fun k => by have q5 := (hok.rx k).2.2.2; rw [ho171] at q5; cases q5)])
                exact ⟨_, _, hdel.1, hdel.2⟩
              have hTHj192 := hTH189.sub (fun y hy => (hsubj192 y hy).2)
              have hD9d : tIn (n - 1) (tAx (ps s9) ad) (tPd (ps s9) ps) z129 := (tPd_in hDs rfl hok.1 hne_pd.symm).mpr hD_z129
              exact g_vret hx hb hr hlocks hQ hG hS (Nat.zero_le _) (Nat.zero_le _) ⟨rfl, (tAx (ps s9) ad), (tPd (ps s9) ps), kk126, vv127, ll189, rr188, pp_187, C, rt, lo_j192, hi_j192, hTHj192, hokj192, hkp189, fun i hi => by
                        rw [ekk126, evv127, hps]
                        by_cases e : i = ps a
                        · have e1 : tAx (ps a + 1) ad i = a := by unfold tAx; rw [if_pos (by omega), e, hDa.2]
                          have e2 : tAx (ps a) ad i = s9 := by unfold tAx; rw [if_neg (by omega), e, hs9]
                          rw [e1, e2, va_up_self, va_up_self]
                          exact ⟨rfl, rfl⟩
                        · have e1 : tAx (ps a + 1) ad i = tAx (ps a) ad i := by
                            unfold tAx
                            by_cases e3 : i < ps a
                            · rw [if_pos (by omega), if_pos e3]
                            · rw [if_neg (by omega), if_neg e3]
                          have e2 : tAx (ps a) ad i ≠ a := fun k => by
                            unfold tAx at k
                            by_cases e3 : i < ps a
                            · rw [if_pos e3] at k; have q := hok.1 i (by omega); rw [k] at q; omega
                            · rw [if_neg e3] at k; have q := hok.1 (i + 1) (by omega); rw [k] at q; omega
                          rw [e1, va_up_ne _ _ e2, va_up_ne _ _ e2]
                          exact ⟨rfl, rfl⟩⟩ dJ4_deleteEntry_245
            · obtain ⟨lo_j193, hi_j193, hokj193, hsubj193⟩ : ∃ lo3 hi3, tOk (n - 1) (tAx (ps s9) ad) (tPd (ps s9) ps) ll189 rr188 pp_187 lo3 hi3 rt ∧ ∀ z, tIn (n - 1) (tAx (ps s9) ad) (tPd (ps s9) ps) z → z ≠ s9 ∧ tIn n ad ps z := by
                have hdel := hok.del (e9 := (some z129)) (l' := ll189) (r' := rr188) (p' := pp_187) (rt' := rt) hDs rfl (Or.inl ⟨hls, ho130.symm⟩)
                  (fun y hy hyp => by
                        rw [ell189, va_up_ne _ _ hyp, ell186]
                        by_cases e : y = z170
                        · rw [e, va_up_self, if_pos hq173.symm]
                        · rw [va_up_ne _ _ e, if_neg (fun k => e (by have q5 := (hok.l1 hy k).2.2.2; rw [ho171] at q5; exact (Option.some.inj q5).symm))])
                  (fun y hy hyp => by
                        rw [err188, va_up_ne _ _ hyp, if_neg (fun k => by have q5 := (hok.r1 hy k).2.2.2; rw [ho171] at q5; have q6 := Option.some.inj q5; rw [← q6] at k; exact absurd k (fun k => by have q7 := hok.r1 hD_z170 k; have q8 := hok.l1 hD_z170 hq173.symm; omega))])
                  (fun y hy hyp => by
                        rw [epp_187, va_up_ne _ _ hyp]
                        by_cases e : y = z129
                        · rw [e, epp_168, va_up_self, if_pos rfl]
                        · rw [epp_168, va_up_ne _ _ e, if_neg (fun k => e (Option.some.inj k).symm)])
                  (by rw [if_neg (fun k => by have q5 := (hok.rx k).2.2.2; rw [ho171] at q5; cases q5)])
                exact ⟨_, _, hdel.1, hdel.2⟩
              have hTHj193 := hTH189.sub (fun y hy => (hsubj193 y hy).2)
              have hD9d : tIn (n - 1) (tAx (ps s9) ad) (tPd (ps s9) ps) z129 := (tPd_in hDs rfl hok.1 hne_pd.symm).mpr hD_z129
              refine lv_aload_n hx hb dJ4_deleteEntry_156 rfl (lv_at hl 2 rfl) ?_
              refine lv_aload_n hx hb dJ4_deleteEntry_157 rfl (lv_at hl 0 rfl) ?_
              refine g_callV (As := [.ref z129]) (rest := []) 1 hx hb hml hown hts hK hG hS hl.1 (mJ4_fixAfterDeletion l X σ189 tg mp (n - 1) (tAx (ps s9) ad) (tPd (ps s9) ps) kk126 vv127 ll189 rr188 pp_187 C rt es ks (sz - 1) (md + 1) hTHj193 lo_j193 hi_j193 hokj193 (fun _ => False) z129 hD9d (fun z hz => hz.elim)) hTHj193.1 rfl q1551 q1553 qs41 q75 q1554 (by decide +kernel) rfl ⟨Nat.le_of_ble_eq_true rfl, Nat.le_of_ble_eq_true rfl⟩ ⟨Nat.le_of_ble_eq_true rfl, Nat.le_of_ble_eq_true rfl⟩ (Nat.le_of_ble_eq_true rfl) dJ4_deleteEntry_158 (kV (fun σr194 H locs hp hG hS => ?_))
              obtain ⟨l_195, r_195, p_195, C_195, rt_195, lo_195, hi_195, hTH195, hok195, kp195, hlf195⟩ := hp
              have hkp195 := hkp189.tr kp195
              refine lv_goto (tgt := 245) hx hb dJ4_deleteEntry_161 (by decide) ?_
              exact g_vret hx hb hr hlocks hQ hG hS (Nat.zero_le _) (Nat.zero_le _) ⟨rfl, (tAx (ps s9) ad), (tPd (ps s9) ps), kk126, vv127, l_195, r_195, p_195, C_195, rt_195, lo_195, hi_195, hTH195, hok195, hkp195, fun i hi => by
                        rw [ekk126, evv127, hps]
                        by_cases e : i = ps a
                        · have e1 : tAx (ps a + 1) ad i = a := by unfold tAx; rw [if_pos (by omega), e, hDa.2]
                          have e2 : tAx (ps a) ad i = s9 := by unfold tAx; rw [if_neg (by omega), e, hs9]
                          rw [e1, e2, va_up_self, va_up_self]
                          exact ⟨rfl, rfl⟩
                        · have e1 : tAx (ps a + 1) ad i = tAx (ps a) ad i := by
                            unfold tAx
                            by_cases e3 : i < ps a
                            · rw [if_pos (by omega), if_pos e3]
                            · rw [if_neg (by omega), if_neg e3]
                          have e2 : tAx (ps a) ad i ≠ a := fun k => by
                            unfold tAx at k
                            by_cases e3 : i < ps a
                            · rw [if_pos e3] at k; have q := hok.1 i (by omega); rw [k] at q; omega
                            · rw [if_neg e3] at k; have q := hok.1 (i + 1) (by omega); rw [k] at q; omega
                          rw [e1, va_up_ne _ _ e2, va_up_ne _ _ e2]
                          exact ⟨rfl, rfl⟩⟩ dJ4_deleteEntry_245
        · refine lv_aload_n hx hb dJ4_deleteEntry_95 rfl (lv_at hl 2 rfl) ?_
          refine lv_aload_n hx hb dJ4_deleteEntry_96 rfl (lv_at hl 0 rfl) ?_
          refine g_put (C := RJ4) (T := TJ4) (N := 9) (ty0 := tyJ4) (v := .ref z129) hx hb hts hown hK hG hS hTH168.1 rfl in_J4 tyJ4_ok nmJ4 3 (by decide) q146 rfl (by decide) rfl rfl (Nat.le_of_ble_eq_true rfl) dJ4_deleteEntry_97 (fun H locs hG hS => ?_)
          have hTH196 : TH (gup σ168 mp (tg, gO 13 ((tmF rt es ks (sz - 1) (md + 1)).set 3 (.ref z129)))) tg mp (tIn n ad ps) kk126 vv127 l_ r_ pp_168 C (some z129) es ks (sz - 1) (md + 1) := hTH168.map rfl
          have hkp196 : gKeep (fun t => t = tg) σ (gup σ168 mp (tg, gO 13 ((tmF rt es ks (sz - 1) (md + 1)).set 3 (.ref z129)))) := hkp168.tr (gKeep.up hTH168.1 rfl)
          generalize (gup σ168 mp (tg, gO 13 ((tmF rt es ks (sz - 1) (md + 1)).set 3 (.ref z129)))) = σ196 at hG hTH196 hkp196
          refine lv_goto (tgt := 133) hx hb dJ4_deleteEntry_100 (by decide) ?_
          refine lv_aload_n hx hb dJ4_deleteEntry_133 rfl (lv_at hl 1 rfl) ?_
          refine lv_aload_n hx hb dJ4_deleteEntry_134 rfl (lv_at hl 1 rfl) ?_
          refine lv_aload_n hx hb dJ4_deleteEntry_135 rfl (lv_at hl 1 rfl) ?_
          refine lv_null hx hb dJ4_deleteEntry_136 ?_
          refine lv_dup_x1 hx hb dJ4_deleteEntry_137 rfl rfl ?_
          refine g_put (C := RJ25) (T := TJ25) (N := 6) (ty0 := tyJ25) (v := .null) hx hb hts hown hK hG hS (hTH196.2.1 _ hDs) rfl in_J25 tyJ25_ok nmJ25 4 (by decide) q1183 rfl (by decide) rfl rfl (Nat.le_of_ble_eq_true rfl) dJ4_deleteEntry_138 (fun H locs hG hS => ?_)
          obtain ⟨pp_197, epp_197⟩ : ∃ z : Nat → Option Nat, z = va_up pp_168 s9 none := ⟨_, rfl⟩
          have hTH197 : TH (gup σ196 s9 (tg, gO 18 ((teF kk126 vv127 l_ r_ pp_168 C s9).set 4 (.null)))) tg mp (tIn n ad ps) kk126 vv127 l_ r_ pp_197 C (some z129) es ks (sz - 1) (md + 1) := by rw [epp_197]; exact hTH196.pP hDs none
          have hkp197 : gKeep (fun t => t = tg) σ (gup σ196 s9 (tg, gO 18 ((teF kk126 vv127 l_ r_ pp_168 C s9).set 4 (.null)))) := hkp196.tr (gKeep.up (hTH196.2.1 _ hDs) rfl)
          generalize (gup σ196 s9 (tg, gO 18 ((teF kk126 vv127 l_ r_ pp_168 C s9).set 4 (.null)))) = σ197 at hG hTH197 hkp197
          refine lv_dup_x1 hx hb dJ4_deleteEntry_141 rfl rfl ?_
          refine g_put (C := RJ25) (T := TJ25) (N := 6) (ty0 := tyJ25) (v := .null) hx hb hts hown hK hG hS (hTH197.2.1 _ hDs) rfl in_J25 tyJ25_ok nmJ25 3 (by decide) q1181 rfl (by decide) rfl rfl (Nat.le_of_ble_eq_true rfl) dJ4_deleteEntry_142 (fun H locs hG hS => ?_)
          obtain ⟨rr198, err198⟩ : ∃ z : Nat → Option Nat, z = va_up r_ s9 none := ⟨_, rfl⟩
          have hTH198 : TH (gup σ197 s9 (tg, gO 18 ((teF kk126 vv127 l_ r_ pp_197 C s9).set 3 (.null)))) tg mp (tIn n ad ps) kk126 vv127 l_ rr198 pp_197 C (some z129) es ks (sz - 1) (md + 1) := by rw [err198]; exact hTH197.pR hDs none
          have hkp198 : gKeep (fun t => t = tg) σ (gup σ197 s9 (tg, gO 18 ((teF kk126 vv127 l_ r_ pp_197 C s9).set 3 (.null)))) := hkp197.tr (gKeep.up (hTH197.2.1 _ hDs) rfl)
          generalize (gup σ197 s9 (tg, gO 18 ((teF kk126 vv127 l_ r_ pp_197 C s9).set 3 (.null)))) = σ198 at hG hTH198 hkp198
          refine g_put (C := RJ25) (T := TJ25) (N := 6) (ty0 := tyJ25) (v := .null) hx hb hts hown hK hG hS (hTH198.2.1 _ hDs) rfl in_J25 tyJ25_ok nmJ25 2 (by decide) q1180 rfl (by decide) rfl rfl (Nat.le_of_ble_eq_true rfl) dJ4_deleteEntry_145 (fun H locs hG hS => ?_)
          obtain ⟨ll199, ell199⟩ : ∃ z : Nat → Option Nat, z = va_up l_ s9 none := ⟨_, rfl⟩
          have hTH199 : TH (gup σ198 s9 (tg, gO 18 ((teF kk126 vv127 l_ rr198 pp_197 C s9).set 2 (.null)))) tg mp (tIn n ad ps) kk126 vv127 ll199 rr198 pp_197 C (some z129) es ks (sz - 1) (md + 1) := by rw [ell199]; exact hTH198.pL hDs none
          have hkp199 : gKeep (fun t => t = tg) σ (gup σ198 s9 (tg, gO 18 ((teF kk126 vv127 l_ rr198 pp_197 C s9).set 2 (.null)))) := hkp198.tr (gKeep.up (hTH198.2.1 _ hDs) rfl)
          generalize (gup σ198 s9 (tg, gO 18 ((teF kk126 vv127 l_ rr198 pp_197 C s9).set 2 (.null)))) = σ199 at hG hTH199 hkp199
          refine lv_aload_n hx hb dJ4_deleteEntry_148 rfl (lv_at hl 1 rfl) ?_
          refine g_get (C := RJ25) (T := TJ25) (N := 6) (v := .int (iI (C s9))) hx hb hts hown hK hG (hTH199.2.1 _ hDs) rfl in_J25 5 (by decide) q1185 rfl rfl dJ4_deleteEntry_149 ?_
          have hc200 := hTH199.2.2 _ hDs
          refine g_iconst hx hb dJ4_deleteEntry_152 ?_
          refine g_icmp_ne (tgt := 245) hx hb dJ4_deleteEntry_153 (by decide) (by omega) (by omega) (fun cq201 => ?_) (fun cq201 => ?_)
          · obtain ⟨lo_j202, hi_j202, hokj202, hsubj202⟩ : ∃ lo3 hi3, tOk (n - 1) (tAx (ps s9) ad) (tPd (ps s9) ps) ll199 rr198 pp_197 lo3 hi3 (some z129) ∧ ∀ z, tIn (n - 1) (tAx (ps s9) ad) (tPd (ps s9) ps) z → z ≠ s9 ∧ tIn n ad ps z := by
              have hdel := hok.del (e9 := (some z129)) (l' := ll199) (r' := rr198) (p' := pp_197) (rt' := (some z129)) hDs rfl (Or.inl ⟨hls, ho130.symm⟩)
                (fun y hy hyp => by
                      rw [ell199, va_up_ne _ _ hyp, if_neg (fun k => by have q5 := (hok.l1 hy k).2.2.2; rw [ho171] at q5; cases q5)])
                (fun y hy hyp => by
                      rw [err198, va_up_ne _ _ hyp, if_neg (fun k => by have q5 := (hok.r1 hy k).2.2.2; rw [ho171] at q5; cases q5)])
                (fun y hy hyp => by
                      rw [epp_197, va_up_ne _ _ hyp]
                      by_cases e : y = z129
                      · rw [e, epp_168, va_up_self, if_pos rfl]
                      · rw [epp_168, va_up_ne _ _ e, if_neg (fun k => e (Option.some.inj k).symm)])
                (by rw [if_pos (hok.p0 hDs ho171)])
              exact ⟨_, _, hdel.1, hdel.2⟩
            have hTHj202 := hTH199.sub (fun y hy => (hsubj202 y hy).2)
            have hD9d : tIn (n - 1) (tAx (ps s9) ad) (tPd (ps s9) ps) z129 := (tPd_in hDs rfl hok.1 hne_pd.symm).mpr hD_z129
            exact g_vret hx hb hr hlocks hQ hG hS (Nat.zero_le _) (Nat.zero_le _) ⟨rfl, (tAx (ps s9) ad), (tPd (ps s9) ps), kk126, vv127, ll199, rr198, pp_197, C, (some z129), lo_j202, hi_j202, hTHj202, hokj202, hkp199, fun i hi => by
                      rw [ekk126, evv127, hps]
                      by_cases e : i = ps a
                      · have e1 : tAx (ps a + 1) ad i = a := by unfold tAx; rw [if_pos (by omega), e, hDa.2]
                        have e2 : tAx (ps a) ad i = s9 := by unfold tAx; rw [if_neg (by omega), e, hs9]
                        rw [e1, e2, va_up_self, va_up_self]
                        exact ⟨rfl, rfl⟩
                      · have e1 : tAx (ps a + 1) ad i = tAx (ps a) ad i := by
                          unfold tAx
                          by_cases e3 : i < ps a
                          · rw [if_pos (by omega), if_pos e3]
                          · rw [if_neg (by omega), if_neg e3]
                        have e2 : tAx (ps a) ad i ≠ a := fun k => by
                          unfold tAx at k
                          by_cases e3 : i < ps a
                          · rw [if_pos e3] at k; have q := hok.1 i (by omega); rw [k] at q; omega
                          · rw [if_neg e3] at k; have q := hok.1 (i + 1) (by omega); rw [k] at q; omega
                        rw [e1, va_up_ne _ _ e2, va_up_ne _ _ e2]
                        exact ⟨rfl, rfl⟩⟩ dJ4_deleteEntry_245
          · obtain ⟨lo_j203, hi_j203, hokj203, hsubj203⟩ : ∃ lo3 hi3, tOk (n - 1) (tAx (ps s9) ad) (tPd (ps s9) ps) ll199 rr198 pp_197 lo3 hi3 (some z129) ∧ ∀ z, tIn (n - 1) (tAx (ps s9) ad) (tPd (ps s9) ps) z → z ≠ s9 ∧ tIn n ad ps z := by
              have hdel := hok.del (e9 := (some z129)) (l' := ll199) (r' := rr198) (p' := pp_197) (rt' := (some z129)) hDs rfl (Or.inl ⟨hls, ho130.symm⟩)
                (fun y hy hyp => by
                      rw [ell199, va_up_ne _ _ hyp, if_neg (fun k => by have q5 := (hok.l1 hy k).2.2.2; rw [ho171] at q5; cases q5)])
                (fun y hy hyp => by
                      rw [err198, va_up_ne _ _ hyp, if_neg (fun k => by have q5 := (hok.r1 hy k).2.2.2; rw [ho171] at q5; cases q5)])
                (fun y hy hyp => by
                      rw [epp_197, va_up_ne _ _ hyp]
                      by_cases e : y = z129
                      · rw [e, epp_168, va_up_self, if_pos rfl]
                      · rw [epp_168, va_up_ne _ _ e, if_neg (fun k => e (Option.some.inj k).symm)])
                (by rw [if_pos (hok.p0 hDs ho171)])
              exact ⟨_, _, hdel.1, hdel.2⟩
            have hTHj203 := hTH199.sub (fun y hy => (hsubj203 y hy).2)
            have hD9d : tIn (n - 1) (tAx (ps s9) ad) (tPd (ps s9) ps) z129 := (tPd_in hDs rfl hok.1 hne_pd.symm).mpr hD_z129
            refine lv_aload_n hx hb dJ4_deleteEntry_156 rfl (lv_at hl 2 rfl) ?_
            refine lv_aload_n hx hb dJ4_deleteEntry_157 rfl (lv_at hl 0 rfl) ?_
            refine g_callV (As := [.ref z129]) (rest := []) 1 hx hb hml hown hts hK hG hS hl.1 (mJ4_fixAfterDeletion l X σ199 tg mp (n - 1) (tAx (ps s9) ad) (tPd (ps s9) ps) kk126 vv127 ll199 rr198 pp_197 C (some z129) es ks (sz - 1) (md + 1) hTHj203 lo_j203 hi_j203 hokj203 (fun _ => False) z129 hD9d (fun z hz => hz.elim)) hTHj203.1 rfl q1551 q1553 qs41 q75 q1554 (by decide +kernel) rfl ⟨Nat.le_of_ble_eq_true rfl, Nat.le_of_ble_eq_true rfl⟩ ⟨Nat.le_of_ble_eq_true rfl, Nat.le_of_ble_eq_true rfl⟩ (Nat.le_of_ble_eq_true rfl) dJ4_deleteEntry_158 (kV (fun σr204 H locs hp hG hS => ?_))
            obtain ⟨l_205, r_205, p_205, C_205, rt_205, lo_205, hi_205, hTH205, hok205, kp205, hlf205⟩ := hp
            have hkp205 := hkp199.tr kp205
            refine lv_goto (tgt := 245) hx hb dJ4_deleteEntry_161 (by decide) ?_
            exact g_vret hx hb hr hlocks hQ hG hS (Nat.zero_le _) (Nat.zero_le _) ⟨rfl, (tAx (ps s9) ad), (tPd (ps s9) ps), kk126, vv127, l_205, r_205, p_205, C_205, rt_205, lo_205, hi_205, hTH205, hok205, hkp205, fun i hi => by
                      rw [ekk126, evv127, hps]
                      by_cases e : i = ps a
                      · have e1 : tAx (ps a + 1) ad i = a := by unfold tAx; rw [if_pos (by omega), e, hDa.2]
                        have e2 : tAx (ps a) ad i = s9 := by unfold tAx; rw [if_neg (by omega), e, hs9]
                        rw [e1, e2, va_up_self, va_up_self]
                        exact ⟨rfl, rfl⟩
                      · have e1 : tAx (ps a + 1) ad i = tAx (ps a) ad i := by
                          unfold tAx
                          by_cases e3 : i < ps a
                          · rw [if_pos (by omega), if_pos e3]
                          · rw [if_neg (by omega), if_neg e3]
                        have e2 : tAx (ps a) ad i ≠ a := fun k => by
                          unfold tAx at k
                          by_cases e3 : i < ps a
                          · rw [if_pos e3] at k; have q := hok.1 i (by omega); rw [k] at q; omega
                          · rw [if_neg e3] at k; have q := hok.1 (i + 1) (by omega); rw [k] at q; omega
                        rw [e1, va_up_ne _ _ e2, va_up_ne _ _ e2]
                        exact ⟨rfl, rfl⟩⟩ dJ4_deleteEntry_245

