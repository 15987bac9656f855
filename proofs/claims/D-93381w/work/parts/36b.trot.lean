set_option maxHeartbeats 4000000 in
theorem mJ4_rotateLeft (l : Launch) (X : gX) (σ : gS) (tg mp n : Nat) (ad ps : Nat → Nat) (K : Nat → Nat) (Vv l_ r_ p_ : Nat → Option Nat) (C : Nat → Int) (rt es ks : Option Nat) (sz md : Int) (hTH : TH σ tg mp (tIn n ad ps) K Vv l_ r_ p_ C rt es ks sz md) (lo hi : Nat → Nat) (hok : tOk n ad ps l_ r_ p_ lo hi rt) (a b : Nat) (hDa : tIn n ad ps a) (hab : r_ a = some b) : gMet l X yJ4_rotateLeft cJ4_rotateLeft 3 none 0 0 0 0 σ [.ref mp, .ref a] (oV (fun σ' => ∃ (l2 r2 p2 : Nat → Option Nat) (rt2 : Option Nat), TH σ' tg mp (tIn n ad ps) K Vv l2 r2 p2 C rt2 es ks sz md ∧ gKeep (fun t => t = tg) σ σ' ∧ (∀ z, tIn n ad ps z → l2 z = if z = b then some a else if l_ z = some a then some b else l_ z) ∧ (∀ z, tIn n ad ps z → r2 z = if z = a then l_ b else if r_ z = some a then some b else r_ z) ∧ (∀ z, tIn n ad ps z → p2 z = if z = b then p_ a else if z = a then some b else if l_ b = some z then some a else p_ z) ∧ (rt2 = if rt = some a then some b else rt))) := by
  refine gMet.of (by decide) (Nat.le_of_ble_eq_true rfl) ?_
  intro pp ee ss mm args below meth cd Q H locs ls hargs hx hb hr hlocks hml hown hnm hts hK hG hS hQ hl
  have hown : ss.vm.findClass RJ4 = some mm.cls := hown
  have hl : lv_has ls 3 [(0, .ref mp), (1, .ref a)] := hl
  have hkp : gKeep (fun t => t = tg) σ σ := gKeep.rf
  have hD_b := (hok.r1 hDa hab).1
  have k1 := hok.r1 hDa hab
  have k2 := hok.num hDa
  have k3 := hok.num hD_b
  have hne_ab : a ≠ b := tIn.ne (ps := ps) (by omega)
  refine lv_aload_n hx hb dJ4_rotateLeft_0 rfl (lv_at hl 1 rfl) ?_
  refine lv_ifnull hx hb dJ4_rotateLeft_1 ?_
  refine lv_aload_n hx hb dJ4_rotateLeft_4 rfl (lv_at hl 1 rfl) ?_
  have hf1 : r_ a = (some b) := by rw [hab]
  refine g_get (C := RJ25) (T := TJ25) (N := 6) (v := .ref b) hx hb hts hown hK hG (hTH.2.1 _ hDa) rfl in_J25 3 (by decide) q1181 rfl (congrArg (fun q9 => some (va_rf q9)) hf1) dJ4_rotateLeft_5 ?_
  refine lv_astore_n (lv' := [(2, .ref b), (0, .ref mp), (1, .ref a)]) hx hb dJ4_rotateLeft_8 rfl hl (by decide) rfl (fun ls hl => ?_)
  refine lv_aload_n hx hb dJ4_rotateLeft_9 rfl (lv_at hl 2 rfl) ?_
  refine lv_aload_n hx hb dJ4_rotateLeft_10 rfl (lv_at hl 0 rfl) ?_
  refine g_get (C := RJ25) (T := TJ25) (N := 6) (v := va_rf (l_ b)) hx hb hts hown hK hG (hTH.2.1 _ hD_b) rfl in_J25 2 (by decide) q1180 rfl rfl dJ4_rotateLeft_11 ?_
  refine g_put (C := RJ25) (T := TJ25) (N := 6) (ty0 := tyJ25) (v := va_rf (l_ b)) hx hb hts hown hK hG hS (hTH.2.1 _ hDa) rfl in_J25 tyJ25_ok nmJ25 3 (by decide) q1181 rfl (by decide) (nrf _) (frf _) (Nat.le_of_ble_eq_true rfl) dJ4_rotateLeft_14 (fun H locs hG hS => ?_)
  obtain ⟨rr2, err2⟩ : ∃ z : Nat → Option Nat, z = va_up r_ a (l_ b) := ⟨_, rfl⟩
  have hTH2 : TH (gup σ a (tg, gO 18 ((teF K Vv l_ r_ p_ C a).set 3 (va_rf (l_ b))))) tg mp (tIn n ad ps) K Vv l_ rr2 p_ C rt es ks sz md := by rw [err2]; exact hTH.pR hDa (l_ b)
  have hkp2 : gKeep (fun t => t = tg) σ (gup σ a (tg, gO 18 ((teF K Vv l_ r_ p_ C a).set 3 (va_rf (l_ b))))) := hkp.tr (gKeep.up (hTH.2.1 _ hDa) rfl)
  generalize (gup σ a (tg, gO 18 ((teF K Vv l_ r_ p_ C a).set 3 (va_rf (l_ b))))) = σ2 at hG hTH2 hkp2
  refine lv_aload_n hx hb dJ4_rotateLeft_17 rfl (lv_at hl 0 rfl) ?_
  refine g_get (C := RJ25) (T := TJ25) (N := 6) (v := va_rf (l_ b)) hx hb hts hown hK hG (hTH2.2.1 _ hD_b) rfl in_J25 2 (by decide) q1180 rfl rfl dJ4_rotateLeft_18 ?_
  refine g_ifnullR (tgt := 32) hx hb dJ4_rotateLeft_21 (by decide) (fun ho4 => ?_) (fun z3 ho4 => ?_)
  · refine lv_aload_n hx hb dJ4_rotateLeft_32 rfl (lv_at hl 0 rfl) ?_
    refine lv_aload_n hx hb dJ4_rotateLeft_33 rfl (lv_at hl 2 rfl) ?_
    refine g_get (C := RJ25) (T := TJ25) (N := 6) (v := va_rf (p_ a)) hx hb hts hown hK hG (hTH2.2.1 _ hDa) rfl in_J25 4 (by decide) q1183 rfl rfl dJ4_rotateLeft_34 ?_
    refine g_put (C := RJ25) (T := TJ25) (N := 6) (ty0 := tyJ25) (v := va_rf (p_ a)) hx hb hts hown hK hG hS (hTH2.2.1 _ hD_b) rfl in_J25 tyJ25_ok nmJ25 4 (by decide) q1183 rfl (by decide) (nrf _) (frf _) (Nat.le_of_ble_eq_true rfl) dJ4_rotateLeft_37 (fun H locs hG hS => ?_)
    obtain ⟨pp_5, epp_5⟩ : ∃ z : Nat → Option Nat, z = va_up p_ b (p_ a) := ⟨_, rfl⟩
    have hTH5 : TH (gup σ2 b (tg, gO 18 ((teF K Vv l_ rr2 p_ C b).set 4 (va_rf (p_ a))))) tg mp (tIn n ad ps) K Vv l_ rr2 pp_5 C rt es ks sz md := by rw [epp_5]; exact hTH2.pP hD_b (p_ a)
    have hkp5 : gKeep (fun t => t = tg) σ (gup σ2 b (tg, gO 18 ((teF K Vv l_ rr2 p_ C b).set 4 (va_rf (p_ a))))) := hkp2.tr (gKeep.up (hTH2.2.1 _ hD_b) rfl)
    generalize (gup σ2 b (tg, gO 18 ((teF K Vv l_ rr2 p_ C b).set 4 (va_rf (p_ a))))) = σ5 at hG hTH5 hkp5
    refine lv_aload_n hx hb dJ4_rotateLeft_40 rfl (lv_at hl 2 rfl) ?_
    have hf6 : pp_5 a = (p_ a) := by rw [epp_5, va_up_ne _ _ hne_ab]
    refine g_get (C := RJ25) (T := TJ25) (N := 6) (v := va_rf (p_ a)) hx hb hts hown hK hG (hTH5.2.1 _ hDa) rfl in_J25 4 (by decide) q1183 rfl (congrArg (fun q9 => some (va_rf q9)) hf6) dJ4_rotateLeft_41 ?_
    refine g_ifnonnullR (tgt := 55) hx hb dJ4_rotateLeft_44 (by decide) (fun z7 ho8 => ?_) (fun ho8 => ?_)
    · have hD_z7 := (hok.p1 hDa ho8).1
      have hne_aq : a ≠ z7 := fun e => by rcases (hok.p1 hDa ho8).2 with k | k <;> rw [← e] at k; (have := hok.lp hDa k; omega); (have := hok.rp hDa k; omega)
      have hne_bq : b ≠ z7 := fun e => by rcases (hok.p1 hDa ho8).2 with k | k <;> rw [← e] at k; (have := hok.l1 hD_b k; omega); (have := hok.r1 hD_b k; omega)
      refine lv_aload_n hx hb dJ4_rotateLeft_55 rfl (lv_at hl 2 rfl) ?_
      have hf9 : pp_5 a = (some z7) := by rw [epp_5, va_up_ne _ _ hne_ab, ho8]
      refine g_get (C := RJ25) (T := TJ25) (N := 6) (v := .ref z7) hx hb hts hown hK hG (hTH5.2.1 _ hDa) rfl in_J25 4 (by decide) q1183 rfl (congrArg (fun q9 => some (va_rf q9)) hf9) dJ4_rotateLeft_56 ?_
      refine g_get (C := RJ25) (T := TJ25) (N := 6) (v := va_rf (l_ z7)) hx hb hts hown hK hG (hTH5.2.1 _ hD_z7) rfl in_J25 2 (by decide) q1180 rfl rfl dJ4_rotateLeft_59 ?_
      refine lv_aload_n hx hb dJ4_rotateLeft_62 rfl (lv_at hl 2 rfl) ?_
      refine lv_acmp_ne (tgt := 77) (rx := (l_ z7)) (ry := (some a)) hx hb dJ4_rotateLeft_63 (by decide) (fun hq10 => ?_) (fun hq10 => ?_)
      · refine lv_aload_n hx hb dJ4_rotateLeft_77 rfl (lv_at hl 2 rfl) ?_
        have hf11 : pp_5 a = (some z7) := by rw [epp_5, va_up_ne _ _ hne_ab, ho8]
        refine g_get (C := RJ25) (T := TJ25) (N := 6) (v := .ref z7) hx hb hts hown hK hG (hTH5.2.1 _ hDa) rfl in_J25 4 (by decide) q1183 rfl (congrArg (fun q9 => some (va_rf q9)) hf11) dJ4_rotateLeft_78 ?_
        refine lv_aload_n hx hb dJ4_rotateLeft_81 rfl (lv_at hl 0 rfl) ?_
        refine g_put (C := RJ25) (T := TJ25) (N := 6) (ty0 := tyJ25) (v := .ref b) hx hb hts hown hK hG hS (hTH5.2.1 _ hD_z7) rfl in_J25 tyJ25_ok nmJ25 3 (by decide) q1181 rfl (by decide) rfl rfl (Nat.le_of_ble_eq_true rfl) dJ4_rotateLeft_82 (fun H locs hG hS => ?_)
        obtain ⟨rr12, err12⟩ : ∃ z : Nat → Option Nat, z = va_up rr2 z7 (some b) := ⟨_, rfl⟩
        have hTH12 : TH (gup σ5 z7 (tg, gO 18 ((teF K Vv l_ rr2 pp_5 C z7).set 3 (.ref b)))) tg mp (tIn n ad ps) K Vv l_ rr12 pp_5 C rt es ks sz md := by rw [err12]; exact hTH5.pR hD_z7 (some b)
        have hkp12 : gKeep (fun t => t = tg) σ (gup σ5 z7 (tg, gO 18 ((teF K Vv l_ rr2 pp_5 C z7).set 3 (.ref b)))) := hkp5.tr (gKeep.up (hTH5.2.1 _ hD_z7) rfl)
        generalize (gup σ5 z7 (tg, gO 18 ((teF K Vv l_ rr2 pp_5 C z7).set 3 (.ref b)))) = σ12 at hG hTH12 hkp12
        refine lv_aload_n hx hb dJ4_rotateLeft_85 rfl (lv_at hl 0 rfl) ?_
        refine lv_aload_n hx hb dJ4_rotateLeft_86 rfl (lv_at hl 2 rfl) ?_
        refine g_put (C := RJ25) (T := TJ25) (N := 6) (ty0 := tyJ25) (v := .ref a) hx hb hts hown hK hG hS (hTH12.2.1 _ hD_b) rfl in_J25 tyJ25_ok nmJ25 2 (by decide) q1180 rfl (by decide) rfl rfl (Nat.le_of_ble_eq_true rfl) dJ4_rotateLeft_87 (fun H locs hG hS => ?_)
        obtain ⟨ll13, ell13⟩ : ∃ z : Nat → Option Nat, z = va_up l_ b (some a) := ⟨_, rfl⟩
        have hTH13 : TH (gup σ12 b (tg, gO 18 ((teF K Vv l_ rr12 pp_5 C b).set 2 (.ref a)))) tg mp (tIn n ad ps) K Vv ll13 rr12 pp_5 C rt es ks sz md := by rw [ell13]; exact hTH12.pL hD_b (some a)
        have hkp13 : gKeep (fun t => t = tg) σ (gup σ12 b (tg, gO 18 ((teF K Vv l_ rr12 pp_5 C b).set 2 (.ref a)))) := hkp12.tr (gKeep.up (hTH12.2.1 _ hD_b) rfl)
        generalize (gup σ12 b (tg, gO 18 ((teF K Vv l_ rr12 pp_5 C b).set 2 (.ref a)))) = σ13 at hG hTH13 hkp13
        refine lv_aload_n hx hb dJ4_rotateLeft_90 rfl (lv_at hl 2 rfl) ?_
        refine lv_aload_n hx hb dJ4_rotateLeft_91 rfl (lv_at hl 0 rfl) ?_
        refine g_put (C := RJ25) (T := TJ25) (N := 6) (ty0 := tyJ25) (v := .ref b) hx hb hts hown hK hG hS (hTH13.2.1 _ hDa) rfl in_J25 tyJ25_ok nmJ25 4 (by decide) q1183 rfl (by decide) rfl rfl (Nat.le_of_ble_eq_true rfl) dJ4_rotateLeft_92 (fun H locs hG hS => ?_)
        obtain ⟨pp_14, epp_14⟩ : ∃ z : Nat → Option Nat, z = va_up pp_5 a (some b) := ⟨_, rfl⟩
        have hTH14 : TH (gup σ13 a (tg, gO 18 ((teF K Vv ll13 rr12 pp_5 C a).set 4 (.ref b)))) tg mp (tIn n ad ps) K Vv ll13 rr12 pp_14 C rt es ks sz md := by rw [epp_14]; exact hTH13.pP hDa (some b)
        have hkp14 : gKeep (fun t => t = tg) σ (gup σ13 a (tg, gO 18 ((teF K Vv ll13 rr12 pp_5 C a).set 4 (.ref b)))) := hkp13.tr (gKeep.up (hTH13.2.1 _ hDa) rfl)
        generalize (gup σ13 a (tg, gO 18 ((teF K Vv ll13 rr12 pp_5 C a).set 4 (.ref b)))) = σ14 at hG hTH14 hkp14
        exact g_vret hx hb hr hlocks hQ hG hS (Nat.zero_le _) (Nat.zero_le _) ⟨rfl, ll13, rr12, pp_14, rt, hTH14, hkp14, (fun z hz => by
                  rw [ell13]
                  by_cases e : z = b
                  · rw [e, va_up_self, if_pos rfl]
                  · rw [va_up_ne _ _ e, if_neg e, if_neg (fun k => by have q5 := (hok.l1 hz k).2.2.2; rw [ho8] at q5; have q6 := Option.some.inj q5; rw [← q6] at k; exact hq10 k)]), (fun z hz => by
                  by_cases e : z = a
                  · rw [e, err12, va_up_ne _ _ hne_aq, err2, va_up_self, if_pos rfl]
                  · by_cases e2 : z = z7
                    · rw [e2, err12, va_up_self, if_neg hne_aq.symm, if_pos ((hok.p1 hDa ho8).2.resolve_left hq10)]
                    · rw [err12, va_up_ne _ _ e2, err2, va_up_ne _ _ e, if_neg e, if_neg (fun k => e2 (by have q5 := (hok.r1 hz k).2.2.2; rw [ho8] at q5; exact (Option.some.inj q5).symm))]), (fun z hz => by
                  by_cases e : z = b
                  · rw [e, epp_14, va_up_ne _ _ hne_ab.symm, epp_5, va_up_self, if_pos rfl]
                  · by_cases e2 : z = a
                    · rw [e2, epp_14, va_up_self, if_neg hne_ab, if_pos rfl]
                    · rw [epp_14, va_up_ne _ _ e2, epp_5, va_up_ne _ _ e, if_neg e, if_neg e2, if_neg (fun k => by rw [ho4] at k; cases k)]), (by rw [if_neg (fun k => by have q5 := (hok.rx k).2.2.2; rw [ho8] at q5; cases q5)])⟩ dJ4_rotateLeft_95
      · refine lv_aload_n hx hb dJ4_rotateLeft_66 rfl (lv_at hl 2 rfl) ?_
        have hf15 : pp_5 a = (some z7) := by rw [epp_5, va_up_ne _ _ hne_ab, ho8]
        refine g_get (C := RJ25) (T := TJ25) (N := 6) (v := .ref z7) hx hb hts hown hK hG (hTH5.2.1 _ hDa) rfl in_J25 4 (by decide) q1183 rfl (congrArg (fun q9 => some (va_rf q9)) hf15) dJ4_rotateLeft_67 ?_
        refine lv_aload_n hx hb dJ4_rotateLeft_70 rfl (lv_at hl 0 rfl) ?_
        refine g_put (C := RJ25) (T := TJ25) (N := 6) (ty0 := tyJ25) (v := .ref b) hx hb hts hown hK hG hS (hTH5.2.1 _ hD_z7) rfl in_J25 tyJ25_ok nmJ25 2 (by decide) q1180 rfl (by decide) rfl rfl (Nat.le_of_ble_eq_true rfl) dJ4_rotateLeft_71 (fun H locs hG hS => ?_)
        obtain ⟨ll16, ell16⟩ : ∃ z : Nat → Option Nat, z = va_up l_ z7 (some b) := ⟨_, rfl⟩
        have hTH16 : TH (gup σ5 z7 (tg, gO 18 ((teF K Vv l_ rr2 pp_5 C z7).set 2 (.ref b)))) tg mp (tIn n ad ps) K Vv ll16 rr2 pp_5 C rt es ks sz md := by rw [ell16]; exact hTH5.pL hD_z7 (some b)
        have hkp16 : gKeep (fun t => t = tg) σ (gup σ5 z7 (tg, gO 18 ((teF K Vv l_ rr2 pp_5 C z7).set 2 (.ref b)))) := hkp5.tr (gKeep.up (hTH5.2.1 _ hD_z7) rfl)
        generalize (gup σ5 z7 (tg, gO 18 ((teF K Vv l_ rr2 pp_5 C z7).set 2 (.ref b)))) = σ16 at hG hTH16 hkp16
        refine lv_goto (tgt := 85) hx hb dJ4_rotateLeft_74 (by decide) ?_
        refine lv_aload_n hx hb dJ4_rotateLeft_85 rfl (lv_at hl 0 rfl) ?_
        refine lv_aload_n hx hb dJ4_rotateLeft_86 rfl (lv_at hl 2 rfl) ?_
        refine g_put (C := RJ25) (T := TJ25) (N := 6) (ty0 := tyJ25) (v := .ref a) hx hb hts hown hK hG hS (hTH16.2.1 _ hD_b) rfl in_J25 tyJ25_ok nmJ25 2 (by decide) q1180 rfl (by decide) rfl rfl (Nat.le_of_ble_eq_true rfl) dJ4_rotateLeft_87 (fun H locs hG hS => ?_)
        obtain ⟨ll17, ell17⟩ : ∃ z : Nat → Option Nat, z = va_up ll16 b (some a) := ⟨_, rfl⟩
        have hTH17 : TH (gup σ16 b (tg, gO 18 ((teF K Vv ll16 rr2 pp_5 C b).set 2 (.ref a)))) tg mp (tIn n ad ps) K Vv ll17 rr2 pp_5 C rt es ks sz md := by rw [ell17]; exact hTH16.pL hD_b (some a)
        have hkp17 : gKeep (fun t => t = tg) σ (gup σ16 b (tg, gO 18 ((teF K Vv ll16 rr2 pp_5 C b).set 2 (.ref a)))) := hkp16.tr (gKeep.up (hTH16.2.1 _ hD_b) rfl)
        generalize (gup σ16 b (tg, gO 18 ((teF K Vv ll16 rr2 pp_5 C b).set 2 (.ref a)))) = σ17 at hG hTH17 hkp17
        refine lv_aload_n hx hb dJ4_rotateLeft_90 rfl (lv_at hl 2 rfl) ?_
        refine lv_aload_n hx hb dJ4_rotateLeft_91 rfl (lv_at hl 0 rfl) ?_
        refine g_put (C := RJ25) (T := TJ25) (N := 6) (ty0 := tyJ25) (v := .ref b) hx hb hts hown hK hG hS (hTH17.2.1 _ hDa) rfl in_J25 tyJ25_ok nmJ25 4 (by decide) q1183 rfl (by decide) rfl rfl (Nat.le_of_ble_eq_true rfl) dJ4_rotateLeft_92 (fun H locs hG hS => ?_)
        obtain ⟨pp_18, epp_18⟩ : ∃ z : Nat → Option Nat, z = va_up pp_5 a (some b) := ⟨_, rfl⟩
        have hTH18 : TH (gup σ17 a (tg, gO 18 ((teF K Vv ll17 rr2 pp_5 C a).set 4 (.ref b)))) tg mp (tIn n ad ps) K Vv ll17 rr2 pp_18 C rt es ks sz md := by rw [epp_18]; exact hTH17.pP hDa (some b)
        have hkp18 : gKeep (fun t => t = tg) σ (gup σ17 a (tg, gO 18 ((teF K Vv ll17 rr2 pp_5 C a).set 4 (.ref b)))) := hkp17.tr (gKeep.up (hTH17.2.1 _ hDa) rfl)
        generalize (gup σ17 a (tg, gO 18 ((teF K Vv ll17 rr2 pp_5 C a).set 4 (.ref b)))) = σ18 at hG hTH18 hkp18
        exact g_vret hx hb hr hlocks hQ hG hS (Nat.zero_le _) (Nat.zero_le _) ⟨rfl, ll17, rr2, pp_18, rt, hTH18, hkp18, (fun z hz => by
                  rw [ell17]
                  by_cases e : z = b
                  · rw [e, va_up_self, if_pos rfl]
                  · rw [va_up_ne _ _ e, if_neg e, ell16]
                    by_cases e2 : z = z7
                    · rw [e2, va_up_self, if_pos hq10]
                    · rw [va_up_ne _ _ e2, if_neg (fun k => e2 (by have q5 := (hok.l1 hz k).2.2.2; rw [ho8] at q5; exact (Option.some.inj q5).symm))]), (fun z hz => by
                  by_cases e : z = a
                  · rw [e, err2, va_up_self, if_pos rfl]
                  · rw [err2, va_up_ne _ _ e, if_neg e, if_neg (fun k => by have q5 := (hok.r1 hz k).2.2.2; rw [ho8] at q5; have q6 := Option.some.inj q5; rw [← q6] at k; have q7 := hok.r1 hD_z7 k; have q8 := hok.l1 hD_z7 hq10; have q9 := hok.num hDa; omega)]), (fun z hz => by
                  by_cases e : z = b
                  · rw [e, epp_18, va_up_ne _ _ hne_ab.symm, epp_5, va_up_self, if_pos rfl]
                  · by_cases e2 : z = a
                    · rw [e2, epp_18, va_up_self, if_neg hne_ab, if_pos rfl]
                    · rw [epp_18, va_up_ne _ _ e2, epp_5, va_up_ne _ _ e, if_neg e, if_neg e2, if_neg (fun k => by rw [ho4] at k; cases k)]), (by rw [if_neg (fun k => by have q5 := (hok.rx k).2.2.2; rw [ho8] at q5; cases q5)])⟩ dJ4_rotateLeft_95
    · refine lv_aload_n hx hb dJ4_rotateLeft_47 rfl (lv_at hl 1 rfl) ?_
      refine lv_aload_n hx hb dJ4_rotateLeft_48 rfl (lv_at hl 0 rfl) ?_
      refine g_put (C := RJ4) (T := TJ4) (N := 9) (ty0 := tyJ4) (v := .ref b) hx hb hts hown hK hG hS hTH5.1 rfl in_J4 tyJ4_ok nmJ4 3 (by decide) q146 rfl (by decide) rfl rfl (Nat.le_of_ble_eq_true rfl) dJ4_rotateLeft_49 (fun H locs hG hS => ?_)
      have hTH19 : TH (gup σ5 mp (tg, gO 13 ((tmF rt es ks sz md).set 3 (.ref b)))) tg mp (tIn n ad ps) K Vv l_ rr2 pp_5 C (some b) es ks sz md := hTH5.map rfl
      have hkp19 : gKeep (fun t => t = tg) σ (gup σ5 mp (tg, gO 13 ((tmF rt es ks sz md).set 3 (.ref b)))) := hkp5.tr (gKeep.up hTH5.1 rfl)
      generalize (gup σ5 mp (tg, gO 13 ((tmF rt es ks sz md).set 3 (.ref b)))) = σ19 at hG hTH19 hkp19
      refine lv_goto (tgt := 85) hx hb dJ4_rotateLeft_52 (by decide) ?_
      refine lv_aload_n hx hb dJ4_rotateLeft_85 rfl (lv_at hl 0 rfl) ?_
      refine lv_aload_n hx hb dJ4_rotateLeft_86 rfl (lv_at hl 2 rfl) ?_
      refine g_put (C := RJ25) (T := TJ25) (N := 6) (ty0 := tyJ25) (v := .ref a) hx hb hts hown hK hG hS (hTH19.2.1 _ hD_b) rfl in_J25 tyJ25_ok nmJ25 2 (by decide) q1180 rfl (by decide) rfl rfl (Nat.le_of_ble_eq_true rfl) dJ4_rotateLeft_87 (fun H locs hG hS => ?_)
      obtain ⟨ll20, ell20⟩ : ∃ z : Nat → Option Nat, z = va_up l_ b (some a) := ⟨_, rfl⟩
      have hTH20 : TH (gup σ19 b (tg, gO 18 ((teF K Vv l_ rr2 pp_5 C b).set 2 (.ref a)))) tg mp (tIn n ad ps) K Vv ll20 rr2 pp_5 C (some b) es ks sz md := by rw [ell20]; exact hTH19.pL hD_b (some a)
      have hkp20 : gKeep (fun t => t = tg) σ (gup σ19 b (tg, gO 18 ((teF K Vv l_ rr2 pp_5 C b).set 2 (.ref a)))) := hkp19.tr (gKeep.up (hTH19.2.1 _ hD_b) rfl)
      generalize (gup σ19 b (tg, gO 18 ((teF K Vv l_ rr2 pp_5 C b).set 2 (.ref a)))) = σ20 at hG hTH20 hkp20
      refine lv_aload_n hx hb dJ4_rotateLeft_90 rfl (lv_at hl 2 rfl) ?_
      refine lv_aload_n hx hb dJ4_rotateLeft_91 rfl (lv_at hl 0 rfl) ?_
      refine g_put (C := RJ25) (T := TJ25) (N := 6) (ty0 := tyJ25) (v := .ref b) hx hb hts hown hK hG hS (hTH20.2.1 _ hDa) rfl in_J25 tyJ25_ok nmJ25 4 (by decide) q1183 rfl (by decide) rfl rfl (Nat.le_of_ble_eq_true rfl) dJ4_rotateLeft_92 (fun H locs hG hS => ?_)
      obtain ⟨pp_21, epp_21⟩ : ∃ z : Nat → Option Nat, z = va_up pp_5 a (some b) := ⟨_, rfl⟩
      have hTH21 : TH (gup σ20 a (tg, gO 18 ((teF K Vv ll20 rr2 pp_5 C a).set 4 (.ref b)))) tg mp (tIn n ad ps) K Vv ll20 rr2 pp_21 C (some b) es ks sz md := by rw [epp_21]; exact hTH20.pP hDa (some b)
      have hkp21 : gKeep (fun t => t = tg) σ (gup σ20 a (tg, gO 18 ((teF K Vv ll20 rr2 pp_5 C a).set 4 (.ref b)))) := hkp20.tr (gKeep.up (hTH20.2.1 _ hDa) rfl)
      generalize (gup σ20 a (tg, gO 18 ((teF K Vv ll20 rr2 pp_5 C a).set 4 (.ref b)))) = σ21 at hG hTH21 hkp21
      exact g_vret hx hb hr hlocks hQ hG hS (Nat.zero_le _) (Nat.zero_le _) ⟨rfl, ll20, rr2, pp_21, (some b), hTH21, hkp21, (fun z hz => by
                rw [ell20]
                by_cases e : z = b
                · rw [e, va_up_self, if_pos rfl]
                · rw [va_up_ne _ _ e, if_neg e, if_neg (fun k => by have q5 := (hok.l1 hz k).2.2.2; rw [ho8] at q5; cases q5)]), (fun z hz => by
                by_cases e : z = a
                · rw [e, err2, va_up_self, if_pos rfl]
                · rw [err2, va_up_ne _ _ e, if_neg e, if_neg (fun k => by have q5 := (hok.r1 hz k).2.2.2; rw [ho8] at q5; cases q5)]), (fun z hz => by
                by_cases e : z = b
                · rw [e, epp_21, va_up_ne _ _ hne_ab.symm, epp_5, va_up_self, if_pos rfl]
                · by_cases e2 : z = a
                  · rw [e2, epp_21, va_up_self, if_neg hne_ab, if_pos rfl]
                  · rw [epp_21, va_up_ne _ _ e2, epp_5, va_up_ne _ _ e, if_neg e, if_neg e2, if_neg (fun k => by rw [ho4] at k; cases k)]), (by rw [if_pos (hok.p0 hDa ho8)])⟩ dJ4_rotateLeft_95
  · have hD_z3 := (hok.l1 hD_b ho4).1
    have k4 := hok.l1 hD_b ho4
    have k5 := hok.num k4.1
    have hne_ad : a ≠ z3 := tIn.ne (ps := ps) (by omega)
    have hne_bd : b ≠ z3 := tIn.ne (ps := ps) (by omega)
    refine lv_aload_n hx hb dJ4_rotateLeft_24 rfl (lv_at hl 0 rfl) ?_
    have hf22 : l_ b = (some z3) := by rw [ho4]
    refine g_get (C := RJ25) (T := TJ25) (N := 6) (v := .ref z3) hx hb hts hown hK hG (hTH2.2.1 _ hD_b) rfl in_J25 2 (by decide) q1180 rfl (congrArg (fun q9 => some (va_rf q9)) hf22) dJ4_rotateLeft_25 ?_
    refine lv_aload_n hx hb dJ4_rotateLeft_28 rfl (lv_at hl 2 rfl) ?_
    refine g_put (C := RJ25) (T := TJ25) (N := 6) (ty0 := tyJ25) (v := .ref a) hx hb hts hown hK hG hS (hTH2.2.1 _ hD_z3) rfl in_J25 tyJ25_ok nmJ25 4 (by decide) q1183 rfl (by decide) rfl rfl (Nat.le_of_ble_eq_true rfl) dJ4_rotateLeft_29 (fun H locs hG hS => ?_)
    obtain ⟨pp_23, epp_23⟩ : ∃ z : Nat → Option Nat, z = va_up p_ z3 (some a) := ⟨_, rfl⟩
    have hTH23 : TH (gup σ2 z3 (tg, gO 18 ((teF K Vv l_ rr2 p_ C z3).set 4 (.ref a)))) tg mp (tIn n ad ps) K Vv l_ rr2 pp_23 C rt es ks sz md := by rw [epp_23]; exact hTH2.pP hD_z3 (some a)
    have hkp23 : gKeep (fun t => t = tg) σ (gup σ2 z3 (tg, gO 18 ((teF K Vv l_ rr2 p_ C z3).set 4 (.ref a)))) := hkp2.tr (gKeep.up (hTH2.2.1 _ hD_z3) rfl)
    generalize (gup σ2 z3 (tg, gO 18 ((teF K Vv l_ rr2 p_ C z3).set 4 (.ref a)))) = σ23 at hG hTH23 hkp23
    refine lv_aload_n hx hb dJ4_rotateLeft_32 rfl (lv_at hl 0 rfl) ?_
    refine lv_aload_n hx hb dJ4_rotateLeft_33 rfl (lv_at hl 2 rfl) ?_
    have hf24 : pp_23 a = (p_ a) := by rw [epp_23, va_up_ne _ _ hne_ad]
    refine g_get (C := RJ25) (T := TJ25) (N := 6) (v := va_rf (p_ a)) hx hb hts hown hK hG (hTH23.2.1 _ hDa) rfl in_J25 4 (by decide) q1183 rfl (congrArg (fun q9 => some (va_rf q9)) hf24) dJ4_rotateLeft_34 ?_
    refine g_put (C := RJ25) (T := TJ25) (N := 6) (ty0 := tyJ25) (v := va_rf (p_ a)) hx hb hts hown hK hG hS (hTH23.2.1 _ hD_b) rfl in_J25 tyJ25_ok nmJ25 4 (by decide) q1183 rfl (by decide) (nrf _) (frf _) (Nat.le_of_ble_eq_true rfl) dJ4_rotateLeft_37 (fun H locs hG hS => ?_)
    obtain ⟨pp_25, epp_25⟩ : ∃ z : Nat → Option Nat, z = va_up pp_23 b (p_ a) := ⟨_, rfl⟩
    have hTH25 : TH (gup σ23 b (tg, gO 18 ((teF K Vv l_ rr2 pp_23 C b).set 4 (va_rf (p_ a))))) tg mp (tIn n ad ps) K Vv l_ rr2 pp_25 C rt es ks sz md := by rw [epp_25]; exact hTH23.pP hD_b (p_ a)
    have hkp25 : gKeep (fun t => t = tg) σ (gup σ23 b (tg, gO 18 ((teF K Vv l_ rr2 pp_23 C b).set 4 (va_rf (p_ a))))) := hkp23.tr (gKeep.up (hTH23.2.1 _ hD_b) rfl)
    generalize (gup σ23 b (tg, gO 18 ((teF K Vv l_ rr2 pp_23 C b).set 4 (va_rf (p_ a))))) = σ25 at hG hTH25 hkp25
    refine lv_aload_n hx hb dJ4_rotateLeft_40 rfl (lv_at hl 2 rfl) ?_
    have hf26 : pp_25 a = (p_ a) := by rw [epp_25, va_up_ne _ _ hne_ab, epp_23, va_up_ne _ _ hne_ad]
    refine g_get (C := RJ25) (T := TJ25) (N := 6) (v := va_rf (p_ a)) hx hb hts hown hK hG (hTH25.2.1 _ hDa) rfl in_J25 4 (by decide) q1183 rfl (congrArg (fun q9 => some (va_rf q9)) hf26) dJ4_rotateLeft_41 ?_
    refine g_ifnonnullR (tgt := 55) hx hb dJ4_rotateLeft_44 (by decide) (fun z27 ho28 => ?_) (fun ho28 => ?_)
    · have hD_z27 := (hok.p1 hDa ho28).1
      have hne_aq : a ≠ z27 := fun e => by rcases (hok.p1 hDa ho28).2 with k | k <;> rw [← e] at k; (have := hok.lp hDa k; omega); (have := hok.rp hDa k; omega)
      have hne_bq : b ≠ z27 := fun e => by rcases (hok.p1 hDa ho28).2 with k | k <;> rw [← e] at k; (have := hok.l1 hD_b k; omega); (have := hok.r1 hD_b k; omega)
      refine lv_aload_n hx hb dJ4_rotateLeft_55 rfl (lv_at hl 2 rfl) ?_
      have hf29 : pp_25 a = (some z27) := by rw [epp_25, va_up_ne _ _ hne_ab, epp_23, va_up_ne _ _ hne_ad, ho28]
      refine g_get (C := RJ25) (T := TJ25) (N := 6) (v := .ref z27) hx hb hts hown hK hG (hTH25.2.1 _ hDa) rfl in_J25 4 (by decide) q1183 rfl (congrArg (fun q9 => some (va_rf q9)) hf29) dJ4_rotateLeft_56 ?_
      refine g_get (C := RJ25) (T := TJ25) (N := 6) (v := va_rf (l_ z27)) hx hb hts hown hK hG (hTH25.2.1 _ hD_z27) rfl in_J25 2 (by decide) q1180 rfl rfl dJ4_rotateLeft_59 ?_
      refine lv_aload_n hx hb dJ4_rotateLeft_62 rfl (lv_at hl 2 rfl) ?_
      refine lv_acmp_ne (tgt := 77) (rx := (l_ z27)) (ry := (some a)) hx hb dJ4_rotateLeft_63 (by decide) (fun hq30 => ?_) (fun hq30 => ?_)
      · refine lv_aload_n hx hb dJ4_rotateLeft_77 rfl (lv_at hl 2 rfl) ?_
        have hf31 : pp_25 a = (some z27) := by rw [epp_25, va_up_ne _ _ hne_ab, epp_23, va_up_ne _ _ hne_ad, ho28]
        refine g_get (C := RJ25) (T := TJ25) (N := 6) (v := .ref z27) hx hb hts hown hK hG (hTH25.2.1 _ hDa) rfl in_J25 4 (by decide) q1183 rfl (congrArg (fun q9 => some (va_rf q9)) hf31) dJ4_rotateLeft_78 ?_
        refine lv_aload_n hx hb dJ4_rotateLeft_81 rfl (lv_at hl 0 rfl) ?_
        refine g_put (C := RJ25) (T := TJ25) (N := 6) (ty0 := tyJ25) (v := .ref b) hx hb hts hown hK hG hS (hTH25.2.1 _ hD_z27) rfl in_J25 tyJ25_ok nmJ25 3 (by decide) q1181 rfl (by decide) rfl rfl (Nat.le_of_ble_eq_true rfl) dJ4_rotateLeft_82 (fun H locs hG hS => ?_)
        obtain ⟨rr32, err32⟩ : ∃ z : Nat → Option Nat, z = va_up rr2 z27 (some b) := ⟨_, rfl⟩
        have hTH32 : TH (gup σ25 z27 (tg, gO 18 ((teF K Vv l_ rr2 pp_25 C z27).set 3 (.ref b)))) tg mp (tIn n ad ps) K Vv l_ rr32 pp_25 C rt es ks sz md := by rw [err32]; exact hTH25.pR hD_z27 (some b)
        have hkp32 : gKeep (fun t => t = tg) σ (gup σ25 z27 (tg, gO 18 ((teF K Vv l_ rr2 pp_25 C z27).set 3 (.ref b)))) := hkp25.tr (gKeep.up (hTH25.2.1 _ hD_z27) rfl)
        generalize (gup σ25 z27 (tg, gO 18 ((teF K Vv l_ rr2 pp_25 C z27).set 3 (.ref b)))) = σ32 at hG hTH32 hkp32
        refine lv_aload_n hx hb dJ4_rotateLeft_85 rfl (lv_at hl 0 rfl) ?_
        refine lv_aload_n hx hb dJ4_rotateLeft_86 rfl (lv_at hl 2 rfl) ?_
        refine g_put (C := RJ25) (T := TJ25) (N := 6) (ty0 := tyJ25) (v := .ref a) hx hb hts hown hK hG hS (hTH32.2.1 _ hD_b) rfl in_J25 tyJ25_ok nmJ25 2 (by decide) q1180 rfl (by decide) rfl rfl (Nat.le_of_ble_eq_true rfl) dJ4_rotateLeft_87 (fun H locs hG hS => ?_)
        obtain ⟨ll33, ell33⟩ : ∃ z : Nat → Option Nat, z = va_up l_ b (some a) := ⟨_, rfl⟩
        have hTH33 : TH (gup σ32 b (tg, gO 18 ((teF K Vv l_ rr32 pp_25 C b).set 2 (.ref a)))) tg mp (tIn n ad ps) K Vv ll33 rr32 pp_25 C rt es ks sz md := by rw [ell33]; exact hTH32.pL hD_b (some a)
        have hkp33 : gKeep (fun t => t = tg) σ (gup σ32 b (tg, gO 18 ((teF K Vv l_ rr32 pp_25 C b).set 2 (.ref a)))) := hkp32.tr (gKeep.up (hTH32.2.1 _ hD_b) rfl)
        generalize (gup σ32 b (tg, gO 18 ((teF K Vv l_ rr32 pp_25 C b).set 2 (.ref a)))) = σ33 at hG hTH33 hkp33
        refine lv_aload_n hx hb dJ4_rotateLeft_90 rfl (lv_at hl 2 rfl) ?_
        refine lv_aload_n hx hb dJ4_rotateLeft_91 rfl (lv_at hl 0 rfl) ?_
        refine g_put (C := RJ25) (T := TJ25) (N := 6) (ty0 := tyJ25) (v := .ref b) hx hb hts hown hK hG hS (hTH33.2.1 _ hDa) rfl in_J25 tyJ25_ok nmJ25 4 (by decide) q1183 rfl (by decide) rfl rfl (Nat.le_of_ble_eq_true rfl) dJ4_rotateLeft_92 (fun H locs hG hS => ?_)
        obtain ⟨pp_34, epp_34⟩ : ∃ z : Nat → Option Nat, z = va_up pp_25 a (some b) := ⟨_, rfl⟩
        have hTH34 : TH (gup σ33 a (tg, gO 18 ((teF K Vv ll33 rr32 pp_25 C a).set 4 (.ref b)))) tg mp (tIn n ad ps) K Vv ll33 rr32 pp_34 C rt es ks sz md := by rw [epp_34]; exact hTH33.pP hDa (some b)
        have hkp34 : gKeep (fun t => t = tg) σ (gup σ33 a (tg, gO 18 ((teF K Vv ll33 rr32 pp_25 C a).set 4 (.ref b)))) := hkp33.tr (gKeep.up (hTH33.2.1 _ hDa) rfl)
        generalize (gup σ33 a (tg, gO 18 ((teF K Vv ll33 rr32 pp_25 C a).set 4 (.ref b)))) = σ34 at hG hTH34 hkp34
        exact g_vret hx hb hr hlocks hQ hG hS (Nat.zero_le _) (Nat.zero_le _) ⟨rfl, ll33, rr32, pp_34, rt, hTH34, hkp34, (fun z hz => by
                  rw [ell33]
                  by_cases e : z = b
                  · rw [e, va_up_self, if_pos rfl]
                  · rw [va_up_ne _ _ e, if_neg e, if_neg (fun k => by have q5 := (hok.l1 hz k).2.2.2; rw [ho28] at q5; have q6 := Option.some.inj q5; rw [← q6] at k; exact hq30 k)]), (fun z hz => by
                  by_cases e : z = a
                  · rw [e, err32, va_up_ne _ _ hne_aq, err2, va_up_self, if_pos rfl]
                  · by_cases e2 : z = z27
                    · rw [e2, err32, va_up_self, if_neg hne_aq.symm, if_pos ((hok.p1 hDa ho28).2.resolve_left hq30)]
                    · rw [err32, va_up_ne _ _ e2, err2, va_up_ne _ _ e, if_neg e, if_neg (fun k => e2 (by have q5 := (hok.r1 hz k).2.2.2; rw [ho28] at q5; exact (Option.some.inj q5).symm))]), (fun z hz => by
                  by_cases e : z = b
                  · rw [e, epp_34, va_up_ne _ _ hne_ab.symm, epp_25, va_up_self, if_pos rfl]
                  · by_cases e2 : z = a
                    · rw [e2, epp_34, va_up_self, if_neg hne_ab, if_pos rfl]
                    · rw [epp_34, va_up_ne _ _ e2, epp_25, va_up_ne _ _ e, if_neg e, if_neg e2, epp_23]
                      by_cases e3 : z = z3
                      · rw [e3, va_up_self, if_pos ho4]
                      · rw [va_up_ne _ _ e3, if_neg (fun k => e3 (by rw [ho4] at k; exact (Option.some.inj k).symm))]), (by rw [if_neg (fun k => by have q5 := (hok.rx k).2.2.2; rw [ho28] at q5; cases q5)])⟩ dJ4_rotateLeft_95
      · refine lv_aload_n hx hb dJ4_rotateLeft_66 rfl (lv_at hl 2 rfl) ?_
        have hf35 : pp_25 a = (some z27) := by rw [epp_25, va_up_ne _ _ hne_ab, epp_23, va_up_ne _ _ hne_ad, ho28]
        refine g_get (C := RJ25) (T := TJ25) (N := 6) (v := .ref z27) hx hb hts hown hK hG (hTH25.2.1 _ hDa) rfl in_J25 4 (by decide) q1183 rfl (congrArg (fun q9 => some (va_rf q9)) hf35) dJ4_rotateLeft_67 ?_
        refine lv_aload_n hx hb dJ4_rotateLeft_70 rfl (lv_at hl 0 rfl) ?_
        refine g_put (C := RJ25) (T := TJ25) (N := 6) (ty0 := tyJ25) (v := .ref b) hx hb hts hown hK hG hS (hTH25.2.1 _ hD_z27) rfl in_J25 tyJ25_ok nmJ25 2 (by decide) q1180 rfl (by decide) rfl rfl (Nat.le_of_ble_eq_true rfl) dJ4_rotateLeft_71 (fun H locs hG hS => ?_)
        obtain ⟨ll36, ell36⟩ : ∃ z : Nat → Option Nat, z = va_up l_ z27 (some b) := ⟨_, rfl⟩
        have hTH36 : TH (gup σ25 z27 (tg, gO 18 ((teF K Vv l_ rr2 pp_25 C z27).set 2 (.ref b)))) tg mp (tIn n ad ps) K Vv ll36 rr2 pp_25 C rt es ks sz md := by rw [ell36]; exact hTH25.pL hD_z27 (some b)
        have hkp36 : gKeep (fun t => t = tg) σ (gup σ25 z27 (tg, gO 18 ((teF K Vv l_ rr2 pp_25 C z27).set 2 (.ref b)))) := hkp25.tr (gKeep.up (hTH25.2.1 _ hD_z27) rfl)
        generalize (gup σ25 z27 (tg, gO 18 ((teF K Vv l_ rr2 pp_25 C z27).set 2 (.ref b)))) = σ36 at hG hTH36 hkp36
        refine lv_goto (tgt := 85) hx hb dJ4_rotateLeft_74 (by decide) ?_
        refine lv_aload_n hx hb dJ4_rotateLeft_85 rfl (lv_at hl 0 rfl) ?_
        refine lv_aload_n hx hb dJ4_rotateLeft_86 rfl (lv_at hl 2 rfl) ?_
        refine g_put (C := RJ25) (T := TJ25) (N := 6) (ty0 := tyJ25) (v := .ref a) hx hb hts hown hK hG hS (hTH36.2.1 _ hD_b) rfl in_J25 tyJ25_ok nmJ25 2 (by decide) q1180 rfl (by decide) rfl rfl (Nat.le_of_ble_eq_true rfl) dJ4_rotateLeft_87 (fun H locs hG hS => ?_)
        obtain ⟨ll37, ell37⟩ : ∃ z : Nat → Option Nat, z = va_up ll36 b (some a) := ⟨_, rfl⟩
        have hTH37 : TH (gup σ36 b (tg, gO 18 ((teF K Vv ll36 rr2 pp_25 C b).set 2 (.ref a)))) tg mp (tIn n ad ps) K Vv ll37 rr2 pp_25 C rt es ks sz md := by rw [ell37]; exact hTH36.pL hD_b (some a)
        have hkp37 : gKeep (fun t => t = tg) σ (gup σ36 b (tg, gO 18 ((teF K Vv ll36 rr2 pp_25 C b).set 2 (.ref a)))) := hkp36.tr (gKeep.up (hTH36.2.1 _ hD_b) rfl)
        generalize (gup σ36 b (tg, gO 18 ((teF K Vv ll36 rr2 pp_25 C b).set 2 (.ref a)))) = σ37 at hG hTH37 hkp37
        refine lv_aload_n hx hb dJ4_rotateLeft_90 rfl (lv_at hl 2 rfl) ?_
        refine lv_aload_n hx hb dJ4_rotateLeft_91 rfl (lv_at hl 0 rfl) ?_
        refine g_put (C := RJ25) (T := TJ25) (N := 6) (ty0 := tyJ25) (v := .ref b) hx hb hts hown hK hG hS (hTH37.2.1 _ hDa) rfl in_J25 tyJ25_ok nmJ25 4 (by decide) q1183 rfl (by decide) rfl rfl (Nat.le_of_ble_eq_true rfl) dJ4_rotateLeft_92 (fun H locs hG hS => ?_)
        obtain ⟨pp_38, epp_38⟩ : ∃ z : Nat → Option Nat, z = va_up pp_25 a (some b) := ⟨_, rfl⟩
        have hTH38 : TH (gup σ37 a (tg, gO 18 ((teF K Vv ll37 rr2 pp_25 C a).set 4 (.ref b)))) tg mp (tIn n ad ps) K Vv ll37 rr2 pp_38 C rt es ks sz md := by rw [epp_38]; exact hTH37.pP hDa (some b)
        have hkp38 : gKeep (fun t => t = tg) σ (gup σ37 a (tg, gO 18 ((teF K Vv ll37 rr2 pp_25 C a).set 4 (.ref b)))) := hkp37.tr (gKeep.up (hTH37.2.1 _ hDa) rfl)
        generalize (gup σ37 a (tg, gO 18 ((teF K Vv ll37 rr2 pp_25 C a).set 4 (.ref b)))) = σ38 at hG hTH38 hkp38
        exact g_vret hx hb hr hlocks hQ hG hS (Nat.zero_le _) (Nat.zero_le _) ⟨rfl, ll37, rr2, pp_38, rt, hTH38, hkp38, (fun z hz => by
                  rw [ell37]
                  by_cases e : z = b
                  · rw [e, va_up_self, if_pos rfl]
                  · rw [va_up_ne _ _ e, if_neg e, ell36]
                    by_cases e2 : z = z27
                    · rw [e2, va_up_self, if_pos hq30]
                    · rw [va_up_ne _ _ e2, if_neg (fun k => e2 (by have q5 := (hok.l1 hz k).2.2.2; rw [ho28] at q5; exact (Option.some.inj q5).symm))]), (fun z hz => by
                  by_cases e : z = a
                  · rw [e, err2, va_up_self, if_pos rfl]
                  · rw [err2, va_up_ne _ _ e, if_neg e, if_neg (fun k => by have q5 := (hok.r1 hz k).2.2.2; rw [ho28] at q5; have q6 := Option.some.inj q5; rw [← q6] at k; have q7 := hok.r1 hD_z27 k; have q8 := hok.l1 hD_z27 hq30; have q9 := hok.num hDa; omega)]), (fun z hz => by
                  by_cases e : z = b
                  · rw [e, epp_38, va_up_ne _ _ hne_ab.symm, epp_25, va_up_self, if_pos rfl]
                  · by_cases e2 : z = a
                    · rw [e2, epp_38, va_up_self, if_neg hne_ab, if_pos rfl]
                    · rw [epp_38, va_up_ne _ _ e2, epp_25, va_up_ne _ _ e, if_neg e, if_neg e2, epp_23]
                      by_cases e3 : z = z3
                      · rw [e3, va_up_self, if_pos ho4]
                      · rw [va_up_ne _ _ e3, if_neg (fun k => e3 (by rw [ho4] at k; exact (Option.some.inj k).symm))]), (by rw [if_neg (fun k => by have q5 := (hok.rx k).2.2.2; rw [ho28] at q5; cases q5)])⟩ dJ4_rotateLeft_95
    · refine lv_aload_n hx hb dJ4_rotateLeft_47 rfl (lv_at hl 1 rfl) ?_
      refine lv_aload_n hx hb dJ4_rotateLeft_48 rfl (lv_at hl 0 rfl) ?_
      refine g_put (C := RJ4) (T := TJ4) (N := 9) (ty0 := tyJ4) (v := .ref b) hx hb hts hown hK hG hS hTH25.1 rfl in_J4 tyJ4_ok nmJ4 3 (by decide) q146 rfl (by decide) rfl rfl (Nat.le_of_ble_eq_true rfl) dJ4_rotateLeft_49 (fun H locs hG hS => ?_)
      have hTH39 : TH (gup σ25 mp (tg, gO 13 ((tmF rt es ks sz md).set 3 (.ref b)))) tg mp (tIn n ad ps) K Vv l_ rr2 pp_25 C (some b) es ks sz md := hTH25.map rfl
      have hkp39 : gKeep (fun t => t = tg) σ (gup σ25 mp (tg, gO 13 ((tmF rt es ks sz md).set 3 (.ref b)))) := hkp25.tr (gKeep.up hTH25.1 rfl)
      generalize (gup σ25 mp (tg, gO 13 ((tmF rt es ks sz md).set 3 (.ref b)))) = σ39 at hG hTH39 hkp39
      refine lv_goto (tgt := 85) hx hb dJ4_rotateLeft_52 (by decide) ?_
      refine lv_aload_n hx hb dJ4_rotateLeft_85 rfl (lv_at hl 0 rfl) ?_
      refine lv_aload_n hx hb dJ4_rotateLeft_86 rfl (lv_at hl 2 rfl) ?_
      refine g_put (C := RJ25) (T := TJ25) (N := 6) (ty0 := tyJ25) (v := .ref a) hx hb hts hown hK hG hS (hTH39.2.1 _ hD_b) rfl in_J25 tyJ25_ok nmJ25 2 (by decide) q1180 rfl (by decide) rfl rfl (Nat.le_of_ble_eq_true rfl) dJ4_rotateLeft_87 (fun H locs hG hS => ?_)
      obtain ⟨ll40, ell40⟩ : ∃ z : Nat → Option Nat, z = va_up l_ b (some a) := ⟨_, rfl⟩
      have hTH40 : TH (gup σ39 b (tg, gO 18 ((teF K Vv l_ rr2 pp_25 C b).set 2 (.ref a)))) tg mp (tIn n ad ps) K Vv ll40 rr2 pp_25 C (some b) es ks sz md := by rw [ell40]; exact hTH39.pL hD_b (some a)
      have hkp40 : gKeep (fun t => t = tg) σ (gup σ39 b (tg, gO 18 ((teF K Vv l_ rr2 pp_25 C b).set 2 (.ref a)))) := hkp39.tr (gKeep.up (hTH39.2.1 _ hD_b) rfl)
      generalize (gup σ39 b (tg, gO 18 ((teF K Vv l_ rr2 pp_25 C b).set 2 (.ref a)))) = σ40 at hG hTH40 hkp40
      refine lv_aload_n hx hb dJ4_rotateLeft_90 rfl (lv_at hl 2 rfl) ?_
      refine lv_aload_n hx hb dJ4_rotateLeft_91 rfl (lv_at hl 0 rfl) ?_
      refine g_put (C := RJ25) (T := TJ25) (N := 6) (ty0 := tyJ25) (v := .ref b) hx hb hts hown hK hG hS (hTH40.2.1 _ hDa) rfl in_J25 tyJ25_ok nmJ25 4 (by decide) q1183 rfl (by decide) rfl rfl (Nat.le_of_ble_eq_true rfl) dJ4_rotateLeft_92 (fun H locs hG hS => ?_)
      obtain ⟨pp_41, epp_41⟩ : ∃ z : Nat → Option Nat, z = va_up pp_25 a (some b) := ⟨_, rfl⟩
      have hTH41 : TH (gup σ40 a (tg, gO 18 ((teF K Vv ll40 rr2 pp_25 C a).set 4 (.ref b)))) tg mp (tIn n ad ps) K Vv ll40 rr2 pp_41 C (some b) es ks sz md := by rw [epp_41]; exact hTH40.pP hDa (some b)
      have hkp41 : gKeep (fun t => t = tg) σ (gup σ40 a (tg, gO 18 ((teF K Vv ll40 rr2 pp_25 C a).set 4 (.ref b)))) := hkp40.tr (gKeep.up (hTH40.2.1 _ hDa) rfl)
      generalize (gup σ40 a (tg, gO 18 ((teF K Vv ll40 rr2 pp_25 C a).set 4 (.ref b)))) = σ41 at hG hTH41 hkp41
      exact g_vret hx hb hr hlocks hQ hG hS (Nat.zero_le _) (Nat.zero_le _) ⟨rfl, ll40, rr2, pp_41, (some b), hTH41, hkp41, (fun z hz => by
                rw [ell40]
                by_cases e : z = b
                · rw [e, va_up_self, if_pos rfl]
                · rw [va_up_ne _ _ e, if_neg e, if_neg (fun k => by have q5 := (hok.l1 hz k).2.2.2; rw [ho28] at q5; cases q5)]), (fun z hz => by
                by_cases e : z = a
                · rw [e, err2, va_up_self, if_pos rfl]
                · rw [err2, va_up_ne _ _ e, if_neg e, if_neg (fun k => by have q5 := (hok.r1 hz k).2.2.2; rw [ho28] at q5; cases q5)]), (fun z hz => by
                by_cases e : z = b
                · rw [e, epp_41, va_up_ne _ _ hne_ab.symm, epp_25, va_up_self, if_pos rfl]
                · by_cases e2 : z = a
                  · rw [e2, epp_41, va_up_self, if_neg hne_ab, if_pos rfl]
                  · rw [epp_41, va_up_ne _ _ e2, epp_25, va_up_ne _ _ e, if_neg e, if_neg e2, epp_23]
                    by_cases e3 : z = z3
                    · rw [e3, va_up_self, if_pos ho4]
                    · rw [va_up_ne _ _ e3, if_neg (fun k => e3 (by rw [ho4] at k; exact (Option.some.inj k).symm))]), (by rw [if_pos (hok.p0 hDa ho28)])⟩ dJ4_rotateLeft_95

set_option maxHeartbeats 4000000 in
theorem mJ4_rotateLeft_0 (l : Launch) (X : gX) (σ : gS) (tg mp n : Nat) (ad ps : Nat → Nat) (K : Nat → Nat) (Vv l_ r_ p_ : Nat → Option Nat) (C : Nat → Int) (rt es ks : Option Nat) (sz md : Int) (hTH : TH σ tg mp (tIn n ad ps) K Vv l_ r_ p_ C rt es ks sz md)  : gMet l X yJ4_rotateLeft cJ4_rotateLeft 3 none 0 0 0 0 σ [.ref mp, .null] (oV (fun σ' => σ = σ')) := by
  refine gMet.of (by decide) (Nat.le_of_ble_eq_true rfl) ?_
  intro pp ee ss mm args below meth cd Q H locs ls hargs hx hb hr hlocks hml hown hnm hts hK hG hS hQ hl
  have hown : ss.vm.findClass RJ4 = some mm.cls := hown
  have hl : lv_has ls 3 [(0, .ref mp), (1, .null)] := hl
  have hkp : gKeep (fun t => t = tg) σ σ := gKeep.rf
  refine lv_aload_nN hx hb dJ4_rotateLeft_0 rfl (lv_at hl 1 rfl) ?_
  refine lv_ifnullN (tgt := 95) hx hb dJ4_rotateLeft_1 (by decide) ?_
  exact g_vret hx hb hr hlocks hQ hG hS (Nat.zero_le _) (Nat.zero_le _) ⟨rfl, rfl⟩ dJ4_rotateLeft_95

set_option maxHeartbeats 4000000 in
theorem mJ4_rotateRight (l : Launch) (X : gX) (σ : gS) (tg mp n : Nat) (ad ps : Nat → Nat) (K : Nat → Nat) (Vv l_ r_ p_ : Nat → Option Nat) (C : Nat → Int) (rt es ks : Option Nat) (sz md : Int) (hTH : TH σ tg mp (tIn n ad ps) K Vv l_ r_ p_ C rt es ks sz md) (lo hi : Nat → Nat) (hok : tOk n ad ps l_ r_ p_ lo hi rt) (a b : Nat) (hDa : tIn n ad ps a) (hab : l_ a = some b) : gMet l X yJ4_rotateRight cJ4_rotateRight 3 none 0 0 0 0 σ [.ref mp, .ref a] (oV (fun σ' => ∃ (l2 r2 p2 : Nat → Option Nat) (rt2 : Option Nat), TH σ' tg mp (tIn n ad ps) K Vv l2 r2 p2 C rt2 es ks sz md ∧ gKeep (fun t => t = tg) σ σ' ∧ (∀ z, tIn n ad ps z → l2 z = if z = a then r_ b else if l_ z = some a then some b else l_ z) ∧ (∀ z, tIn n ad ps z → r2 z = if z = b then some a else if r_ z = some a then some b else r_ z) ∧ (∀ z, tIn n ad ps z → p2 z = if z = b then p_ a else if z = a then some b else if r_ b = some z then some a else p_ z) ∧ (rt2 = if rt = some a then some b else rt))) := by
  refine gMet.of (by decide) (Nat.le_of_ble_eq_true rfl) ?_
  intro pp ee ss mm args below meth cd Q H locs ls hargs hx hb hr hlocks hml hown hnm hts hK hG hS hQ hl
  have hown : ss.vm.findClass RJ4 = some mm.cls := hown
  have hl : lv_has ls 3 [(0, .ref mp), (1, .ref a)] := hl
  have hkp : gKeep (fun t => t = tg) σ σ := gKeep.rf
  have hD_b := (hok.l1 hDa hab).1
  have k1 := hok.l1 hDa hab
  have k2 := hok.num hDa
  have k3 := hok.num hD_b
  have hne_ab : a ≠ b := tIn.ne (ps := ps) (by omega)
  refine lv_aload_n hx hb dJ4_rotateRight_0 rfl (lv_at hl 1 rfl) ?_
  refine lv_ifnull hx hb dJ4_rotateRight_1 ?_
  refine lv_aload_n hx hb dJ4_rotateRight_4 rfl (lv_at hl 1 rfl) ?_
  have hf1 : l_ a = (some b) := by rw [hab]
  refine g_get (C := RJ25) (T := TJ25) (N := 6) (v := .ref b) hx hb hts hown hK hG (hTH.2.1 _ hDa) rfl in_J25 2 (by decide) q1180 rfl (congrArg (fun q9 => some (va_rf q9)) hf1) dJ4_rotateRight_5 ?_
  refine lv_astore_n (lv' := [(2, .ref b), (0, .ref mp), (1, .ref a)]) hx hb dJ4_rotateRight_8 rfl hl (by decide) rfl (fun ls hl => ?_)
  refine lv_aload_n hx hb dJ4_rotateRight_9 rfl (lv_at hl 2 rfl) ?_
  refine lv_aload_n hx hb dJ4_rotateRight_10 rfl (lv_at hl 0 rfl) ?_
  refine g_get (C := RJ25) (T := TJ25) (N := 6) (v := va_rf (r_ b)) hx hb hts hown hK hG (hTH.2.1 _ hD_b) rfl in_J25 3 (by decide) q1181 rfl rfl dJ4_rotateRight_11 ?_
  refine g_put (C := RJ25) (T := TJ25) (N := 6) (ty0 := tyJ25) (v := va_rf (r_ b)) hx hb hts hown hK hG hS (hTH.2.1 _ hDa) rfl in_J25 tyJ25_ok nmJ25 2 (by decide) q1180 rfl (by decide) (nrf _) (frf _) (Nat.le_of_ble_eq_true rfl) dJ4_rotateRight_14 (fun H locs hG hS => ?_)
  obtain ⟨ll2, ell2⟩ : ∃ z : Nat → Option Nat, z = va_up l_ a (r_ b) := ⟨_, rfl⟩
  have hTH2 : TH (gup σ a (tg, gO 18 ((teF K Vv l_ r_ p_ C a).set 2 (va_rf (r_ b))))) tg mp (tIn n ad ps) K Vv ll2 r_ p_ C rt es ks sz md := by rw [ell2]; exact hTH.pL hDa (r_ b)
  have hkp2 : gKeep (fun t => t = tg) σ (gup σ a (tg, gO 18 ((teF K Vv l_ r_ p_ C a).set 2 (va_rf (r_ b))))) := hkp.tr (gKeep.up (hTH.2.1 _ hDa) rfl)
  generalize (gup σ a (tg, gO 18 ((teF K Vv l_ r_ p_ C a).set 2 (va_rf (r_ b))))) = σ2 at hG hTH2 hkp2
  refine lv_aload_n hx hb dJ4_rotateRight_17 rfl (lv_at hl 0 rfl) ?_
  refine g_get (C := RJ25) (T := TJ25) (N := 6) (v := va_rf (r_ b)) hx hb hts hown hK hG (hTH2.2.1 _ hD_b) rfl in_J25 3 (by decide) q1181 rfl rfl dJ4_rotateRight_18 ?_
  refine g_ifnullR (tgt := 32) hx hb dJ4_rotateRight_21 (by decide) (fun ho4 => ?_) (fun z3 ho4 => ?_)
  · refine lv_aload_n hx hb dJ4_rotateRight_32 rfl (lv_at hl 0 rfl) ?_
    refine lv_aload_n hx hb dJ4_rotateRight_33 rfl (lv_at hl 2 rfl) ?_
    refine g_get (C := RJ25) (T := TJ25) (N := 6) (v := va_rf (p_ a)) hx hb hts hown hK hG (hTH2.2.1 _ hDa) rfl in_J25 4 (by decide) q1183 rfl rfl dJ4_rotateRight_34 ?_
    refine g_put (C := RJ25) (T := TJ25) (N := 6) (ty0 := tyJ25) (v := va_rf (p_ a)) hx hb hts hown hK hG hS (hTH2.2.1 _ hD_b) rfl in_J25 tyJ25_ok nmJ25 4 (by decide) q1183 rfl (by decide) (nrf _) (frf _) (Nat.le_of_ble_eq_true rfl) dJ4_rotateRight_37 (fun H locs hG hS => ?_)
    obtain ⟨pp_5, epp_5⟩ : ∃ z : Nat → Option Nat, z = va_up p_ b (p_ a) := ⟨_, rfl⟩
    have hTH5 : TH (gup σ2 b (tg, gO 18 ((teF K Vv ll2 r_ p_ C b).set 4 (va_rf (p_ a))))) tg mp (tIn n ad ps) K Vv ll2 r_ pp_5 C rt es ks sz md := by rw [epp_5]; exact hTH2.pP hD_b (p_ a)
    have hkp5 : gKeep (fun t => t = tg) σ (gup σ2 b (tg, gO 18 ((teF K Vv ll2 r_ p_ C b).set 4 (va_rf (p_ a))))) := hkp2.tr (gKeep.up (hTH2.2.1 _ hD_b) rfl)
    generalize (gup σ2 b (tg, gO 18 ((teF K Vv ll2 r_ p_ C b).set 4 (va_rf (p_ a))))) = σ5 at hG hTH5 hkp5
    refine lv_aload_n hx hb dJ4_rotateRight_40 rfl (lv_at hl 2 rfl) ?_
    have hf6 : pp_5 a = (p_ a) := by rw [epp_5, va_up_ne _ _ hne_ab]
    refine g_get (C := RJ25) (T := TJ25) (N := 6) (v := va_rf (p_ a)) hx hb hts hown hK hG (hTH5.2.1 _ hDa) rfl in_J25 4 (by decide) q1183 rfl (congrArg (fun q9 => some (va_rf q9)) hf6) dJ4_rotateRight_41 ?_
    refine g_ifnonnullR (tgt := 55) hx hb dJ4_rotateRight_44 (by decide) (fun z7 ho8 => ?_) (fun ho8 => ?_)
    · have hD_z7 := (hok.p1 hDa ho8).1
      have hne_aq : a ≠ z7 := fun e => by rcases (hok.p1 hDa ho8).2 with k | k <;> rw [← e] at k; (have := hok.lp hDa k; omega); (have := hok.rp hDa k; omega)
      have hne_bq : b ≠ z7 := fun e => by rcases (hok.p1 hDa ho8).2 with k | k <;> rw [← e] at k; (have := hok.l1 hD_b k; omega); (have := hok.r1 hD_b k; omega)
      refine lv_aload_n hx hb dJ4_rotateRight_55 rfl (lv_at hl 2 rfl) ?_
      have hf9 : pp_5 a = (some z7) := by rw [epp_5, va_up_ne _ _ hne_ab, ho8]
      refine g_get (C := RJ25) (T := TJ25) (N := 6) (v := .ref z7) hx hb hts hown hK hG (hTH5.2.1 _ hDa) rfl in_J25 4 (by decide) q1183 rfl (congrArg (fun q9 => some (va_rf q9)) hf9) dJ4_rotateRight_56 ?_
      refine g_get (C := RJ25) (T := TJ25) (N := 6) (v := va_rf (r_ z7)) hx hb hts hown hK hG (hTH5.2.1 _ hD_z7) rfl in_J25 3 (by decide) q1181 rfl rfl dJ4_rotateRight_59 ?_
      refine lv_aload_n hx hb dJ4_rotateRight_62 rfl (lv_at hl 2 rfl) ?_
      refine lv_acmp_ne (tgt := 77) (rx := (r_ z7)) (ry := (some a)) hx hb dJ4_rotateRight_63 (by decide) (fun hq10 => ?_) (fun hq10 => ?_)
      · refine lv_aload_n hx hb dJ4_rotateRight_77 rfl (lv_at hl 2 rfl) ?_
        have hf11 : pp_5 a = (some z7) := by rw [epp_5, va_up_ne _ _ hne_ab, ho8]
        refine g_get (C := RJ25) (T := TJ25) (N := 6) (v := .ref z7) hx hb hts hown hK hG (hTH5.2.1 _ hDa) rfl in_J25 4 (by decide) q1183 rfl (congrArg (fun q9 => some (va_rf q9)) hf11) dJ4_rotateRight_78 ?_
        refine lv_aload_n hx hb dJ4_rotateRight_81 rfl (lv_at hl 0 rfl) ?_
        refine g_put (C := RJ25) (T := TJ25) (N := 6) (ty0 := tyJ25) (v := .ref b) hx hb hts hown hK hG hS (hTH5.2.1 _ hD_z7) rfl in_J25 tyJ25_ok nmJ25 2 (by decide) q1180 rfl (by decide) rfl rfl (Nat.le_of_ble_eq_true rfl) dJ4_rotateRight_82 (fun H locs hG hS => ?_)
        obtain ⟨ll12, ell12⟩ : ∃ z : Nat → Option Nat, z = va_up ll2 z7 (some b) := ⟨_, rfl⟩
        have hTH12 : TH (gup σ5 z7 (tg, gO 18 ((teF K Vv ll2 r_ pp_5 C z7).set 2 (.ref b)))) tg mp (tIn n ad ps) K Vv ll12 r_ pp_5 C rt es ks sz md := by rw [ell12]; exact hTH5.pL hD_z7 (some b)
        have hkp12 : gKeep (fun t => t = tg) σ (gup σ5 z7 (tg, gO 18 ((teF K Vv ll2 r_ pp_5 C z7).set 2 (.ref b)))) := hkp5.tr (gKeep.up (hTH5.2.1 _ hD_z7) rfl)
        generalize (gup σ5 z7 (tg, gO 18 ((teF K Vv ll2 r_ pp_5 C z7).set 2 (.ref b)))) = σ12 at hG hTH12 hkp12
        refine lv_aload_n hx hb dJ4_rotateRight_85 rfl (lv_at hl 0 rfl) ?_
        refine lv_aload_n hx hb dJ4_rotateRight_86 rfl (lv_at hl 2 rfl) ?_
        refine g_put (C := RJ25) (T := TJ25) (N := 6) (ty0 := tyJ25) (v := .ref a) hx hb hts hown hK hG hS (hTH12.2.1 _ hD_b) rfl in_J25 tyJ25_ok nmJ25 3 (by decide) q1181 rfl (by decide) rfl rfl (Nat.le_of_ble_eq_true rfl) dJ4_rotateRight_87 (fun H locs hG hS => ?_)
        obtain ⟨rr13, err13⟩ : ∃ z : Nat → Option Nat, z = va_up r_ b (some a) := ⟨_, rfl⟩
        have hTH13 : TH (gup σ12 b (tg, gO 18 ((teF K Vv ll12 r_ pp_5 C b).set 3 (.ref a)))) tg mp (tIn n ad ps) K Vv ll12 rr13 pp_5 C rt es ks sz md := by rw [err13]; exact hTH12.pR hD_b (some a)
        have hkp13 : gKeep (fun t => t = tg) σ (gup σ12 b (tg, gO 18 ((teF K Vv ll12 r_ pp_5 C b).set 3 (.ref a)))) := hkp12.tr (gKeep.up (hTH12.2.1 _ hD_b) rfl)
        generalize (gup σ12 b (tg, gO 18 ((teF K Vv ll12 r_ pp_5 C b).set 3 (.ref a)))) = σ13 at hG hTH13 hkp13
        refine lv_aload_n hx hb dJ4_rotateRight_90 rfl (lv_at hl 2 rfl) ?_
        refine lv_aload_n hx hb dJ4_rotateRight_91 rfl (lv_at hl 0 rfl) ?_
        refine g_put (C := RJ25) (T := TJ25) (N := 6) (ty0 := tyJ25) (v := .ref b) hx hb hts hown hK hG hS (hTH13.2.1 _ hDa) rfl in_J25 tyJ25_ok nmJ25 4 (by decide) q1183 rfl (by decide) rfl rfl (Nat.le_of_ble_eq_true rfl) dJ4_rotateRight_92 (fun H locs hG hS => ?_)
        obtain ⟨pp_14, epp_14⟩ : ∃ z : Nat → Option Nat, z = va_up pp_5 a (some b) := ⟨_, rfl⟩
        have hTH14 : TH (gup σ13 a (tg, gO 18 ((teF K Vv ll12 rr13 pp_5 C a).set 4 (.ref b)))) tg mp (tIn n ad ps) K Vv ll12 rr13 pp_14 C rt es ks sz md := by rw [epp_14]; exact hTH13.pP hDa (some b)
        have hkp14 : gKeep (fun t => t = tg) σ (gup σ13 a (tg, gO 18 ((teF K Vv ll12 rr13 pp_5 C a).set 4 (.ref b)))) := hkp13.tr (gKeep.up (hTH13.2.1 _ hDa) rfl)
        generalize (gup σ13 a (tg, gO 18 ((teF K Vv ll12 rr13 pp_5 C a).set 4 (.ref b)))) = σ14 at hG hTH14 hkp14
        exact g_vret hx hb hr hlocks hQ hG hS (Nat.zero_le _) (Nat.zero_le _) ⟨rfl, ll12, rr13, pp_14, rt, hTH14, hkp14, (fun z hz => by
                  by_cases e : z = a
                  · rw [e, ell12, va_up_ne _ _ hne_aq, ell2, va_up_self, if_pos rfl]
                  · by_cases e2 : z = z7
                    · rw [e2, ell12, va_up_self, if_neg hne_aq.symm, if_pos ((hok.p1 hDa ho8).2.resolve_right hq10)]
                    · rw [ell12, va_up_ne _ _ e2, ell2, va_up_ne _ _ e, if_neg e, if_neg (fun k => e2 (by have q5 := (hok.l1 hz k).2.2.2; rw [ho8] at q5; exact (Option.some.inj q5).symm))]), (fun z hz => by
                  rw [err13]
                  by_cases e : z = b
                  · rw [e, va_up_self, if_pos rfl]
                  · rw [va_up_ne _ _ e, if_neg e, if_neg (fun k => by have q5 := (hok.r1 hz k).2.2.2; rw [ho8] at q5; have q6 := Option.some.inj q5; rw [← q6] at k; exact hq10 k)]), (fun z hz => by
                  by_cases e : z = b
                  · rw [e, epp_14, va_up_ne _ _ hne_ab.symm, epp_5, va_up_self, if_pos rfl]
                  · by_cases e2 : z = a
                    · rw [e2, epp_14, va_up_self, if_neg hne_ab, if_pos rfl]
                    · rw [epp_14, va_up_ne _ _ e2, epp_5, va_up_ne _ _ e, if_neg e, if_neg e2, if_neg (fun k => by rw [ho4] at k; cases k)]), (by rw [if_neg (fun k => by have q5 := (hok.rx k).2.2.2; rw [ho8] at q5; cases q5)])⟩ dJ4_rotateRight_95
      · refine lv_aload_n hx hb dJ4_rotateRight_66 rfl (lv_at hl 2 rfl) ?_
        have hf15 : pp_5 a = (some z7) := by rw [epp_5, va_up_ne _ _ hne_ab, ho8]
        refine g_get (C := RJ25) (T := TJ25) (N := 6) (v := .ref z7) hx hb hts hown hK hG (hTH5.2.1 _ hDa) rfl in_J25 4 (by decide) q1183 rfl (congrArg (fun q9 => some (va_rf q9)) hf15) dJ4_rotateRight_67 ?_
        refine lv_aload_n hx hb dJ4_rotateRight_70 rfl (lv_at hl 0 rfl) ?_
        refine g_put (C := RJ25) (T := TJ25) (N := 6) (ty0 := tyJ25) (v := .ref b) hx hb hts hown hK hG hS (hTH5.2.1 _ hD_z7) rfl in_J25 tyJ25_ok nmJ25 3 (by decide) q1181 rfl (by decide) rfl rfl (Nat.le_of_ble_eq_true rfl) dJ4_rotateRight_71 (fun H locs hG hS => ?_)
        obtain ⟨rr16, err16⟩ : ∃ z : Nat → Option Nat, z = va_up r_ z7 (some b) := ⟨_, rfl⟩
        have hTH16 : TH (gup σ5 z7 (tg, gO 18 ((teF K Vv ll2 r_ pp_5 C z7).set 3 (.ref b)))) tg mp (tIn n ad ps) K Vv ll2 rr16 pp_5 C rt es ks sz md := by rw [err16]; exact hTH5.pR hD_z7 (some b)
        have hkp16 : gKeep (fun t => t = tg) σ (gup σ5 z7 (tg, gO 18 ((teF K Vv ll2 r_ pp_5 C z7).set 3 (.ref b)))) := hkp5.tr (gKeep.up (hTH5.2.1 _ hD_z7) rfl)
        generalize (gup σ5 z7 (tg, gO 18 ((teF K Vv ll2 r_ pp_5 C z7).set 3 (.ref b)))) = σ16 at hG hTH16 hkp16
        refine lv_goto (tgt := 85) hx hb dJ4_rotateRight_74 (by decide) ?_
        refine lv_aload_n hx hb dJ4_rotateRight_85 rfl (lv_at hl 0 rfl) ?_
        refine lv_aload_n hx hb dJ4_rotateRight_86 rfl (lv_at hl 2 rfl) ?_
        refine g_put (C := RJ25) (T := TJ25) (N := 6) (ty0 := tyJ25) (v := .ref a) hx hb hts hown hK hG hS (hTH16.2.1 _ hD_b) rfl in_J25 tyJ25_ok nmJ25 3 (by decide) q1181 rfl (by decide) rfl rfl (Nat.le_of_ble_eq_true rfl) dJ4_rotateRight_87 (fun H locs hG hS => ?_)
        obtain ⟨rr17, err17⟩ : ∃ z : Nat → Option Nat, z = va_up rr16 b (some a) := ⟨_, rfl⟩
        have hTH17 : TH (gup σ16 b (tg, gO 18 ((teF K Vv ll2 rr16 pp_5 C b).set 3 (.ref a)))) tg mp (tIn n ad ps) K Vv ll2 rr17 pp_5 C rt es ks sz md := by rw [err17]; exact hTH16.pR hD_b (some a)
        have hkp17 : gKeep (fun t => t = tg) σ (gup σ16 b (tg, gO 18 ((teF K Vv ll2 rr16 pp_5 C b).set 3 (.ref a)))) := hkp16.tr (gKeep.up (hTH16.2.1 _ hD_b) rfl)
        generalize (gup σ16 b (tg, gO 18 ((teF K Vv ll2 rr16 pp_5 C b).set 3 (.ref a)))) = σ17 at hG hTH17 hkp17
        refine lv_aload_n hx hb dJ4_rotateRight_90 rfl (lv_at hl 2 rfl) ?_
        refine lv_aload_n hx hb dJ4_rotateRight_91 rfl (lv_at hl 0 rfl) ?_
        refine g_put (C := RJ25) (T := TJ25) (N := 6) (ty0 := tyJ25) (v := .ref b) hx hb hts hown hK hG hS (hTH17.2.1 _ hDa) rfl in_J25 tyJ25_ok nmJ25 4 (by decide) q1183 rfl (by decide) rfl rfl (Nat.le_of_ble_eq_true rfl) dJ4_rotateRight_92 (fun H locs hG hS => ?_)
        obtain ⟨pp_18, epp_18⟩ : ∃ z : Nat → Option Nat, z = va_up pp_5 a (some b) := ⟨_, rfl⟩
        have hTH18 : TH (gup σ17 a (tg, gO 18 ((teF K Vv ll2 rr17 pp_5 C a).set 4 (.ref b)))) tg mp (tIn n ad ps) K Vv ll2 rr17 pp_18 C rt es ks sz md := by rw [epp_18]; exact hTH17.pP hDa (some b)
        have hkp18 : gKeep (fun t => t = tg) σ (gup σ17 a (tg, gO 18 ((teF K Vv ll2 rr17 pp_5 C a).set 4 (.ref b)))) := hkp17.tr (gKeep.up (hTH17.2.1 _ hDa) rfl)
        generalize (gup σ17 a (tg, gO 18 ((teF K Vv ll2 rr17 pp_5 C a).set 4 (.ref b)))) = σ18 at hG hTH18 hkp18
        exact g_vret hx hb hr hlocks hQ hG hS (Nat.zero_le _) (Nat.zero_le _) ⟨rfl, ll2, rr17, pp_18, rt, hTH18, hkp18, (fun z hz => by
                  by_cases e : z = a
                  · rw [e, ell2, va_up_self, if_pos rfl]
                  · rw [ell2, va_up_ne _ _ e, if_neg e, if_neg (fun k => by have q5 := (hok.l1 hz k).2.2.2; rw [ho8] at q5; have q6 := Option.some.inj q5; rw [← q6] at k; have q7 := hok.l1 hD_z7 k; have q8 := hok.r1 hD_z7 hq10; have q9 := hok.num hDa; omega)]), (fun z hz => by
                  rw [err17]
                  by_cases e : z = b
                  · rw [e, va_up_self, if_pos rfl]
                  · rw [va_up_ne _ _ e, if_neg e, err16]
                    by_cases e2 : z = z7
                    · rw [e2, va_up_self, if_pos hq10]
                    · rw [va_up_ne _ _ e2, if_neg (fun k => e2 (by have q5 := (hok.r1 hz k).2.2.2; rw [ho8] at q5; exact (Option.some.inj q5).symm))]), (fun z hz => by
                  by_cases e : z = b
                  · rw [e, epp_18, va_up_ne _ _ hne_ab.symm, epp_5, va_up_self, if_pos rfl]
                  · by_cases e2 : z = a
                    · rw [e2, epp_18, va_up_self, if_neg hne_ab, if_pos rfl]
                    · rw [epp_18, va_up_ne _ _ e2, epp_5, va_up_ne _ _ e, if_neg e, if_neg e2, if_neg (fun k => by rw [ho4] at k; cases k)]), (by rw [if_neg (fun k => by have q5 := (hok.rx k).2.2.2; rw [ho8] at q5; cases q5)])⟩ dJ4_rotateRight_95
    · refine lv_aload_n hx hb dJ4_rotateRight_47 rfl (lv_at hl 1 rfl) ?_
      refine lv_aload_n hx hb dJ4_rotateRight_48 rfl (lv_at hl 0 rfl) ?_
      refine g_put (C := RJ4) (T := TJ4) (N := 9) (ty0 := tyJ4) (v := .ref b) hx hb hts hown hK hG hS hTH5.1 rfl in_J4 tyJ4_ok nmJ4 3 (by decide) q146 rfl (by decide) rfl rfl (Nat.le_of_ble_eq_true rfl) dJ4_rotateRight_49 (fun H locs hG hS => ?_)
      have hTH19 : TH (gup σ5 mp (tg, gO 13 ((tmF rt es ks sz md).set 3 (.ref b)))) tg mp (tIn n ad ps) K Vv ll2 r_ pp_5 C (some b) es ks sz md := hTH5.map rfl
      have hkp19 : gKeep (fun t => t = tg) σ (gup σ5 mp (tg, gO 13 ((tmF rt es ks sz md).set 3 (.ref b)))) := hkp5.tr (gKeep.up hTH5.1 rfl)
      generalize (gup σ5 mp (tg, gO 13 ((tmF rt es ks sz md).set 3 (.ref b)))) = σ19 at hG hTH19 hkp19
      refine lv_goto (tgt := 85) hx hb dJ4_rotateRight_52 (by decide) ?_
      refine lv_aload_n hx hb dJ4_rotateRight_85 rfl (lv_at hl 0 rfl) ?_
      refine lv_aload_n hx hb dJ4_rotateRight_86 rfl (lv_at hl 2 rfl) ?_
      refine g_put (C := RJ25) (T := TJ25) (N := 6) (ty0 := tyJ25) (v := .ref a) hx hb hts hown hK hG hS (hTH19.2.1 _ hD_b) rfl in_J25 tyJ25_ok nmJ25 3 (by decide) q1181 rfl (by decide) rfl rfl (Nat.le_of_ble_eq_true rfl) dJ4_rotateRight_87 (fun H locs hG hS => ?_)
      obtain ⟨rr20, err20⟩ : ∃ z : Nat → Option Nat, z = va_up r_ b (some a) := ⟨_, rfl⟩
      have hTH20 : TH (gup σ19 b (tg, gO 18 ((teF K Vv ll2 r_ pp_5 C b).set 3 (.ref a)))) tg mp (tIn n ad ps) K Vv ll2 rr20 pp_5 C (some b) es ks sz md := by rw [err20]; exact hTH19.pR hD_b (some a)
      have hkp20 : gKeep (fun t => t = tg) σ (gup σ19 b (tg, gO 18 ((teF K Vv ll2 r_ pp_5 C b).set 3 (.ref a)))) := hkp19.tr (gKeep.up (hTH19.2.1 _ hD_b) rfl)
      generalize (gup σ19 b (tg, gO 18 ((teF K Vv ll2 r_ pp_5 C b).set 3 (.ref a)))) = σ20 at hG hTH20 hkp20
      refine lv_aload_n hx hb dJ4_rotateRight_90 rfl (lv_at hl 2 rfl) ?_
      refine lv_aload_n hx hb dJ4_rotateRight_91 rfl (lv_at hl 0 rfl) ?_
      refine g_put (C := RJ25) (T := TJ25) (N := 6) (ty0 := tyJ25) (v := .ref b) hx hb hts hown hK hG hS (hTH20.2.1 _ hDa) rfl in_J25 tyJ25_ok nmJ25 4 (by decide) q1183 rfl (by decide) rfl rfl (Nat.le_of_ble_eq_true rfl) dJ4_rotateRight_92 (fun H locs hG hS => ?_)
      obtain ⟨pp_21, epp_21⟩ : ∃ z : Nat → Option Nat, z = va_up pp_5 a (some b) := ⟨_, rfl⟩
      have hTH21 : TH (gup σ20 a (tg, gO 18 ((teF K Vv ll2 rr20 pp_5 C a).set 4 (.ref b)))) tg mp (tIn n ad ps) K Vv ll2 rr20 pp_21 C (some b) es ks sz md := by rw [epp_21]; exact hTH20.pP hDa (some b)
      have hkp21 : gKeep (fun t => t = tg) σ (gup σ20 a (tg, gO 18 ((teF K Vv ll2 rr20 pp_5 C a).set 4 (.ref b)))) := hkp20.tr (gKeep.up (hTH20.2.1 _ hDa) rfl)
      generalize (gup σ20 a (tg, gO 18 ((teF K Vv ll2 rr20 pp_5 C a).set 4 (.ref b)))) = σ21 at hG hTH21 hkp21
      exact g_vret hx hb hr hlocks hQ hG hS (Nat.zero_le _) (Nat.zero_le _) ⟨rfl, ll2, rr20, pp_21, (some b), hTH21, hkp21, (fun z hz => by
                by_cases e : z = a
                · rw [e, ell2, va_up_self, if_pos rfl]
                · rw [ell2, va_up_ne _ _ e, if_neg e, if_neg (fun k => by have q5 := (hok.l1 hz k).2.2.2; rw [ho8] at q5; cases q5)]), (fun z hz => by
                rw [err20]
                by_cases e : z = b
                · rw [e, va_up_self, if_pos rfl]
                · rw [va_up_ne _ _ e, if_neg e, if_neg (fun k => by have q5 := (hok.r1 hz k).2.2.2; rw [ho8] at q5; cases q5)]), (fun z hz => by
                by_cases e : z = b
                · rw [e, epp_21, va_up_ne _ _ hne_ab.symm, epp_5, va_up_self, if_pos rfl]
                · by_cases e2 : z = a
                  · rw [e2, epp_21, va_up_self, if_neg hne_ab, if_pos rfl]
                  · rw [epp_21, va_up_ne _ _ e2, epp_5, va_up_ne _ _ e, if_neg e, if_neg e2, if_neg (fun k => by rw [ho4] at k; cases k)]), (by rw [if_pos (hok.p0 hDa ho8)])⟩ dJ4_rotateRight_95
  · have hD_z3 := (hok.r1 hD_b ho4).1
    have k4 := hok.r1 hD_b ho4
    have k5 := hok.num k4.1
    have hne_ad : a ≠ z3 := tIn.ne (ps := ps) (by omega)
    have hne_bd : b ≠ z3 := tIn.ne (ps := ps) (by omega)
    refine lv_aload_n hx hb dJ4_rotateRight_24 rfl (lv_at hl 0 rfl) ?_
    have hf22 : r_ b = (some z3) := by rw [ho4]
    refine g_get (C := RJ25) (T := TJ25) (N := 6) (v := .ref z3) hx hb hts hown hK hG (hTH2.2.1 _ hD_b) rfl in_J25 3 (by decide) q1181 rfl (congrArg (fun q9 => some (va_rf q9)) hf22) dJ4_rotateRight_25 ?_
    refine lv_aload_n hx hb dJ4_rotateRight_28 rfl (lv_at hl 2 rfl) ?_
    refine g_put (C := RJ25) (T := TJ25) (N := 6) (ty0 := tyJ25) (v := .ref a) hx hb hts hown hK hG hS (hTH2.2.1 _ hD_z3) rfl in_J25 tyJ25_ok nmJ25 4 (by decide) q1183 rfl (by decide) rfl rfl (Nat.le_of_ble_eq_true rfl) dJ4_rotateRight_29 (fun H locs hG hS => ?_)
    obtain ⟨pp_23, epp_23⟩ : ∃ z : Nat → Option Nat, z = va_up p_ z3 (some a) := ⟨_, rfl⟩
    have hTH23 : TH (gup σ2 z3 (tg, gO 18 ((teF K Vv ll2 r_ p_ C z3).set 4 (.ref a)))) tg mp (tIn n ad ps) K Vv ll2 r_ pp_23 C rt es ks sz md := by rw [epp_23]; exact hTH2.pP hD_z3 (some a)
    have hkp23 : gKeep (fun t => t = tg) σ (gup σ2 z3 (tg, gO 18 ((teF K Vv ll2 r_ p_ C z3).set 4 (.ref a)))) := hkp2.tr (gKeep.up (hTH2.2.1 _ hD_z3) rfl)
    generalize (gup σ2 z3 (tg, gO 18 ((teF K Vv ll2 r_ p_ C z3).set 4 (.ref a)))) = σ23 at hG hTH23 hkp23
    refine lv_aload_n hx hb dJ4_rotateRight_32 rfl (lv_at hl 0 rfl) ?_
    refine lv_aload_n hx hb dJ4_rotateRight_33 rfl (lv_at hl 2 rfl) ?_
    have hf24 : pp_23 a = (p_ a) := by rw [epp_23, va_up_ne _ _ hne_ad]
    refine g_get (C := RJ25) (T := TJ25) (N := 6) (v := va_rf (p_ a)) hx hb hts hown hK hG (hTH23.2.1 _ hDa) rfl in_J25 4 (by decide) q1183 rfl (congrArg (fun q9 => some (va_rf q9)) hf24) dJ4_rotateRight_34 ?_
    refine g_put (C := RJ25) (T := TJ25) (N := 6) (ty0 := tyJ25) (v := va_rf (p_ a)) hx hb hts hown hK hG hS (hTH23.2.1 _ hD_b) rfl in_J25 tyJ25_ok nmJ25 4 (by decide) q1183 rfl (by decide) (nrf _) (frf _) (Nat.le_of_ble_eq_true rfl) dJ4_rotateRight_37 (fun H locs hG hS => ?_)
    obtain ⟨pp_25, epp_25⟩ : ∃ z : Nat → Option Nat, z = va_up pp_23 b (p_ a) := ⟨_, rfl⟩
    have hTH25 : TH (gup σ23 b (tg, gO 18 ((teF K Vv ll2 r_ pp_23 C b).set 4 (va_rf (p_ a))))) tg mp (tIn n ad ps) K Vv ll2 r_ pp_25 C rt es ks sz md := by rw [epp_25]; exact hTH23.pP hD_b (p_ a)
    have hkp25 : gKeep (fun t => t = tg) σ (gup σ23 b (tg, gO 18 ((teF K Vv ll2 r_ pp_23 C b).set 4 (va_rf (p_ a))))) := hkp23.tr (gKeep.up (hTH23.2.1 _ hD_b) rfl)
    generalize (gup σ23 b (tg, gO 18 ((teF K Vv ll2 r_ pp_23 C b).set 4 (va_rf (p_ a))))) = σ25 at hG hTH25 hkp25
    refine lv_aload_n hx hb dJ4_rotateRight_40 rfl (lv_at hl 2 rfl) ?_
    have hf26 : pp_25 a = (p_ a) := by rw [epp_25, va_up_ne _ _ hne_ab, epp_23, va_up_ne _ _ hne_ad]
    refine g_get (C := RJ25) (T := TJ25) (N := 6) (v := va_rf (p_ a)) hx hb hts hown hK hG (hTH25.2.1 _ hDa) rfl in_J25 4 (by decide) q1183 rfl (congrArg (fun q9 => some (va_rf q9)) hf26) dJ4_rotateRight_41 ?_
    refine g_ifnonnullR (tgt := 55) hx hb dJ4_rotateRight_44 (by decide) (fun z27 ho28 => ?_) (fun ho28 => ?_)
    · have hD_z27 := (hok.p1 hDa ho28).1
      have hne_aq : a ≠ z27 := fun e => by rcases (hok.p1 hDa ho28).2 with k | k <;> rw [← e] at k; (have := hok.lp hDa k; omega); (have := hok.rp hDa k; omega)
      have hne_bq : b ≠ z27 := fun e => by rcases (hok.p1 hDa ho28).2 with k | k <;> rw [← e] at k; (have := hok.l1 hD_b k; omega); (have := hok.r1 hD_b k; omega)
      refine lv_aload_n hx hb dJ4_rotateRight_55 rfl (lv_at hl 2 rfl) ?_
      have hf29 : pp_25 a = (some z27) := by rw [epp_25, va_up_ne _ _ hne_ab, epp_23, va_up_ne _ _ hne_ad, ho28]
      refine g_get (C := RJ25) (T := TJ25) (N := 6) (v := .ref z27) hx hb hts hown hK hG (hTH25.2.1 _ hDa) rfl in_J25 4 (by decide) q1183 rfl (congrArg (fun q9 => some (va_rf q9)) hf29) dJ4_rotateRight_56 ?_
      refine g_get (C := RJ25) (T := TJ25) (N := 6) (v := va_rf (r_ z27)) hx hb hts hown hK hG (hTH25.2.1 _ hD_z27) rfl in_J25 3 (by decide) q1181 rfl rfl dJ4_rotateRight_59 ?_
      refine lv_aload_n hx hb dJ4_rotateRight_62 rfl (lv_at hl 2 rfl) ?_
      refine lv_acmp_ne (tgt := 77) (rx := (r_ z27)) (ry := (some a)) hx hb dJ4_rotateRight_63 (by decide) (fun hq30 => ?_) (fun hq30 => ?_)
      · refine lv_aload_n hx hb dJ4_rotateRight_77 rfl (lv_at hl 2 rfl) ?_
        have hf31 : pp_25 a = (some z27) := by rw [epp_25, va_up_ne _ _ hne_ab, epp_23, va_up_ne _ _ hne_ad, ho28]
        refine g_get (C := RJ25) (T := TJ25) (N := 6) (v := .ref z27) hx hb hts hown hK hG (hTH25.2.1 _ hDa) rfl in_J25 4 (by decide) q1183 rfl (congrArg (fun q9 => some (va_rf q9)) hf31) dJ4_rotateRight_78 ?_
        refine lv_aload_n hx hb dJ4_rotateRight_81 rfl (lv_at hl 0 rfl) ?_
        refine g_put (C := RJ25) (T := TJ25) (N := 6) (ty0 := tyJ25) (v := .ref b) hx hb hts hown hK hG hS (hTH25.2.1 _ hD_z27) rfl in_J25 tyJ25_ok nmJ25 2 (by decide) q1180 rfl (by decide) rfl rfl (Nat.le_of_ble_eq_true rfl) dJ4_rotateRight_82 (fun H locs hG hS => ?_)
        obtain ⟨ll32, ell32⟩ : ∃ z : Nat → Option Nat, z = va_up ll2 z27 (some b) := ⟨_, rfl⟩
        have hTH32 : TH (gup σ25 z27 (tg, gO 18 ((teF K Vv ll2 r_ pp_25 C z27).set 2 (.ref b)))) tg mp (tIn n ad ps) K Vv ll32 r_ pp_25 C rt es ks sz md := by rw [ell32]; exact hTH25.pL hD_z27 (some b)
        have hkp32 : gKeep (fun t => t = tg) σ (gup σ25 z27 (tg, gO 18 ((teF K Vv ll2 r_ pp_25 C z27).set 2 (.ref b)))) := hkp25.tr (gKeep.up (hTH25.2.1 _ hD_z27) rfl)
        generalize (gup σ25 z27 (tg, gO 18 ((teF K Vv ll2 r_ pp_25 C z27).set 2 (.ref b)))) = σ32 at hG hTH32 hkp32
        refine lv_aload_n hx hb dJ4_rotateRight_85 rfl (lv_at hl 0 rfl) ?_
        refine lv_aload_n hx hb dJ4_rotateRight_86 rfl (lv_at hl 2 rfl) ?_
        refine g_put (C := RJ25) (T := TJ25) (N := 6) (ty0 := tyJ25) (v := .ref a) hx hb hts hown hK hG hS (hTH32.2.1 _ hD_b) rfl in_J25 tyJ25_ok nmJ25 3 (by decide) q1181 rfl (by decide) rfl rfl (Nat.le_of_ble_eq_true rfl) dJ4_rotateRight_87 (fun H locs hG hS => ?_)
        obtain ⟨rr33, err33⟩ : ∃ z : Nat → Option Nat, z = va_up r_ b (some a) := ⟨_, rfl⟩
        have hTH33 : TH (gup σ32 b (tg, gO 18 ((teF K Vv ll32 r_ pp_25 C b).set 3 (.ref a)))) tg mp (tIn n ad ps) K Vv ll32 rr33 pp_25 C rt es ks sz md := by rw [err33]; exact hTH32.pR hD_b (some a)
        have hkp33 : gKeep (fun t => t = tg) σ (gup σ32 b (tg, gO 18 ((teF K Vv ll32 r_ pp_25 C b).set 3 (.ref a)))) := hkp32.tr (gKeep.up (hTH32.2.1 _ hD_b) rfl)
        generalize (gup σ32 b (tg, gO 18 ((teF K Vv ll32 r_ pp_25 C b).set 3 (.ref a)))) = σ33 at hG hTH33 hkp33
        refine lv_aload_n hx hb dJ4_rotateRight_90 rfl (lv_at hl 2 rfl) ?_
        refine lv_aload_n hx hb dJ4_rotateRight_91 rfl (lv_at hl 0 rfl) ?_
        refine g_put (C := RJ25) (T := TJ25) (N := 6) (ty0 := tyJ25) (v := .ref b) hx hb hts hown hK hG hS (hTH33.2.1 _ hDa) rfl in_J25 tyJ25_ok nmJ25 4 (by decide) q1183 rfl (by decide) rfl rfl (Nat.le_of_ble_eq_true rfl) dJ4_rotateRight_92 (fun H locs hG hS => ?_)
        obtain ⟨pp_34, epp_34⟩ : ∃ z : Nat → Option Nat, z = va_up pp_25 a (some b) := ⟨_, rfl⟩
        have hTH34 : TH (gup σ33 a (tg, gO 18 ((teF K Vv ll32 rr33 pp_25 C a).set 4 (.ref b)))) tg mp (tIn n ad ps) K Vv ll32 rr33 pp_34 C rt es ks sz md := by rw [epp_34]; exact hTH33.pP hDa (some b)
        have hkp34 : gKeep (fun t => t = tg) σ (gup σ33 a (tg, gO 18 ((teF K Vv ll32 rr33 pp_25 C a).set 4 (.ref b)))) := hkp33.tr (gKeep.up (hTH33.2.1 _ hDa) rfl)
        generalize (gup σ33 a (tg, gO 18 ((teF K Vv ll32 rr33 pp_25 C a).set 4 (.ref b)))) = σ34 at hG hTH34 hkp34
        exact g_vret hx hb hr hlocks hQ hG hS (Nat.zero_le _) (Nat.zero_le _) ⟨rfl, ll32, rr33, pp_34, rt, hTH34, hkp34, (fun z hz => by
                  by_cases e : z = a
                  · rw [e, ell32, va_up_ne _ _ hne_aq, ell2, va_up_self, if_pos rfl]
                  · by_cases e2 : z = z27
                    · rw [e2, ell32, va_up_self, if_neg hne_aq.symm, if_pos ((hok.p1 hDa ho28).2.resolve_right hq30)]
                    · rw [ell32, va_up_ne _ _ e2, ell2, va_up_ne _ _ e, if_neg e, if_neg (fun k => e2 (by have q5 := (hok.l1 hz k).2.2.2; rw [ho28] at q5; exact (Option.some.inj q5).symm))]), (fun z hz => by
                  rw [err33]
                  by_cases e : z = b
                  · rw [e, va_up_self, if_pos rfl]
                  · rw [va_up_ne _ _ e, if_neg e, if_neg (fun k => by have q5 := (hok.r1 hz k).2.2.2; rw [ho28] at q5; have q6 := Option.some.inj q5; rw [← q6] at k; exact hq30 k)]), (fun z hz => by
                  by_cases e : z = b
                  · rw [e, epp_34, va_up_ne _ _ hne_ab.symm, epp_25, va_up_self, if_pos rfl]
                  · by_cases e2 : z = a
                    · rw [e2, epp_34, va_up_self, if_neg hne_ab, if_pos rfl]
                    · rw [epp_34, va_up_ne _ _ e2, epp_25, va_up_ne _ _ e, if_neg e, if_neg e2, epp_23]
                      by_cases e3 : z = z3
                      · rw [e3, va_up_self, if_pos ho4]
                      · rw [va_up_ne _ _ e3, if_neg (fun k => e3 (by rw [ho4] at k; exact (Option.some.inj k).symm))]), (by rw [if_neg (fun k => by have q5 := (hok.rx k).2.2.2; rw [ho28] at q5; cases q5)])⟩ dJ4_rotateRight_95
      · refine lv_aload_n hx hb dJ4_rotateRight_66 rfl (lv_at hl 2 rfl) ?_
        have hf35 : pp_25 a = (some z27) := by rw [epp_25, va_up_ne _ _ hne_ab, epp_23, va_up_ne _ _ hne_ad, ho28]
        refine g_get (C := RJ25) (T := TJ25) (N := 6) (v := .ref z27) hx hb hts hown hK hG (hTH25.2.1 _ hDa) rfl in_J25 4 (by decide) q1183 rfl (congrArg (fun q9 => some (va_rf q9)) hf35) dJ4_rotateRight_67 ?_
        refine lv_aload_n hx hb dJ4_rotateRight_70 rfl (lv_at hl 0 rfl) ?_
        refine g_put (C := RJ25) (T := TJ25) (N := 6) (ty0 := tyJ25) (v := .ref b) hx hb hts hown hK hG hS (hTH25.2.1 _ hD_z27) rfl in_J25 tyJ25_ok nmJ25 3 (by decide) q1181 rfl (by decide) rfl rfl (Nat.le_of_ble_eq_true rfl) dJ4_rotateRight_71 (fun H locs hG hS => ?_)
        obtain ⟨rr36, err36⟩ : ∃ z : Nat → Option Nat, z = va_up r_ z27 (some b) := ⟨_, rfl⟩
        have hTH36 : TH (gup σ25 z27 (tg, gO 18 ((teF K Vv ll2 r_ pp_25 C z27).set 3 (.ref b)))) tg mp (tIn n ad ps) K Vv ll2 rr36 pp_25 C rt es ks sz md := by rw [err36]; exact hTH25.pR hD_z27 (some b)
        have hkp36 : gKeep (fun t => t = tg) σ (gup σ25 z27 (tg, gO 18 ((teF K Vv ll2 r_ pp_25 C z27).set 3 (.ref b)))) := hkp25.tr (gKeep.up (hTH25.2.1 _ hD_z27) rfl)
        generalize (gup σ25 z27 (tg, gO 18 ((teF K Vv ll2 r_ pp_25 C z27).set 3 (.ref b)))) = σ36 at hG hTH36 hkp36
        refine lv_goto (tgt := 85) hx hb dJ4_rotateRight_74 (by decide) ?_
        refine lv_aload_n hx hb dJ4_rotateRight_85 rfl (lv_at hl 0 rfl) ?_
        refine lv_aload_n hx hb dJ4_rotateRight_86 rfl (lv_at hl 2 rfl) ?_
        refine g_put (C := RJ25) (T := TJ25) (N := 6) (ty0 := tyJ25) (v := .ref a) hx hb hts hown hK hG hS (hTH36.2.1 _ hD_b) rfl in_J25 tyJ25_ok nmJ25 3 (by decide) q1181 rfl (by decide) rfl rfl (Nat.le_of_ble_eq_true rfl) dJ4_rotateRight_87 (fun H locs hG hS => ?_)
        obtain ⟨rr37, err37⟩ : ∃ z : Nat → Option Nat, z = va_up rr36 b (some a) := ⟨_, rfl⟩
        have hTH37 : TH (gup σ36 b (tg, gO 18 ((teF K Vv ll2 rr36 pp_25 C b).set 3 (.ref a)))) tg mp (tIn n ad ps) K Vv ll2 rr37 pp_25 C rt es ks sz md := by rw [err37]; exact hTH36.pR hD_b (some a)
        have hkp37 : gKeep (fun t => t = tg) σ (gup σ36 b (tg, gO 18 ((teF K Vv ll2 rr36 pp_25 C b).set 3 (.ref a)))) := hkp36.tr (gKeep.up (hTH36.2.1 _ hD_b) rfl)
        generalize (gup σ36 b (tg, gO 18 ((teF K Vv ll2 rr36 pp_25 C b).set 3 (.ref a)))) = σ37 at hG hTH37 hkp37
        refine lv_aload_n hx hb dJ4_rotateRight_90 rfl (lv_at hl 2 rfl) ?_
        refine lv_aload_n hx hb dJ4_rotateRight_91 rfl (lv_at hl 0 rfl) ?_
        refine g_put (C := RJ25) (T := TJ25) (N := 6) (ty0 := tyJ25) (v := .ref b) hx hb hts hown hK hG hS (hTH37.2.1 _ hDa) rfl in_J25 tyJ25_ok nmJ25 4 (by decide) q1183 rfl (by decide) rfl rfl (Nat.le_of_ble_eq_true rfl) dJ4_rotateRight_92 (fun H locs hG hS => ?_)
        obtain ⟨pp_38, epp_38⟩ : ∃ z : Nat → Option Nat, z = va_up pp_25 a (some b) := ⟨_, rfl⟩
        have hTH38 : TH (gup σ37 a (tg, gO 18 ((teF K Vv ll2 rr37 pp_25 C a).set 4 (.ref b)))) tg mp (tIn n ad ps) K Vv ll2 rr37 pp_38 C rt es ks sz md := by rw [epp_38]; exact hTH37.pP hDa (some b)
        have hkp38 : gKeep (fun t => t = tg) σ (gup σ37 a (tg, gO 18 ((teF K Vv ll2 rr37 pp_25 C a).set 4 (.ref b)))) := hkp37.tr (gKeep.up (hTH37.2.1 _ hDa) rfl)
        generalize (gup σ37 a (tg, gO 18 ((teF K Vv ll2 rr37 pp_25 C a).set 4 (.ref b)))) = σ38 at hG hTH38 hkp38
        exact g_vret hx hb hr hlocks hQ hG hS (Nat.zero_le _) (Nat.zero_le _) ⟨rfl, ll2, rr37, pp_38, rt, hTH38, hkp38, (fun z hz => by
                  by_cases e : z = a
                  · rw [e, ell2, va_up_self, if_pos rfl]
                  · rw [ell2, va_up_ne _ _ e, if_neg e, if_neg (fun k => by have q5 := (hok.l1 hz k).2.2.2; rw [ho28] at q5; have q6 := Option.some.inj q5; rw [← q6] at k; have q7 := hok.l1 hD_z27 k; have q8 := hok.r1 hD_z27 hq30; have q9 := hok.num hDa; omega)]), (fun z hz => by
                  rw [err37]
                  by_cases e : z = b
                  · rw [e, va_up_self, if_pos rfl]
                  · rw [va_up_ne _ _ e, if_neg e, err36]
                    by_cases e2 : z = z27
                    · rw [e2, va_up_self, if_pos hq30]
                    · rw [va_up_ne _ _ e2, if_neg (fun k => e2 (by have q5 := (hok.r1 hz k).2.2.2; rw [ho28] at q5; exact (Option.some.inj q5).symm))]), (fun z hz => by
                  by_cases e : z = b
                  · rw [e, epp_38, va_up_ne _ _ hne_ab.symm, epp_25, va_up_self, if_pos rfl]
                  · by_cases e2 : z = a
                    · rw [e2, epp_38, va_up_self, if_neg hne_ab, if_pos rfl]
                    · rw [epp_38, va_up_ne _ _ e2, epp_25, va_up_ne _ _ e, if_neg e, if_neg e2, epp_23]
                      by_cases e3 : z = z3
                      · rw [e3, va_up_self, if_pos ho4]
                      · rw [va_up_ne _ _ e3, if_neg (fun k => e3 (by rw [ho4] at k; exact (Option.some.inj k).symm))]), (by rw [if_neg (fun k => by have q5 := (hok.rx k).2.2.2; rw [ho28] at q5; cases q5)])⟩ dJ4_rotateRight_95
    · refine lv_aload_n hx hb dJ4_rotateRight_47 rfl (lv_at hl 1 rfl) ?_
      refine lv_aload_n hx hb dJ4_rotateRight_48 rfl (lv_at hl 0 rfl) ?_
      refine g_put (C := RJ4) (T := TJ4) (N := 9) (ty0 := tyJ4) (v := .ref b) hx hb hts hown hK hG hS hTH25.1 rfl in_J4 tyJ4_ok nmJ4 3 (by decide) q146 rfl (by decide) rfl rfl (Nat.le_of_ble_eq_true rfl) dJ4_rotateRight_49 (fun H locs hG hS => ?_)
      have hTH39 : TH (gup σ25 mp (tg, gO 13 ((tmF rt es ks sz md).set 3 (.ref b)))) tg mp (tIn n ad ps) K Vv ll2 r_ pp_25 C (some b) es ks sz md := hTH25.map rfl
      have hkp39 : gKeep (fun t => t = tg) σ (gup σ25 mp (tg, gO 13 ((tmF rt es ks sz md).set 3 (.ref b)))) := hkp25.tr (gKeep.up hTH25.1 rfl)
      generalize (gup σ25 mp (tg, gO 13 ((tmF rt es ks sz md).set 3 (.ref b)))) = σ39 at hG hTH39 hkp39
      refine lv_goto (tgt := 85) hx hb dJ4_rotateRight_52 (by decide) ?_
      refine lv_aload_n hx hb dJ4_rotateRight_85 rfl (lv_at hl 0 rfl) ?_
      refine lv_aload_n hx hb dJ4_rotateRight_86 rfl (lv_at hl 2 rfl) ?_
      refine g_put (C := RJ25) (T := TJ25) (N := 6) (ty0 := tyJ25) (v := .ref a) hx hb hts hown hK hG hS (hTH39.2.1 _ hD_b) rfl in_J25 tyJ25_ok nmJ25 3 (by decide) q1181 rfl (by decide) rfl rfl (Nat.le_of_ble_eq_true rfl) dJ4_rotateRight_87 (fun H locs hG hS => ?_)
      obtain ⟨rr40, err40⟩ : ∃ z : Nat → Option Nat, z = va_up r_ b (some a) := ⟨_, rfl⟩
      have hTH40 : TH (gup σ39 b (tg, gO 18 ((teF K Vv ll2 r_ pp_25 C b).set 3 (.ref a)))) tg mp (tIn n ad ps) K Vv ll2 rr40 pp_25 C (some b) es ks sz md := by rw [err40]; exact hTH39.pR hD_b (some a)
      have hkp40 : gKeep (fun t => t = tg) σ (gup σ39 b (tg, gO 18 ((teF K Vv ll2 r_ pp_25 C b).set 3 (.ref a)))) := hkp39.tr (gKeep.up (hTH39.2.1 _ hD_b) rfl)
      generalize (gup σ39 b (tg, gO 18 ((teF K Vv ll2 r_ pp_25 C b).set 3 (.ref a)))) = σ40 at hG hTH40 hkp40
      refine lv_aload_n hx hb dJ4_rotateRight_90 rfl (lv_at hl 2 rfl) ?_
      refine lv_aload_n hx hb dJ4_rotateRight_91 rfl (lv_at hl 0 rfl) ?_
      refine g_put (C := RJ25) (T := TJ25) (N := 6) (ty0 := tyJ25) (v := .ref b) hx hb hts hown hK hG hS (hTH40.2.1 _ hDa) rfl in_J25 tyJ25_ok nmJ25 4 (by decide) q1183 rfl (by decide) rfl rfl (Nat.le_of_ble_eq_true rfl) dJ4_rotateRight_92 (fun H locs hG hS => ?_)
      obtain ⟨pp_41, epp_41⟩ : ∃ z : Nat → Option Nat, z = va_up pp_25 a (some b) := ⟨_, rfl⟩
      have hTH41 : TH (gup σ40 a (tg, gO 18 ((teF K Vv ll2 rr40 pp_25 C a).set 4 (.ref b)))) tg mp (tIn n ad ps) K Vv ll2 rr40 pp_41 C (some b) es ks sz md := by rw [epp_41]; exact hTH40.pP hDa (some b)
      have hkp41 : gKeep (fun t => t = tg) σ (gup σ40 a (tg, gO 18 ((teF K Vv ll2 rr40 pp_25 C a).set 4 (.ref b)))) := hkp40.tr (gKeep.up (hTH40.2.1 _ hDa) rfl)
      generalize (gup σ40 a (tg, gO 18 ((teF K Vv ll2 rr40 pp_25 C a).set 4 (.ref b)))) = σ41 at hG hTH41 hkp41
      exact g_vret hx hb hr hlocks hQ hG hS (Nat.zero_le _) (Nat.zero_le _) ⟨rfl, ll2, rr40, pp_41, (some b), hTH41, hkp41, (fun z hz => by
                by_cases e : z = a
                · rw [e, ell2, va_up_self, if_pos rfl]
                · rw [ell2, va_up_ne _ _ e, if_neg e, if_neg (fun k => by have q5 := (hok.l1 hz k).2.2.2; rw [ho28] at q5; cases q5)]), (fun z hz => by
                rw [err40]
                by_cases e : z = b
                · rw [e, va_up_self, if_pos rfl]
                · rw [va_up_ne _ _ e, if_neg e, if_neg (fun k => by have q5 := (hok.r1 hz k).2.2.2; rw [ho28] at q5; cases q5)]), (fun z hz => by
                by_cases e : z = b
                · rw [e, epp_41, va_up_ne _ _ hne_ab.symm, epp_25, va_up_self, if_pos rfl]
                · by_cases e2 : z = a
                  · rw [e2, epp_41, va_up_self, if_neg hne_ab, if_pos rfl]
                  · rw [epp_41, va_up_ne _ _ e2, epp_25, va_up_ne _ _ e, if_neg e, if_neg e2, epp_23]
                    by_cases e3 : z = z3
                    · rw [e3, va_up_self, if_pos ho4]
                    · rw [va_up_ne _ _ e3, if_neg (fun k => e3 (by rw [ho4] at k; exact (Option.some.inj k).symm))]), (by rw [if_pos (hok.p0 hDa ho28)])⟩ dJ4_rotateRight_95

set_option maxHeartbeats 4000000 in
theorem mJ4_rotateRight_0 (l : Launch) (X : gX) (σ : gS) (tg mp n : Nat) (ad ps : Nat → Nat) (K : Nat → Nat) (Vv l_ r_ p_ : Nat → Option Nat) (C : Nat → Int) (rt es ks : Option Nat) (sz md : Int) (hTH : TH σ tg mp (tIn n ad ps) K Vv l_ r_ p_ C rt es ks sz md)  : gMet l X yJ4_rotateRight cJ4_rotateRight 3 none 0 0 0 0 σ [.ref mp, .null] (oV (fun σ' => σ = σ')) := by
  refine gMet.of (by decide) (Nat.le_of_ble_eq_true rfl) ?_
  intro pp ee ss mm args below meth cd Q H locs ls hargs hx hb hr hlocks hml hown hnm hts hK hG hS hQ hl
  have hown : ss.vm.findClass RJ4 = some mm.cls := hown
  have hl : lv_has ls 3 [(0, .ref mp), (1, .null)] := hl
  have hkp : gKeep (fun t => t = tg) σ σ := gKeep.rf
  refine lv_aload_nN hx hb dJ4_rotateRight_0 rfl (lv_at hl 1 rfl) ?_
  refine lv_ifnullN (tgt := 95) hx hb dJ4_rotateRight_1 (by decide) ?_
  exact g_vret hx hb hr hlocks hQ hG hS (Nat.zero_le _) (Nat.zero_le _) ⟨rfl, rfl⟩ dJ4_rotateRight_95

