set_option maxHeartbeats 4000000 in
theorem mJ4_compare_X11 (l : Launch) (X : gX) (σ : gS) (tg mp n : Nat) (ad ps : Nat → Nat) (K : Nat → Nat) (Vv l_ r_ p_ : Nat → Option Nat) (C : Nat → Int) (rt es ks : Option Nat) (sz md : Int) (hTH : TH σ tg mp (tIn n ad ps) K Vv l_ r_ p_ C rt es ks sz md) (κ t9 : Nat) (k9 : Int) (hκ : σ κ = some (t9, gO 11 [.int (iI k9)])) (hk9 : 0 ≤ k9 ∧ k9 ≤ 2000) : gMet l X yJ4_compare cJ4_compare 3 (some .int) 3 0 0 63 σ [.ref mp, .ref κ, .ref κ] (oI (fun r σ' => σ = σ')) := by
  refine gMet.of (by decide) (Nat.le_of_ble_eq_true rfl) ?_
  intro pp ee ss mm args below meth cd Q H locs ls hargs hx hb hr hlocks hml hown hnm hts hK hG hS hQ hl
  have hown : ss.vm.findClass RJ4 = some mm.cls := hown
  have hl : lv_has ls 3 [(0, .ref mp), (1, .ref κ), (2, .ref κ)] := hl
  have hkp : gKeep (fun t => t = tg) σ σ := gKeep.rf
  refine lv_aload_n hx hb dJ4_compare_0 rfl (lv_at hl 0 rfl) ?_
  refine g_get (C := RJ4) (T := TJ4) (N := 9) (v := .null) hx hb hts hown hK hG hTH.1 rfl in_J4 2 (by decide) q145 rfl rfl dJ4_compare_1 ?_
  refine lv_ifnonnullN hx hb dJ4_compare_4 ?_
  refine lv_aload_n hx hb dJ4_compare_7 rfl (lv_at hl 1 rfl) ?_
  refine g_castY hx hb hts hown hK hG hκ rfl q1140 q857 dJ4_compare_8 ?_
  refine lv_aload_n hx hb dJ4_compare_11 rfl (lv_at hl 2 rfl) ?_
  refine g_callF (As := [.ref κ]) (rest := []) 1 hx hb hml hown hts hK hG hS hl.1 (mX11_compareTo l X σ κ κ _ _ k9 k9 hκ hκ (by omega) (by omega)) hκ rfl q1142 q858 q860 q114 q862 q844 q843 q861 q859 q857 (by decide +kernel) rfl ⟨Nat.le_of_ble_eq_true rfl, Nat.le_of_ble_eq_true rfl⟩ ⟨Nat.le_of_ble_eq_true rfl, Nat.le_of_ble_eq_true rfl⟩ (Nat.le_of_ble_eq_true rfl) dJ4_compare_12 (kI (fun r1 σr1 H locs hp hG hS => ?_))
  obtain ⟨hr1, rfl⟩ := hp
  refine lv_goto (tgt := 31) hx hb dJ4_compare_17 (by decide) ?_
  exact g_iret hx hb hr hlocks hQ hG hS (Nat.zero_le _) (Nat.zero_le _) ⟨_, rfl, rfl⟩ dJ4_compare_31

set_option maxHeartbeats 4000000 in
theorem mJ4_compare_X9 (l : Launch) (X : gX) (σ : gS) (tg mp n : Nat) (ad ps : Nat → Nat) (K : Nat → Nat) (Vv l_ r_ p_ : Nat → Option Nat) (C : Nat → Int) (rt es ks : Option Nat) (sz md : Int) (hTH : TH σ tg mp (tIn n ad ps) K Vv l_ r_ p_ C rt es ks sz md) (κ t9 : Nat) (k9 : Int) (hκ : σ κ = some (t9, gO 9 [.int (iI k9)])) (hk9 : 0 ≤ k9 ∧ k9 ≤ 2000) : gMet l X yJ4_compare cJ4_compare 3 (some .int) 3 0 0 63 σ [.ref mp, .ref κ, .ref κ] (oI (fun r σ' => σ = σ')) := by
  refine gMet.of (by decide) (Nat.le_of_ble_eq_true rfl) ?_
  intro pp ee ss mm args below meth cd Q H locs ls hargs hx hb hr hlocks hml hown hnm hts hK hG hS hQ hl
  have hown : ss.vm.findClass RJ4 = some mm.cls := hown
  have hl : lv_has ls 3 [(0, .ref mp), (1, .ref κ), (2, .ref κ)] := hl
  have hkp : gKeep (fun t => t = tg) σ σ := gKeep.rf
  refine lv_aload_n hx hb dJ4_compare_0 rfl (lv_at hl 0 rfl) ?_
  refine g_get (C := RJ4) (T := TJ4) (N := 9) (v := .null) hx hb hts hown hK hG hTH.1 rfl in_J4 2 (by decide) q145 rfl rfl dJ4_compare_1 ?_
  refine lv_ifnonnullN hx hb dJ4_compare_4 ?_
  refine lv_aload_n hx hb dJ4_compare_7 rfl (lv_at hl 1 rfl) ?_
  refine g_castY hx hb hts hown hK hG hκ rfl q1140 q845 dJ4_compare_8 ?_
  refine lv_aload_n hx hb dJ4_compare_11 rfl (lv_at hl 2 rfl) ?_
  refine g_callF (As := [.ref κ]) (rest := []) 1 hx hb hml hown hts hK hG hS hl.1 (mX9_compareTo l X σ κ κ _ _ k9 k9 hκ hκ (by omega) (by omega)) hκ rfl q1142 q846 q848 q105 q850 q844 q843 q849 q847 q845 (by decide +kernel) rfl ⟨Nat.le_of_ble_eq_true rfl, Nat.le_of_ble_eq_true rfl⟩ ⟨Nat.le_of_ble_eq_true rfl, Nat.le_of_ble_eq_true rfl⟩ (Nat.le_of_ble_eq_true rfl) dJ4_compare_12 (kI (fun r1 σr1 H locs hp hG hS => ?_))
  obtain ⟨hr1, rfl⟩ := hp
  refine lv_goto (tgt := 31) hx hb dJ4_compare_17 (by decide) ?_
  exact g_iret hx hb hr hlocks hQ hG hS (Nat.zero_le _) (Nat.zero_le _) ⟨_, rfl, rfl⟩ dJ4_compare_31

set_option maxHeartbeats 4000000 in
theorem mJ4_getEntry_X11 (l : Launch) (X : gX) (σ : gS) (tg mp n : Nat) (ad ps : Nat → Nat) (K : Nat → Nat) (Vv l_ r_ p_ : Nat → Option Nat) (C : Nat → Int) (rt es ks : Option Nat) (sz md : Int) (hTH : TH σ tg mp (tIn n ad ps) K Vv l_ r_ p_ C rt es ks sz md) (lo hi : Nat → Nat) (hok : tOk n ad ps l_ r_ p_ lo hi rt) (kt : Nat) (hkt : ¬ kt = tg) (kc : Nat → Int) (hKc : ∀ a, tIn n ad ps a → σ (K a) = some (kt, gO 11 [.int (iI (kc a))]) ∧ 0 ≤ kc a ∧ kc a ≤ 2000) (hko : kOk n ad kc) (κ t9 : Nat) (k9 : Int) (hκ : σ κ = some (t9, gO 11 [.int (iI k9)])) (hκt : ¬ t9 = tg) (hk9 : 0 ≤ k9 ∧ k9 ≤ 2000) : gMet l X yJ4_getEntry cJ4_getEntry 5 (some (.object "java/util/TreeMap$Entry")) 3 0 0 63 σ [.ref mp, .ref κ] (oA (fun v σ' => (∃ o : Option Nat, v = va_rf o ∧ (∀ a, o = some a → tIn n ad ps a ∧ kc a = k9) ∧ (o = none → ∀ a, tIn n ad ps a → kc a ≠ k9)) ∧ σ = σ')) := by
  refine gMet.of (by decide) (Nat.le_of_ble_eq_true rfl) ?_
  intro pp ee ss mm args below meth cd Q H locs ls hargs hx hb hr hlocks hml hown hnm hts hK hG hS hQ hl
  have hown : ss.vm.findClass RJ4 = some mm.cls := hown
  have hl : lv_has ls 5 [(0, .ref mp), (1, .ref κ)] := hl
  have hkp : gKeep (fun t => t = tg) σ σ := gKeep.rf
  refine lv_aload_n hx hb dJ4_getEntry_0 rfl (lv_at hl 0 rfl) ?_
  refine g_get (C := RJ4) (T := TJ4) (N := 9) (v := .null) hx hb hts hown hK hG hTH.1 rfl in_J4 2 (by decide) q145 rfl rfl dJ4_getEntry_1 ?_
  refine lv_ifnullN (tgt := 13) hx hb dJ4_getEntry_4 (by decide) ?_
  refine lv_aload_n hx hb dJ4_getEntry_13 rfl (lv_at hl 1 rfl) ?_
  refine g_callS (As := [.ref κ]) (rest := []) 1 hx hb hml hown hts hK hG hS hl.1 (mJ24_requireNonNull l X σ κ) q1135 q1136 q106 q1137 (by decide +kernel) rfl ⟨Nat.le_of_ble_eq_true rfl, Nat.le_of_ble_eq_true rfl⟩ ⟨Nat.le_of_ble_eq_true rfl, Nat.le_of_ble_eq_true rfl⟩ (Nat.le_of_ble_eq_true rfl) dJ4_getEntry_14 (kA (fun r1 σr1 H locs hp hG hS => ?_))
  obtain ⟨rfl, rfl⟩ := hp
  refine lv_pop hx hb dJ4_getEntry_17 rfl ?_
  refine lv_aload_n hx hb dJ4_getEntry_18 rfl (lv_at hl 1 rfl) ?_
  refine g_castY hx hb hts hown hK hG (hkp _ _ _ hκ hκt) rfl q1140 q857 dJ4_getEntry_19 ?_
  refine lv_astore_n (lv' := [(2, .ref κ), (0, .ref mp), (1, .ref κ)]) hx hb dJ4_getEntry_22 rfl hl (by decide) rfl (fun ls hl => ?_)
  refine lv_aload_n hx hb dJ4_getEntry_23 rfl (lv_at hl 1 rfl) ?_
  refine g_get (C := RJ4) (T := TJ4) (N := 9) (v := va_rf rt) hx hb hts hown hK hG hTH.1 rfl in_J4 3 (by decide) q146 rfl rfl dJ4_getEntry_24 ?_
  refine g_astore_nR (lv' := [(3, va_rf rt), (2, .ref κ), (0, .ref mp), (1, .ref κ)]) hx hb dJ4_getEntry_27 rfl hl (by decide) rfl (fun ls hl => ?_)
  have loop_28 : ∀ (nF : Nat) (o9 : Option Nat) (lo9 : Nat) (hi9 : Nat), (hi9 - lo9 : Nat) < nF → (∀ a, o9 = some a → tIn n ad ps a ∧ lo a = lo9 ∧ hi a = hi9) → (o9 = none → hi9 ≤ lo9) → (∀ i, i < lo9 → kc (ad i) < k9) → (∀ i, hi9 ≤ i → i < n → k9 < kc (ad i)) → ∀ (H : Heap) (locs : List Loc) (ls : Array Slot), gSat X σ H → va_S (gA X) ss.heap H locs → lv_has ls 5 [(3, va_rf o9), (2, .ref κ), (0, .ref mp), (1, .ref κ)] → W pp l ee (gR 3 0 0 63) ss mm args below meth cd H locs 0 0 Q (F0 mm 28 ls []) := by
    intro nF
    induction nF with
    | zero => intro o9 lo9 hi9 hm; exact absurd hm (Nat.not_lt_zero _)
    | succ nF ih_28 =>
      intro o9 lo9 hi9 hm hD9 hn9 hl9 hh9 H locs ls hG hS hl
      refine g_aload_nR hx hb dJ4_getEntry_28 rfl (lv_at hl 0 rfl) ?_
      refine g_ifnullR (tgt := 75) hx hb dJ4_getEntry_29 (by decide) (fun ho3 => ?_) (fun z2 ho3 => ?_)
      · have hl : lv_has ls 5 [(3, .null), (2, .ref κ), (0, .ref mp), (1, .ref κ)] := by first | exact hl | (rw [ho3] at hl; exact hl)
        refine lv_null hx hb dJ4_getEntry_75 ?_
        exact g_aret hx hb hr (by first | exact Or.inl ⟨_, rfl⟩ | exact Or.inr ⟨_, rfl⟩) (by first | exact Or.inl rfl | exact Or.inr ⟨_, rfl⟩ | assumption | exact va_rf_or _) hlocks hQ hG hS (Nat.zero_le _) (Nat.zero_le _) ⟨_, rfl, ⟨none, rfl, fun a h => (by cases h), fun _ a ha => by
                have h1 := hn9 (by assumption)
                have h2 := ha.1
                have h3 : kc (ad (ps a)) ≠ k9 := by
                  by_cases e : ps a < lo9
                  · have := hl9 _ e; omega
                  · have := hh9 (ps a) (by omega) h2; omega
                rw [ha.2] at h3
                exact h3⟩, rfl⟩ dJ4_getEntry_76
      · have hl : lv_has ls 5 [(3, .ref z2), (2, .ref κ), (0, .ref mp), (1, .ref κ)] := by first | exact hl | (rw [ho3] at hl; exact hl)
        have hD_z2 := (hD9 z2 ho3).1
        have hb_z2 := (hD9 z2 ho3).2
        have hn_z2 := hok.num hD_z2
        have hk_z2 := (hKc z2 hD_z2).2
        refine lv_aload_n hx hb dJ4_getEntry_32 rfl (lv_at hl 1 rfl) ?_
        refine lv_aload_n hx hb dJ4_getEntry_33 rfl (lv_at hl 0 rfl) ?_
        refine g_get (C := RJ25) (T := TJ25) (N := 6) (v := .ref (K z2)) hx hb hts hown hK hG (hTH.2.1 _ hD_z2) rfl in_J25 0 (by decide) q1177 rfl rfl dJ4_getEntry_34 ?_
        refine g_callF (As := [.ref (K z2)]) (rest := []) 1 hx hb hml hown hts hK hG hS hl.1 (mX11_compareTo l X σ κ (K z2) _ _ k9 (kc z2) (hkp _ _ _ hκ hκt) (hkp _ _ _ (hKc z2 hD_z2).1 hkt) (by omega) (by omega)) (hkp _ _ _ hκ hκt) rfl q1142 q858 q860 q114 q862 q844 q843 q861 q859 q857 (by decide +kernel) rfl ⟨Nat.le_of_ble_eq_true rfl, Nat.le_of_ble_eq_true rfl⟩ ⟨Nat.le_of_ble_eq_true rfl, Nat.le_of_ble_eq_true rfl⟩ (Nat.le_of_ble_eq_true rfl) dJ4_getEntry_37 (kI (fun r4 σr4 H locs hp hG hS => ?_))
        obtain ⟨hr4, rfl⟩ := hp
        refine lv_istore (lv' := [(4, .int (iI r4)), (3, .ref z2), (2, .ref κ), (0, .ref mp), (1, .ref κ)]) hx hb dJ4_getEntry_42 hl (by decide) rfl (fun ls hl => ?_)
        refine lv_iload hx hb dJ4_getEntry_44 (lv_at hl 0 rfl) ?_
        refine g_if_ge (tgt := 57) hx hb dJ4_getEntry_46 (by decide) (by omega) (fun cq5 => ?_) (fun cq5 => ?_)
        · refine lv_iload hx hb dJ4_getEntry_57 (lv_at hl 0 rfl) ?_
          refine g_if_le (tgt := 70) hx hb dJ4_getEntry_59 (by decide) (by omega) (fun cq6 => ?_) (fun cq6 => ?_)
          · refine lv_aload_n hx hb dJ4_getEntry_70 rfl (lv_at hl 1 rfl) ?_
            exact g_aret hx hb hr (by first | exact Or.inl ⟨_, rfl⟩ | exact Or.inr ⟨_, rfl⟩) (by first | exact Or.inl rfl | exact Or.inr ⟨_, rfl⟩ | assumption | exact va_rf_or _) hlocks hQ hG hS (Nat.zero_le _) (Nat.zero_le _) ⟨_, rfl, ⟨some z2, rfl, fun a h => (by cases h; exact ⟨hD_z2, by omega⟩), fun h => (by cases h)⟩, rfl⟩ dJ4_getEntry_71
          · refine lv_aload_n hx hb dJ4_getEntry_62 rfl (lv_at hl 1 rfl) ?_
            refine g_get (C := RJ25) (T := TJ25) (N := 6) (v := va_rf (r_ z2)) hx hb hts hown hK hG (hTH.2.1 _ hD_z2) rfl in_J25 3 (by decide) q1181 rfl rfl dJ4_getEntry_63 ?_
            refine g_astore_nR (lv' := [(3, va_rf (r_ z2)), (4, .int (iI r4)), (2, .ref κ), (0, .ref mp), (1, .ref κ)]) hx hb dJ4_getEntry_66 rfl hl (by decide) rfl (fun ls hl => ?_)
            refine lv_goto (tgt := 72) hx hb dJ4_getEntry_67 (by decide) ?_
            refine lv_goto (tgt := 28) hx hb dJ4_getEntry_72 (by decide) ?_
            exact ih_28 (r_ z2) (ps z2 + 1) hi9 (by omega) (fun a h => by have q := hok.r1 hD_z2 h; exact ⟨q.1, by omega, by omega⟩) (fun h => by have q := hok.r0 hD_z2 h; omega) (fun i h => by
                        by_cases e : i = ps z2
                        · rw [e, hD_z2.2]; omega
                        · have := hko i (ps z2) (by omega) hD_z2.1; rw [hD_z2.2] at this; omega) (hh9)  _ _ _ hG hS (lv_sub hl [0, 2, 3, 4] rfl)
        · refine lv_aload_n hx hb dJ4_getEntry_49 rfl (lv_at hl 1 rfl) ?_
          refine g_get (C := RJ25) (T := TJ25) (N := 6) (v := va_rf (l_ z2)) hx hb hts hown hK hG (hTH.2.1 _ hD_z2) rfl in_J25 2 (by decide) q1180 rfl rfl dJ4_getEntry_50 ?_
          refine g_astore_nR (lv' := [(3, va_rf (l_ z2)), (4, .int (iI r4)), (2, .ref κ), (0, .ref mp), (1, .ref κ)]) hx hb dJ4_getEntry_53 rfl hl (by decide) rfl (fun ls hl => ?_)
          refine lv_goto (tgt := 72) hx hb dJ4_getEntry_54 (by decide) ?_
          refine lv_goto (tgt := 28) hx hb dJ4_getEntry_72 (by decide) ?_
          exact ih_28 (l_ z2) lo9 (ps z2) (by omega) (fun a h => by have q := hok.l1 hD_z2 h; exact ⟨q.1, by omega, by omega⟩) (fun h => by have q := hok.l0 hD_z2 h; omega) (hl9) (fun i h h2 => by
                      by_cases e : i = ps z2
                      · rw [e, hD_z2.2]; omega
                      · have := hko (ps z2) i (by omega) h2; rw [hD_z2.2] at this; omega)  _ _ _ hG hS (lv_sub hl [0, 2, 3, 4] rfl)
  exact loop_28 _ rt 0 n (Nat.lt_succ_self _) (fun a h => ⟨(hok.rx h).1, (hok.rx h).2.1, (hok.rx h).2.2.1⟩) (fun h => by have := hok.2.1.1 h; omega) (fun i h => absurd h (Nat.not_lt_zero _)) (fun i h1 h2 => by omega)  _ _ _ hG hS (lv_sub hl [0, 1, 2, 3] rfl)

set_option maxHeartbeats 4000000 in
theorem mJ4_getEntry_X9 (l : Launch) (X : gX) (σ : gS) (tg mp n : Nat) (ad ps : Nat → Nat) (K : Nat → Nat) (Vv l_ r_ p_ : Nat → Option Nat) (C : Nat → Int) (rt es ks : Option Nat) (sz md : Int) (hTH : TH σ tg mp (tIn n ad ps) K Vv l_ r_ p_ C rt es ks sz md) (lo hi : Nat → Nat) (hok : tOk n ad ps l_ r_ p_ lo hi rt) (kt : Nat) (hkt : ¬ kt = tg) (kc : Nat → Int) (hKc : ∀ a, tIn n ad ps a → σ (K a) = some (kt, gO 9 [.int (iI (kc a))]) ∧ 0 ≤ kc a ∧ kc a ≤ 2000) (hko : kOk n ad kc) (κ t9 : Nat) (k9 : Int) (hκ : σ κ = some (t9, gO 9 [.int (iI k9)])) (hκt : ¬ t9 = tg) (hk9 : 0 ≤ k9 ∧ k9 ≤ 2000) : gMet l X yJ4_getEntry cJ4_getEntry 5 (some (.object "java/util/TreeMap$Entry")) 3 0 0 63 σ [.ref mp, .ref κ] (oA (fun v σ' => (∃ o : Option Nat, v = va_rf o ∧ (∀ a, o = some a → tIn n ad ps a ∧ kc a = k9) ∧ (o = none → ∀ a, tIn n ad ps a → kc a ≠ k9)) ∧ σ = σ')) := by
  refine gMet.of (by decide) (Nat.le_of_ble_eq_true rfl) ?_
  intro pp ee ss mm args below meth cd Q H locs ls hargs hx hb hr hlocks hml hown hnm hts hK hG hS hQ hl
  have hown : ss.vm.findClass RJ4 = some mm.cls := hown
  have hl : lv_has ls 5 [(0, .ref mp), (1, .ref κ)] := hl
  have hkp : gKeep (fun t => t = tg) σ σ := gKeep.rf
  refine lv_aload_n hx hb dJ4_getEntry_0 rfl (lv_at hl 0 rfl) ?_
  refine g_get (C := RJ4) (T := TJ4) (N := 9) (v := .null) hx hb hts hown hK hG hTH.1 rfl in_J4 2 (by decide) q145 rfl rfl dJ4_getEntry_1 ?_
  refine lv_ifnullN (tgt := 13) hx hb dJ4_getEntry_4 (by decide) ?_
  refine lv_aload_n hx hb dJ4_getEntry_13 rfl (lv_at hl 1 rfl) ?_
  refine g_callS (As := [.ref κ]) (rest := []) 1 hx hb hml hown hts hK hG hS hl.1 (mJ24_requireNonNull l X σ κ) q1135 q1136 q106 q1137 (by decide +kernel) rfl ⟨Nat.le_of_ble_eq_true rfl, Nat.le_of_ble_eq_true rfl⟩ ⟨Nat.le_of_ble_eq_true rfl, Nat.le_of_ble_eq_true rfl⟩ (Nat.le_of_ble_eq_true rfl) dJ4_getEntry_14 (kA (fun r1 σr1 H locs hp hG hS => ?_))
  obtain ⟨rfl, rfl⟩ := hp
  refine lv_pop hx hb dJ4_getEntry_17 rfl ?_
  refine lv_aload_n hx hb dJ4_getEntry_18 rfl (lv_at hl 1 rfl) ?_
  refine g_castY hx hb hts hown hK hG (hkp _ _ _ hκ hκt) rfl q1140 q845 dJ4_getEntry_19 ?_
  refine lv_astore_n (lv' := [(2, .ref κ), (0, .ref mp), (1, .ref κ)]) hx hb dJ4_getEntry_22 rfl hl (by decide) rfl (fun ls hl => ?_)
  refine lv_aload_n hx hb dJ4_getEntry_23 rfl (lv_at hl 1 rfl) ?_
  refine g_get (C := RJ4) (T := TJ4) (N := 9) (v := va_rf rt) hx hb hts hown hK hG hTH.1 rfl in_J4 3 (by decide) q146 rfl rfl dJ4_getEntry_24 ?_
  refine g_astore_nR (lv' := [(3, va_rf rt), (2, .ref κ), (0, .ref mp), (1, .ref κ)]) hx hb dJ4_getEntry_27 rfl hl (by decide) rfl (fun ls hl => ?_)
  have loop_28 : ∀ (nF : Nat) (o9 : Option Nat) (lo9 : Nat) (hi9 : Nat), (hi9 - lo9 : Nat) < nF → (∀ a, o9 = some a → tIn n ad ps a ∧ lo a = lo9 ∧ hi a = hi9) → (o9 = none → hi9 ≤ lo9) → (∀ i, i < lo9 → kc (ad i) < k9) → (∀ i, hi9 ≤ i → i < n → k9 < kc (ad i)) → ∀ (H : Heap) (locs : List Loc) (ls : Array Slot), gSat X σ H → va_S (gA X) ss.heap H locs → lv_has ls 5 [(3, va_rf o9), (2, .ref κ), (0, .ref mp), (1, .ref κ)] → W pp l ee (gR 3 0 0 63) ss mm args below meth cd H locs 0 0 Q (F0 mm 28 ls []) := by
    intro nF
    induction nF with
    | zero => intro o9 lo9 hi9 hm; exact absurd hm (Nat.not_lt_zero _)
    | succ nF ih_28 =>
      intro o9 lo9 hi9 hm hD9 hn9 hl9 hh9 H locs ls hG hS hl
      refine g_aload_nR hx hb dJ4_getEntry_28 rfl (lv_at hl 0 rfl) ?_
      refine g_ifnullR (tgt := 75) hx hb dJ4_getEntry_29 (by decide) (fun ho3 => ?_) (fun z2 ho3 => ?_)
      · have hl : lv_has ls 5 [(3, .null), (2, .ref κ), (0, .ref mp), (1, .ref κ)] := by first | exact hl | (rw [ho3] at hl; exact hl)
        refine lv_null hx hb dJ4_getEntry_75 ?_
        exact g_aret hx hb hr (by first | exact Or.inl ⟨_, rfl⟩ | exact Or.inr ⟨_, rfl⟩) (by first | exact Or.inl rfl | exact Or.inr ⟨_, rfl⟩ | assumption | exact va_rf_or _) hlocks hQ hG hS (Nat.zero_le _) (Nat.zero_le _) ⟨_, rfl, ⟨none, rfl, fun a h => (by cases h), fun _ a ha => by
                have h1 := hn9 (by assumption)
                have h2 := ha.1
                have h3 : kc (ad (ps a)) ≠ k9 := by
                  by_cases e : ps a < lo9
                  · have := hl9 _ e; omega
                  · have := hh9 (ps a) (by omega) h2; omega
                rw [ha.2] at h3
                exact h3⟩, rfl⟩ dJ4_getEntry_76
      · have hl : lv_has ls 5 [(3, .ref z2), (2, .ref κ), (0, .ref mp), (1, .ref κ)] := by first | exact hl | (rw [ho3] at hl; exact hl)
        have hD_z2 := (hD9 z2 ho3).1
        have hb_z2 := (hD9 z2 ho3).2
        have hn_z2 := hok.num hD_z2
        have hk_z2 := (hKc z2 hD_z2).2
        refine lv_aload_n hx hb dJ4_getEntry_32 rfl (lv_at hl 1 rfl) ?_
        refine lv_aload_n hx hb dJ4_getEntry_33 rfl (lv_at hl 0 rfl) ?_
        refine g_get (C := RJ25) (T := TJ25) (N := 6) (v := .ref (K z2)) hx hb hts hown hK hG (hTH.2.1 _ hD_z2) rfl in_J25 0 (by decide) q1177 rfl rfl dJ4_getEntry_34 ?_
        refine g_callF (As := [.ref (K z2)]) (rest := []) 1 hx hb hml hown hts hK hG hS hl.1 (mX9_compareTo l X σ κ (K z2) _ _ k9 (kc z2) (hkp _ _ _ hκ hκt) (hkp _ _ _ (hKc z2 hD_z2).1 hkt) (by omega) (by omega)) (hkp _ _ _ hκ hκt) rfl q1142 q846 q848 q105 q850 q844 q843 q849 q847 q845 (by decide +kernel) rfl ⟨Nat.le_of_ble_eq_true rfl, Nat.le_of_ble_eq_true rfl⟩ ⟨Nat.le_of_ble_eq_true rfl, Nat.le_of_ble_eq_true rfl⟩ (Nat.le_of_ble_eq_true rfl) dJ4_getEntry_37 (kI (fun r4 σr4 H locs hp hG hS => ?_))
        obtain ⟨hr4, rfl⟩ := hp
        refine lv_istore (lv' := [(4, .int (iI r4)), (3, .ref z2), (2, .ref κ), (0, .ref mp), (1, .ref κ)]) hx hb dJ4_getEntry_42 hl (by decide) rfl (fun ls hl => ?_)
        refine lv_iload hx hb dJ4_getEntry_44 (lv_at hl 0 rfl) ?_
        refine g_if_ge (tgt := 57) hx hb dJ4_getEntry_46 (by decide) (by omega) (fun cq5 => ?_) (fun cq5 => ?_)
        · refine lv_iload hx hb dJ4_getEntry_57 (lv_at hl 0 rfl) ?_
          refine g_if_le (tgt := 70) hx hb dJ4_getEntry_59 (by decide) (by omega) (fun cq6 => ?_) (fun cq6 => ?_)
          · refine lv_aload_n hx hb dJ4_getEntry_70 rfl (lv_at hl 1 rfl) ?_
            exact g_aret hx hb hr (by first | exact Or.inl ⟨_, rfl⟩ | exact Or.inr ⟨_, rfl⟩) (by first | exact Or.inl rfl | exact Or.inr ⟨_, rfl⟩ | assumption | exact va_rf_or _) hlocks hQ hG hS (Nat.zero_le _) (Nat.zero_le _) ⟨_, rfl, ⟨some z2, rfl, fun a h => (by cases h; exact ⟨hD_z2, by omega⟩), fun h => (by cases h)⟩, rfl⟩ dJ4_getEntry_71
          · refine lv_aload_n hx hb dJ4_getEntry_62 rfl (lv_at hl 1 rfl) ?_
            refine g_get (C := RJ25) (T := TJ25) (N := 6) (v := va_rf (r_ z2)) hx hb hts hown hK hG (hTH.2.1 _ hD_z2) rfl in_J25 3 (by decide) q1181 rfl rfl dJ4_getEntry_63 ?_
            refine g_astore_nR (lv' := [(3, va_rf (r_ z2)), (4, .int (iI r4)), (2, .ref κ), (0, .ref mp), (1, .ref κ)]) hx hb dJ4_getEntry_66 rfl hl (by decide) rfl (fun ls hl => ?_)
            refine lv_goto (tgt := 72) hx hb dJ4_getEntry_67 (by decide) ?_
            refine lv_goto (tgt := 28) hx hb dJ4_getEntry_72 (by decide) ?_
            exact ih_28 (r_ z2) (ps z2 + 1) hi9 (by omega) (fun a h => by have q := hok.r1 hD_z2 h; exact ⟨q.1, by omega, by omega⟩) (fun h => by have q := hok.r0 hD_z2 h; omega) (fun i h => by
                        by_cases e : i = ps z2
                        · rw [e, hD_z2.2]; omega
                        · have := hko i (ps z2) (by omega) hD_z2.1; rw [hD_z2.2] at this; omega) (hh9)  _ _ _ hG hS (lv_sub hl [0, 2, 3, 4] rfl)
        · refine lv_aload_n hx hb dJ4_getEntry_49 rfl (lv_at hl 1 rfl) ?_
          refine g_get (C := RJ25) (T := TJ25) (N := 6) (v := va_rf (l_ z2)) hx hb hts hown hK hG (hTH.2.1 _ hD_z2) rfl in_J25 2 (by decide) q1180 rfl rfl dJ4_getEntry_50 ?_
          refine g_astore_nR (lv' := [(3, va_rf (l_ z2)), (4, .int (iI r4)), (2, .ref κ), (0, .ref mp), (1, .ref κ)]) hx hb dJ4_getEntry_53 rfl hl (by decide) rfl (fun ls hl => ?_)
          refine lv_goto (tgt := 72) hx hb dJ4_getEntry_54 (by decide) ?_
          refine lv_goto (tgt := 28) hx hb dJ4_getEntry_72 (by decide) ?_
          exact ih_28 (l_ z2) lo9 (ps z2) (by omega) (fun a h => by have q := hok.l1 hD_z2 h; exact ⟨q.1, by omega, by omega⟩) (fun h => by have q := hok.l0 hD_z2 h; omega) (hl9) (fun i h h2 => by
                      by_cases e : i = ps z2
                      · rw [e, hD_z2.2]; omega
                      · have := hko (ps z2) i (by omega) h2; rw [hD_z2.2] at this; omega)  _ _ _ hG hS (lv_sub hl [0, 2, 3, 4] rfl)
  exact loop_28 _ rt 0 n (Nat.lt_succ_self _) (fun a h => ⟨(hok.rx h).1, (hok.rx h).2.1, (hok.rx h).2.2.1⟩) (fun h => by have := hok.2.1.1 h; omega) (fun i h => absurd h (Nat.not_lt_zero _)) (fun i h1 h2 => by omega)  _ _ _ hG hS (lv_sub hl [0, 1, 2, 3] rfl)

set_option maxHeartbeats 4000000 in
theorem mJ4_containsKey (l : Launch) (X : gX) (σ : gS) (tg mp n : Nat) (ad ps : Nat → Nat) (K : Nat → Nat) (Vv l_ r_ p_ : Nat → Option Nat) (C : Nat → Int) (rt es ks : Option Nat) (sz md : Int) (hTH : TH σ tg mp (tIn n ad ps) K Vv l_ r_ p_ C rt es ks sz md) (lo hi : Nat → Nat) (hok : tOk n ad ps l_ r_ p_ lo hi rt) (kt : Nat) (hkt : ¬ kt = tg) (kc : Nat → Int) (hKc : ∀ a, tIn n ad ps a → σ (K a) = some (kt, gO 11 [.int (iI (kc a))]) ∧ 0 ≤ kc a ∧ kc a ≤ 2000) (hko : kOk n ad kc) (κ t9 : Nat) (k9 : Int) (hκ : σ κ = some (t9, gO 11 [.int (iI k9)])) (hκt : ¬ t9 = tg) (hk9 : 0 ≤ k9 ∧ k9 ≤ 2000) : gMet l X yJ4_containsKey cJ4_containsKey 2 (some .boolean) 4 0 0 87 σ [.ref mp, .ref κ] (oI (fun r σ' => (r = 1 ∧ (∃ a, tIn n ad ps a ∧ kc a = k9) ∨ r = 0 ∧ ∀ a, tIn n ad ps a → kc a ≠ k9) ∧ σ = σ')) := by
  refine gMet.of (by decide) (Nat.le_of_ble_eq_true rfl) ?_
  intro pp ee ss mm args below meth cd Q H locs ls hargs hx hb hr hlocks hml hown hnm hts hK hG hS hQ hl
  have hown : ss.vm.findClass RJ4 = some mm.cls := hown
  have hl : lv_has ls 2 [(0, .ref mp), (1, .ref κ)] := hl
  have hkp : gKeep (fun t => t = tg) σ σ := gKeep.rf
  refine lv_aload_n hx hb dJ4_containsKey_0 rfl (lv_at hl 0 rfl) ?_
  refine lv_aload_n hx hb dJ4_containsKey_1 rfl (lv_at hl 1 rfl) ?_
  refine g_callV (As := [.ref κ]) (rest := []) 1 hx hb hml hown hts hK hG hS hl.1 (mJ4_getEntry_X11 l X σ tg mp n ad ps K Vv l_ r_ p_ C rt es ks sz md hTH lo hi hok kt hkt kc hKc hko κ _ k9 (hkp _ _ _ hκ hκt) hκt (by omega)) hTH.1 rfl q1125 q1126 q1127 q75 q1128 (by decide +kernel) rfl ⟨Nat.le_of_ble_eq_true rfl, Nat.le_of_ble_eq_true rfl⟩ ⟨Nat.le_of_ble_eq_true rfl, Nat.le_of_ble_eq_true rfl⟩ (Nat.le_of_ble_eq_true rfl) dJ4_containsKey_2 (kA (fun r1 σr1 H locs hp hG hS => ?_))
  obtain ⟨⟨og1, rfl, hg1, gg1⟩, rfl⟩ := hp
  refine g_ifnullR (tgt := 12) hx hb dJ4_containsKey_5 (by decide) (fun ho3 => ?_) (fun z2 ho3 => ?_)
  · refine g_iconst hx hb dJ4_containsKey_12 ?_
    exact g_zret hx hb hr hlocks hQ hG hS (Nat.zero_le _) (Nat.zero_le _) (gnz (by omega)) ⟨_, rfl, Or.inr ⟨rfl, gg1 ho3⟩, rfl⟩ dJ4_containsKey_13
  · refine g_iconst hx hb dJ4_containsKey_8 ?_
    refine lv_goto (tgt := 13) hx hb dJ4_containsKey_9 (by decide) ?_
    exact g_zret hx hb hr hlocks hQ hG hS (Nat.zero_le _) (Nat.zero_le _) (gnz (by omega)) ⟨_, rfl, Or.inl ⟨rfl, z2, (hg1 z2 ho3).1, (hg1 z2 ho3).2⟩, rfl⟩ dJ4_containsKey_13

set_option maxHeartbeats 4000000 in
theorem mJ4_get (l : Launch) (X : gX) (σ : gS) (tg mp n : Nat) (ad ps : Nat → Nat) (K : Nat → Nat) (Vv l_ r_ p_ : Nat → Option Nat) (C : Nat → Int) (rt es ks : Option Nat) (sz md : Int) (hTH : TH σ tg mp (tIn n ad ps) K Vv l_ r_ p_ C rt es ks sz md) (lo hi : Nat → Nat) (hok : tOk n ad ps l_ r_ p_ lo hi rt) (kt : Nat) (hkt : ¬ kt = tg) (kc : Nat → Int) (hKc : ∀ a, tIn n ad ps a → σ (K a) = some (kt, gO 9 [.int (iI (kc a))]) ∧ 0 ≤ kc a ∧ kc a ≤ 2000) (hko : kOk n ad kc) (κ t9 : Nat) (k9 : Int) (hκ : σ κ = some (t9, gO 9 [.int (iI k9)])) (hκt : ¬ t9 = tg) (hk9 : 0 ≤ k9 ∧ k9 ≤ 2000) : gMet l X yJ4_get cJ4_get 3 (some (.object "java/lang/Object")) 4 0 0 87 σ [.ref mp, .ref κ] (oA (fun v σ' => ((∃ a, tIn n ad ps a ∧ kc a = k9 ∧ v = va_rf (Vv a)) ∨ v = .null ∧ ∀ a, tIn n ad ps a → kc a ≠ k9) ∧ σ = σ')) := by
  refine gMet.of (by decide) (Nat.le_of_ble_eq_true rfl) ?_
  intro pp ee ss mm args below meth cd Q H locs ls hargs hx hb hr hlocks hml hown hnm hts hK hG hS hQ hl
  have hown : ss.vm.findClass RJ4 = some mm.cls := hown
  have hl : lv_has ls 3 [(0, .ref mp), (1, .ref κ)] := hl
  have hkp : gKeep (fun t => t = tg) σ σ := gKeep.rf
  refine lv_aload_n hx hb dJ4_get_0 rfl (lv_at hl 0 rfl) ?_
  refine lv_aload_n hx hb dJ4_get_1 rfl (lv_at hl 1 rfl) ?_
  refine g_callV (As := [.ref κ]) (rest := []) 1 hx hb hml hown hts hK hG hS hl.1 (mJ4_getEntry_X9 l X σ tg mp n ad ps K Vv l_ r_ p_ C rt es ks sz md hTH lo hi hok kt hkt kc hKc hko κ _ k9 (hkp _ _ _ hκ hκt) hκt (by omega)) hTH.1 rfl q1125 q1126 q1127 q75 q1128 (by decide +kernel) rfl ⟨Nat.le_of_ble_eq_true rfl, Nat.le_of_ble_eq_true rfl⟩ ⟨Nat.le_of_ble_eq_true rfl, Nat.le_of_ble_eq_true rfl⟩ (Nat.le_of_ble_eq_true rfl) dJ4_get_2 (kA (fun r1 σr1 H locs hp hG hS => ?_))
  obtain ⟨⟨og1, rfl, hg1, gg1⟩, rfl⟩ := hp
  refine g_astore_nR (lv' := [(2, va_rf og1), (0, .ref mp), (1, .ref κ)]) hx hb dJ4_get_5 rfl hl (by decide) rfl (fun ls hl => ?_)
  refine g_aload_nR hx hb dJ4_get_6 rfl (lv_at hl 0 rfl) ?_
  refine g_ifnonnullR (tgt := 14) hx hb dJ4_get_7 (by decide) (fun z2 ho3 => ?_) (fun ho3 => ?_)
  · have hl : lv_has ls 3 [(2, .ref z2), (0, .ref mp), (1, .ref κ)] := by first | exact hl | (rw [ho3] at hl; exact hl)
    have hD_z2 := (hg1 z2 ho3).1
    refine lv_aload_n hx hb dJ4_get_14 rfl (lv_at hl 0 rfl) ?_
    refine g_get (C := RJ25) (T := TJ25) (N := 6) (v := va_rf (Vv z2)) hx hb hts hown hK hG (hTH.2.1 _ hD_z2) rfl in_J25 1 (by decide) q1179 rfl rfl dJ4_get_15 ?_
    exact g_aret hx hb hr (by first | exact Or.inl ⟨_, rfl⟩ | exact Or.inr ⟨_, rfl⟩) (by first | exact Or.inl rfl | exact Or.inr ⟨_, rfl⟩ | assumption | exact va_rf_or _) hlocks hQ hG hS (Nat.zero_le _) (Nat.zero_le _) ⟨_, rfl, Or.inl ⟨z2, hD_z2, (hg1 z2 ho3).2, rfl⟩, rfl⟩ dJ4_get_18
  · have hl : lv_has ls 3 [(2, .null), (0, .ref mp), (1, .ref κ)] := by first | exact hl | (rw [ho3] at hl; exact hl)
    refine lv_null hx hb dJ4_get_10 ?_
    refine lv_goto (tgt := 18) hx hb dJ4_get_11 (by decide) ?_
    exact g_aret hx hb hr (by first | exact Or.inl ⟨_, rfl⟩ | exact Or.inr ⟨_, rfl⟩) (by first | exact Or.inl rfl | exact Or.inr ⟨_, rfl⟩ | assumption | exact va_rf_or _) hlocks hQ hG hS (Nat.zero_le _) (Nat.zero_le _) ⟨_, rfl, Or.inr ⟨rfl, gg1 ho3⟩, rfl⟩ dJ4_get_18

