set_option maxHeartbeats 16000000 in
theorem mJ4_put_2_X11 (l : Launch) (X : gX) (σ : gS) (tg mp n : Nat) (ad ps : Nat → Nat) (K : Nat → Nat) (Vv l_ r_ p_ : Nat → Option Nat) (C : Nat → Int) (rt es ks : Option Nat) (sz md : Int) (hTH : TH σ tg mp (tIn n ad ps) K Vv l_ r_ p_ C rt es ks sz md) (lo hi : Nat → Nat) (hok : tOk n ad ps l_ r_ p_ lo hi rt) (kt : Nat) (hkt : ¬ kt = tg) (kc : Nat → Int) (hKc : ∀ a, tIn n ad ps a → σ (K a) = some (kt, gO 11 [.int (iI (kc a))]) ∧ 0 ≤ kc a ∧ kc a ≤ 2000) (hko : kOk n ad kc) (κ t9 : Nat) (k9 : Int) (hκ : σ κ = some (t9, gO 11 [.int (iI k9)])) (hκt : ¬ t9 = tg) (hk9 : 0 ≤ k9 ∧ k9 ≤ 2000) (v9 : Option Nat) (hsz : sz = (n : Int)) : gMet l X yJ4_put_2 cJ4_put_2 10 (some (.object "java/lang/Object")) 5 1 6 107 σ [.ref mp, .ref κ, va_rf v9, .int (iI 1)] (oA (fun v σ' => (∃ a, tIn n ad ps a ∧ kc a = k9 ∧ v = va_rf (Vv a) ∧ TH σ' tg mp (tIn n ad ps) K (va_up Vv a v9) l_ r_ p_ C rt es ks sz md ∧ gKeep (fun t => t = tg) σ σ') ∨ (v = .null ∧ ∃ (z c : Nat) (l2 r2 p2 : Nat → Option Nat) (C2 : Nat → Int) (rt2 : Option Nat) (lo2 hi2 : Nat → Nat), ¬ tIn n ad ps z ∧ c ≤ n ∧ (∀ i, i < c → kc (ad i) < k9) ∧ (∀ i, c ≤ i → i < n → k9 < kc (ad i)) ∧ TH σ' tg mp (tIn (n + 1) (tAd z c ad) (tPs z c ps)) (va_up K z κ) (va_up Vv z v9) l2 r2 p2 C2 rt2 es ks (((n + 1 : Nat) : Int)) (md + 1) ∧ tOk (n + 1) (tAd z c ad) (tPs z c ps) l2 r2 p2 lo2 hi2 rt2 ∧ gKeep (fun t => t = tg) σ σ'))) := by
  refine gMet.of (by decide) (by cases v9 <;> exact Nat.le_of_ble_eq_true rfl) ?_
  intro pp ee ss mm args below meth cd Q H locs ls hargs hx hb hr hlocks hml hown hnm hts hK hG hS hQ hl
  have hown : ss.vm.findClass RJ4 = some mm.cls := hown
  have hl : lv_has ls 10 [(0, .ref mp), (1, .ref κ), (2, va_rf v9), (3, .int (iI 1))] := by cases v9 <;> exact hl
  have hkp : gKeep (fun t => t = tg) σ σ := gKeep.rf
  refine lv_aload_n hx hb dJ4_put_2_0 rfl (lv_at hl 0 rfl) ?_
  refine g_get (C := RJ4) (T := TJ4) (N := 9) (v := va_rf rt) hx hb hts hown hK hG hTH.1 rfl in_J4 3 (by decide) q146 rfl rfl dJ4_put_2_1 ?_
  refine g_astoreR (lv' := [(4, va_rf rt), (0, .ref mp), (1, .ref κ), (2, va_rf v9), (3, .int (iI 1))]) hx hb dJ4_put_2_4 hl (by decide) rfl (fun ls hl => ?_)
  refine g_aloadR hx hb dJ4_put_2_6 (lv_at hl 0 rfl) ?_
  refine g_ifnonnullR (tgt := 19) hx hb dJ4_put_2_8 (by decide) (fun z1 ho2 => ?_) (fun ho2 => ?_)
  · have hD_z1 := (hok.rx ho2).1
    have hl : lv_has ls 10 [(4, .ref z1), (0, .ref mp), (1, .ref κ), (2, va_rf v9), (3, .int (iI 1))] := by first | exact hl | (rw [ho2] at hl; exact hl)
    refine lv_aload_n hx hb dJ4_put_2_19 rfl (lv_at hl 1 rfl) ?_
    refine g_get (C := RJ4) (T := TJ4) (N := 9) (v := .null) hx hb hts hown hK hG hTH.1 rfl in_J4 2 (by decide) q145 rfl rfl dJ4_put_2_20 ?_
    refine lv_astoreN (lv' := [(7, .null), (4, .ref z1), (0, .ref mp), (1, .ref κ), (2, va_rf v9), (3, .int (iI 1))]) hx hb dJ4_put_2_23 hl (by decide) rfl (fun ls hl => ?_)
    refine lv_aloadN hx hb dJ4_put_2_25 (lv_at hl 0 rfl) ?_
    refine lv_ifnullN (tgt := 112) hx hb dJ4_put_2_27 (by decide) ?_
    refine lv_aload_n hx hb dJ4_put_2_112 rfl (lv_at hl 3 rfl) ?_
    refine g_callS (As := [.ref κ]) (rest := []) 1 hx hb hml hown hts hK hG hS hl.1 (mJ24_requireNonNull l X σ κ) q1135 q1136 q106 q1137 (by decide +kernel) rfl ⟨Nat.le_of_ble_eq_true rfl, Nat.le_of_ble_eq_true rfl⟩ ⟨Nat.le_of_ble_eq_true rfl, Nat.le_of_ble_eq_true rfl⟩ (Nat.le_of_ble_eq_true rfl) dJ4_put_2_113 (kA (fun r3 σr3 H locs hp hG hS => ?_))
    obtain ⟨rfl, rfl⟩ := hp
    refine lv_pop hx hb dJ4_put_2_116 rfl ?_
    refine lv_aload_n hx hb dJ4_put_2_117 rfl (lv_at hl 3 rfl) ?_
    refine g_castY hx hb hts hown hK hG (hkp _ _ _ hκ hκt) rfl q1140 q857 dJ4_put_2_118 ?_
    refine lv_astore (lv' := [(8, .ref κ), (7, .null), (4, .ref z1), (0, .ref mp), (1, .ref κ), (2, va_rf v9), (3, .int (iI 1))]) hx hb dJ4_put_2_121 hl (by decide) rfl (fun ls hl => ?_)
    have loop_123 : ∀ (nF : Nat) (t : Nat), (hi t - lo t : Nat) < nF → (tIn n ad ps t) → (∀ i, i < lo t → kc (ad i) < k9) → (∀ i, hi t ≤ i → i < n → k9 < kc (ad i)) → ∀ (H : Heap) (locs : List Loc) (ls : Array Slot), gSat X σ H → va_S (gA X) ss.heap H locs → lv_has ls 10 [(8, .ref κ), (7, .null), (4, .ref t), (0, .ref mp), (1, .ref κ), (2, va_rf v9), (3, .int (iI 1))] → W pp l ee (gR 5 1 6 107) ss mm args below meth cd H locs 0 0 Q (F0 mm 123 ls []) := by
      intro nF
      induction nF with
      | zero => intro t hm; exact absurd hm (Nat.not_lt_zero _)
      | succ nF ih_123 =>
        intro t hm hDt hlt hht H locs ls hG hS hl
        refine lv_aload hx hb dJ4_put_2_123 (lv_at hl 2 rfl) ?_
        refine lv_astore (lv' := [(6, .ref t), (8, .ref κ), (7, .null), (4, .ref t), (0, .ref mp), (1, .ref κ), (2, va_rf v9), (3, .int (iI 1))]) hx hb dJ4_put_2_125 hl (by decide) rfl (fun ls hl => ?_)
        have hkt9 := (hKc t hDt).2
        have hnt := hok.num hDt
        refine lv_aload hx hb dJ4_put_2_127 (lv_at hl 1 rfl) ?_
        refine lv_aload hx hb dJ4_put_2_129 (lv_at hl 3 rfl) ?_
        refine g_get (C := RJ25) (T := TJ25) (N := 6) (v := .ref (K t)) hx hb hts hown hK hG (hTH.2.1 _ hDt) rfl in_J25 0 (by decide) q1177 rfl rfl dJ4_put_2_131 ?_
        refine g_callF (As := [.ref (K t)]) (rest := []) 1 hx hb hml hown hts hK hG hS hl.1 (mX11_compareTo l X σ κ (K t) _ _ k9 (kc t) (hkp _ _ _ hκ hκt) (hkp _ _ _ (hKc t hDt).1 hkt) (by omega) (by omega)) (hkp _ _ _ hκ hκt) rfl q1142 q858 q860 q114 q862 q844 q843 q861 q859 q857 (by decide +kernel) rfl ⟨Nat.le_of_ble_eq_true rfl, Nat.le_of_ble_eq_true rfl⟩ ⟨Nat.le_of_ble_eq_true rfl, Nat.le_of_ble_eq_true rfl⟩ (Nat.le_of_ble_eq_true rfl) dJ4_put_2_134 (kI (fun r4 σr4 H locs hp hG hS => ?_))
        obtain ⟨hr4, rfl⟩ := hp
        refine lv_istore (lv' := [(5, .int (iI r4)), (6, .ref t), (8, .ref κ), (7, .null), (4, .ref t), (0, .ref mp), (1, .ref κ), (2, va_rf v9), (3, .int (iI 1))]) hx hb dJ4_put_2_139 hl (by decide) rfl (fun ls hl => ?_)
        refine lv_iload hx hb dJ4_put_2_141 (lv_at hl 0 rfl) ?_
        refine g_if_ge (tgt := 156) hx hb dJ4_put_2_143 (by decide) (by omega) (fun cq5 => ?_) (fun cq5 => ?_)
        · refine lv_iload hx hb dJ4_put_2_156 (lv_at hl 0 rfl) ?_
          refine g_if_le (tgt := 171) hx hb dJ4_put_2_158 (by decide) (by omega) (fun cq6 => ?_) (fun cq6 => ?_)
          · refine lv_aload hx hb dJ4_put_2_171 (lv_at hl 4 rfl) ?_
            refine g_get (C := RJ25) (T := TJ25) (N := 6) (v := va_rf (Vv t)) hx hb hts hown hK hG (hTH.2.1 _ hDt) rfl in_J25 1 (by decide) q1179 rfl rfl dJ4_put_2_173 ?_
            refine g_astoreR (lv' := [(9, va_rf (Vv t)), (5, .int (iI r4)), (6, .ref t), (8, .ref κ), (7, .null), (4, .ref t), (0, .ref mp), (1, .ref κ), (2, va_rf v9), (3, .int (iI 1))]) hx hb dJ4_put_2_176 hl (by decide) rfl (fun ls hl => ?_)
            refine lv_iload_n hx hb dJ4_put_2_178 rfl (lv_at hl 9 rfl) ?_
            refine g_if_ne (tgt := 187) hx hb dJ4_put_2_179 (by decide) (by omega) (fun cq7 => ?_) (fun cq7 => absurd cq7 (by decide))
            refine lv_aload hx hb dJ4_put_2_187 (lv_at hl 5 rfl) ?_
            refine g_aload_nR hx hb dJ4_put_2_189 rfl (lv_at hl 8 rfl) ?_
            refine g_put (C := RJ25) (T := TJ25) (N := 6) (ty0 := tyJ25) (v := va_rf v9) hx hb hts hown hK hG hS (hTH.2.1 _ hDt) rfl in_J25 tyJ25_ok nmJ25 1 (by decide) q1179 rfl (by decide) (nrf _) (frf _) (Nat.le_of_ble_eq_true rfl) dJ4_put_2_190 (fun H locs hG hS => ?_)
            obtain ⟨vv8, evv8⟩ : ∃ z : Nat → Option Nat, z = va_up Vv t v9 := ⟨_, rfl⟩
            have hTH8 : TH (gup σ t (tg, gO 18 ((teF K Vv l_ r_ p_ C t).set 1 (va_rf v9)))) tg mp (tIn n ad ps) K vv8 l_ r_ p_ C rt es ks sz md := by rw [evv8]; exact hTH.pV hDt v9
            have hkp8 : gKeep (fun t => t = tg) σ (gup σ t (tg, gO 18 ((teF K Vv l_ r_ p_ C t).set 1 (va_rf v9)))) := hkp.tr (gKeep.up (hTH.2.1 _ hDt) rfl)
            generalize (gup σ t (tg, gO 18 ((teF K Vv l_ r_ p_ C t).set 1 (va_rf v9)))) = σ8 at hG hTH8 hkp8
            refine g_aloadR hx hb dJ4_put_2_193 (lv_at hl 0 rfl) ?_
            exact g_aret hx hb hr (by first | exact Or.inl ⟨_, rfl⟩ | exact Or.inr ⟨_, rfl⟩) (by first | exact Or.inl rfl | exact Or.inr ⟨_, rfl⟩ | assumption | exact va_rf_or _) hlocks hQ hG hS (Nat.zero_le _) (Nat.zero_le _) ⟨_, rfl, Or.inl ⟨t, hDt, by omega, rfl, by rw [← evv8]; exact hTH8, hkp8⟩⟩ dJ4_put_2_195
          · refine lv_aload hx hb dJ4_put_2_161 (lv_at hl 4 rfl) ?_
            refine g_get (C := RJ25) (T := TJ25) (N := 6) (v := va_rf (r_ t)) hx hb hts hown hK hG (hTH.2.1 _ hDt) rfl in_J25 3 (by decide) q1181 rfl rfl dJ4_put_2_163 ?_
            refine g_astoreR (lv' := [(4, va_rf (r_ t)), (5, .int (iI r4)), (6, .ref t), (8, .ref κ), (7, .null), (0, .ref mp), (1, .ref κ), (2, va_rf v9), (3, .int (iI 1))]) hx hb dJ4_put_2_166 hl (by decide) rfl (fun ls hl => ?_)
            refine lv_goto (tgt := 196) hx hb dJ4_put_2_168 (by decide) ?_
            refine g_aloadR hx hb dJ4_put_2_196 (lv_at hl 0 rfl) ?_
            refine g_ifnonnullR (tgt := 123) hx hb dJ4_put_2_198 (by decide) (fun z9 ho10 => ?_) (fun ho10 => ?_)
            · have hD_z9 := (hok.r1 hDt ho10).1
              have hl : lv_has ls 10 [(4, .ref z9), (5, .int (iI r4)), (6, .ref t), (8, .ref κ), (7, .null), (0, .ref mp), (1, .ref κ), (2, va_rf v9), (3, .int (iI 1))] := by first | exact hl | (rw [ho10] at hl; exact hl)
              have q5 := hok.r1 hDt ho10
              have q6 := hok.num hDt
              have q7 := hok.num q5.1
              exact ih_123 z9 (by omega) (hD_z9) (fun i h => by
                          have q := hok.r1 hDt ho10
                          by_cases e : i = ps t
                          · rw [e, hDt.2]; omega
                          · have q2 := hko i (ps t) (by omega) hDt.1; rw [hDt.2] at q2; omega) (by rw [(hok.r1 hDt ho10).2.2.1]; exact hht)  _ _ _ hG hS (lv_sub hl [3, 4, 0, 5, 6, 7, 8] rfl)
            · have hl : lv_has ls 10 [(4, .null), (5, .int (iI r4)), (6, .ref t), (8, .ref κ), (7, .null), (0, .ref mp), (1, .ref κ), (2, va_rf v9), (3, .int (iI 1))] := by first | exact hl | (rw [ho10] at hl; exact hl)
              refine lv_aload_n hx hb dJ4_put_2_201 rfl (lv_at hl 5 rfl) ?_
              refine lv_aload_n hx hb dJ4_put_2_202 rfl (lv_at hl 6 rfl) ?_
              refine g_aload_nR hx hb dJ4_put_2_203 rfl (lv_at hl 7 rfl) ?_
              refine lv_aload hx hb dJ4_put_2_204 (lv_at hl 2 rfl) ?_
              refine lv_iload hx hb dJ4_put_2_206 (lv_at hl 1 rfl) ?_
              refine g_if_ge (tgt := 215) hx hb dJ4_put_2_208 (by decide) (by omega) (fun cq11 => ?_) (fun cq11 => by omega)
              refine g_iconst hx hb dJ4_put_2_215 ?_
              refine g_callV (As := [.ref κ, va_rf v9, .ref t, .int (iI 0)]) (rest := []) 4 hx hb hml hown hts hK hG hS hl.1 (mJ4_addEntry_r l X σ tg mp n ad ps K Vv l_ r_ p_ C rt es ks sz md hTH lo hi hok κ v9 t hDt ho10) hTH.1 rfl q1199 q1201 qs31 q75 q1202 (by decide +kernel) rfl ⟨Nat.le_of_ble_eq_true rfl, Nat.le_of_ble_eq_true rfl⟩ ⟨Nat.le_of_ble_eq_true rfl, Nat.le_of_ble_eq_true rfl⟩ (Nat.le_of_ble_eq_true rfl) dJ4_put_2_216 (kV (fun σr12 H locs hp hG hS => ?_))
              obtain ⟨zz, l2, r2, p2, C2, rt2, lo2, hi2, hnz, hTz, hoz, hkz⟩ := hp
              refine lv_null hx hb dJ4_put_2_219 ?_
              exact g_aret hx hb hr (by first | exact Or.inl ⟨_, rfl⟩ | exact Or.inr ⟨_, rfl⟩) (by first | exact Or.inl rfl | exact Or.inr ⟨_, rfl⟩ | assumption | exact va_rf_or _) hlocks hQ hG hS (Nat.le_of_ble_eq_true rfl) (Nat.le_of_ble_eq_true rfl) ⟨_, rfl, Or.inr ⟨rfl, zz, ps t + 1, l2, r2, p2, C2, rt2, lo2, hi2, hnz, (by omega), (fun i h => by
                        by_cases e : i = ps t
                        · rw [e, hDt.2]; omega
                        · have q2 := hko i (ps t) (by omega) hDt.1; rw [hDt.2] at q2; omega), (by have q := hok.r0 hDt ho10; rw [← q]; exact hht), (by rw [show ((n + 1 : Nat) : Int) = sz + 1 by omega]; exact hTz), hoz, hkz⟩⟩ dJ4_put_2_220
        · refine lv_aload hx hb dJ4_put_2_146 (lv_at hl 4 rfl) ?_
          refine g_get (C := RJ25) (T := TJ25) (N := 6) (v := va_rf (l_ t)) hx hb hts hown hK hG (hTH.2.1 _ hDt) rfl in_J25 2 (by decide) q1180 rfl rfl dJ4_put_2_148 ?_
          refine g_astoreR (lv' := [(4, va_rf (l_ t)), (5, .int (iI r4)), (6, .ref t), (8, .ref κ), (7, .null), (0, .ref mp), (1, .ref κ), (2, va_rf v9), (3, .int (iI 1))]) hx hb dJ4_put_2_151 hl (by decide) rfl (fun ls hl => ?_)
          refine lv_goto (tgt := 196) hx hb dJ4_put_2_153 (by decide) ?_
          refine g_aloadR hx hb dJ4_put_2_196 (lv_at hl 0 rfl) ?_
          refine g_ifnonnullR (tgt := 123) hx hb dJ4_put_2_198 (by decide) (fun z13 ho14 => ?_) (fun ho14 => ?_)
          · have hD_z13 := (hok.l1 hDt ho14).1
            have hl : lv_has ls 10 [(4, .ref z13), (5, .int (iI r4)), (6, .ref t), (8, .ref κ), (7, .null), (0, .ref mp), (1, .ref κ), (2, va_rf v9), (3, .int (iI 1))] := by first | exact hl | (rw [ho14] at hl; exact hl)
            have q5 := hok.l1 hDt ho14
            have q6 := hok.num hDt
            have q7 := hok.num q5.1
            exact ih_123 z13 (by omega) (hD_z13) (by rw [(hok.l1 hDt ho14).2.1]; exact hlt) (fun i h h2 => by
                        have q := hok.l1 hDt ho14
                        by_cases e : i = ps t
                        · rw [e, hDt.2]; omega
                        · have q2 := hko (ps t) i (by omega) h2; rw [hDt.2] at q2; omega)  _ _ _ hG hS (lv_sub hl [3, 4, 0, 5, 6, 7, 8] rfl)
          · have hl : lv_has ls 10 [(4, .null), (5, .int (iI r4)), (6, .ref t), (8, .ref κ), (7, .null), (0, .ref mp), (1, .ref κ), (2, va_rf v9), (3, .int (iI 1))] := by first | exact hl | (rw [ho14] at hl; exact hl)
            refine lv_aload_n hx hb dJ4_put_2_201 rfl (lv_at hl 5 rfl) ?_
            refine lv_aload_n hx hb dJ4_put_2_202 rfl (lv_at hl 6 rfl) ?_
            refine g_aload_nR hx hb dJ4_put_2_203 rfl (lv_at hl 7 rfl) ?_
            refine lv_aload hx hb dJ4_put_2_204 (lv_at hl 2 rfl) ?_
            refine lv_iload hx hb dJ4_put_2_206 (lv_at hl 1 rfl) ?_
            refine g_if_ge (tgt := 215) hx hb dJ4_put_2_208 (by decide) (by omega) (fun cq15 => by omega) (fun cq15 => ?_)
            refine g_iconst hx hb dJ4_put_2_211 ?_
            refine lv_goto (tgt := 216) hx hb dJ4_put_2_212 (by decide) ?_
            refine g_callV (As := [.ref κ, va_rf v9, .ref t, .int (iI 1)]) (rest := []) 4 hx hb hml hown hts hK hG hS hl.1 (mJ4_addEntry_l l X σ tg mp n ad ps K Vv l_ r_ p_ C rt es ks sz md hTH lo hi hok κ v9 t hDt ho14) hTH.1 rfl q1199 q1201 qs31 q75 q1202 (by decide +kernel) rfl ⟨Nat.le_of_ble_eq_true rfl, Nat.le_of_ble_eq_true rfl⟩ ⟨Nat.le_of_ble_eq_true rfl, Nat.le_of_ble_eq_true rfl⟩ (Nat.le_of_ble_eq_true rfl) dJ4_put_2_216 (kV (fun σr16 H locs hp hG hS => ?_))
            obtain ⟨zz, l2, r2, p2, C2, rt2, lo2, hi2, hnz, hTz, hoz, hkz⟩ := hp
            refine lv_null hx hb dJ4_put_2_219 ?_
            exact g_aret hx hb hr (by first | exact Or.inl ⟨_, rfl⟩ | exact Or.inr ⟨_, rfl⟩) (by first | exact Or.inl rfl | exact Or.inr ⟨_, rfl⟩ | assumption | exact va_rf_or _) hlocks hQ hG hS (Nat.le_of_ble_eq_true rfl) (Nat.le_of_ble_eq_true rfl) ⟨_, rfl, Or.inr ⟨rfl, zz, ps t, l2, r2, p2, C2, rt2, lo2, hi2, hnz, (by omega), (by have q := hok.l0 hDt ho14; rw [← q]; exact hlt), (fun i h h2 => by
                      by_cases e : i = ps t
                      · rw [e, hDt.2]; omega
                      · have q2 := hko (ps t) i (by omega) h2; rw [hDt.2] at q2; omega), (by rw [show ((n + 1 : Nat) : Int) = sz + 1 by omega]; exact hTz), hoz, hkz⟩⟩ dJ4_put_2_220
    exact loop_123 _ z1 (Nat.lt_succ_self _) (hD_z1) (fun i h => by have q := (hok.rx ho2).2.1; omega) (fun i h h2 => by have q := (hok.rx ho2).2.2.1; omega)  _ _ _ hG hS (lv_sub hl [0, 1, 2, 3, 4, 5, 6] rfl)
  · have hl : lv_has ls 10 [(4, .null), (0, .ref mp), (1, .ref κ), (2, va_rf v9), (3, .int (iI 1))] := by first | exact hl | (rw [ho2] at hl; exact hl)
    refine lv_aload_n hx hb dJ4_put_2_11 rfl (lv_at hl 1 rfl) ?_
    refine lv_aload_n hx hb dJ4_put_2_12 rfl (lv_at hl 2 rfl) ?_
    refine g_aload_nR hx hb dJ4_put_2_13 rfl (lv_at hl 3 rfl) ?_
    refine g_callV (As := [.ref κ, va_rf v9]) (rest := []) 2 hx hb hml hown hts hK hG hS hl.1 (mJ4_addEntryToEmptyMap_X11 l X σ tg mp n ad ps K Vv l_ r_ p_ C rt es ks sz md hTH lo hi hok ho2 κ _ k9 v9 (hkp _ _ _ hκ hκt) hκt (by omega)) hTH.1 rfl q1161 q1163 qs30 q75 q1164 (by decide +kernel) rfl ⟨Nat.le_of_ble_eq_true rfl, Nat.le_of_ble_eq_true rfl⟩ ⟨Nat.le_of_ble_eq_true rfl, Nat.le_of_ble_eq_true rfl⟩ (Nat.le_of_ble_eq_true rfl) dJ4_put_2_14 (kV (fun σr17 H locs hp hG hS => ?_))
    obtain ⟨zz, l2, r2, p2, C2, rt2, lo2, hi2, hnz, hTz, hoz, hkz⟩ := hp
    refine lv_null hx hb dJ4_put_2_17 ?_
    exact g_aret hx hb hr (by first | exact Or.inl ⟨_, rfl⟩ | exact Or.inr ⟨_, rfl⟩) (by first | exact Or.inl rfl | exact Or.inr ⟨_, rfl⟩ | assumption | exact va_rf_or _) hlocks hQ hG hS (Nat.le_of_ble_eq_true rfl) (Nat.le_of_ble_eq_true rfl) ⟨_, rfl, Or.inr ⟨rfl, zz, 0, l2, r2, p2, C2, rt2, lo2, hi2, hnz, Nat.zero_le _, (fun i h => absurd h (Nat.not_lt_zero _)), (fun i h h2 => by have q := hok.2.1.1 ho2; omega), (by rw [show ((n + 1 : Nat) : Int) = 1 by have q := hok.2.1.1 ho2; omega]; exact hTz), hoz, hkz⟩⟩ dJ4_put_2_18

set_option maxHeartbeats 16000000 in
theorem mJ4_put_2_X9 (l : Launch) (X : gX) (σ : gS) (tg mp n : Nat) (ad ps : Nat → Nat) (K : Nat → Nat) (Vv l_ r_ p_ : Nat → Option Nat) (C : Nat → Int) (rt es ks : Option Nat) (sz md : Int) (hTH : TH σ tg mp (tIn n ad ps) K Vv l_ r_ p_ C rt es ks sz md) (lo hi : Nat → Nat) (hok : tOk n ad ps l_ r_ p_ lo hi rt) (kt : Nat) (hkt : ¬ kt = tg) (kc : Nat → Int) (hKc : ∀ a, tIn n ad ps a → σ (K a) = some (kt, gO 9 [.int (iI (kc a))]) ∧ 0 ≤ kc a ∧ kc a ≤ 2000) (hko : kOk n ad kc) (κ t9 : Nat) (k9 : Int) (hκ : σ κ = some (t9, gO 9 [.int (iI k9)])) (hκt : ¬ t9 = tg) (hk9 : 0 ≤ k9 ∧ k9 ≤ 2000) (v9 : Option Nat) (hsz : sz = (n : Int)) : gMet l X yJ4_put_2 cJ4_put_2 10 (some (.object "java/lang/Object")) 5 1 6 107 σ [.ref mp, .ref κ, va_rf v9, .int (iI 1)] (oA (fun v σ' => (∃ a, tIn n ad ps a ∧ kc a = k9 ∧ v = va_rf (Vv a) ∧ TH σ' tg mp (tIn n ad ps) K (va_up Vv a v9) l_ r_ p_ C rt es ks sz md ∧ gKeep (fun t => t = tg) σ σ') ∨ (v = .null ∧ ∃ (z c : Nat) (l2 r2 p2 : Nat → Option Nat) (C2 : Nat → Int) (rt2 : Option Nat) (lo2 hi2 : Nat → Nat), ¬ tIn n ad ps z ∧ c ≤ n ∧ (∀ i, i < c → kc (ad i) < k9) ∧ (∀ i, c ≤ i → i < n → k9 < kc (ad i)) ∧ TH σ' tg mp (tIn (n + 1) (tAd z c ad) (tPs z c ps)) (va_up K z κ) (va_up Vv z v9) l2 r2 p2 C2 rt2 es ks (((n + 1 : Nat) : Int)) (md + 1) ∧ tOk (n + 1) (tAd z c ad) (tPs z c ps) l2 r2 p2 lo2 hi2 rt2 ∧ gKeep (fun t => t = tg) σ σ'))) := by
  refine gMet.of (by decide) (by cases v9 <;> exact Nat.le_of_ble_eq_true rfl) ?_
  intro pp ee ss mm args below meth cd Q H locs ls hargs hx hb hr hlocks hml hown hnm hts hK hG hS hQ hl
  have hown : ss.vm.findClass RJ4 = some mm.cls := hown
  have hl : lv_has ls 10 [(0, .ref mp), (1, .ref κ), (2, va_rf v9), (3, .int (iI 1))] := by cases v9 <;> exact hl
  have hkp : gKeep (fun t => t = tg) σ σ := gKeep.rf
  refine lv_aload_n hx hb dJ4_put_2_0 rfl (lv_at hl 0 rfl) ?_
  refine g_get (C := RJ4) (T := TJ4) (N := 9) (v := va_rf rt) hx hb hts hown hK hG hTH.1 rfl in_J4 3 (by decide) q146 rfl rfl dJ4_put_2_1 ?_
  refine g_astoreR (lv' := [(4, va_rf rt), (0, .ref mp), (1, .ref κ), (2, va_rf v9), (3, .int (iI 1))]) hx hb dJ4_put_2_4 hl (by decide) rfl (fun ls hl => ?_)
  refine g_aloadR hx hb dJ4_put_2_6 (lv_at hl 0 rfl) ?_
  refine g_ifnonnullR (tgt := 19) hx hb dJ4_put_2_8 (by decide) (fun z1 ho2 => ?_) (fun ho2 => ?_)
  · have hD_z1 := (hok.rx ho2).1
    have hl : lv_has ls 10 [(4, .ref z1), (0, .ref mp), (1, .ref κ), (2, va_rf v9), (3, .int (iI 1))] := by first | exact hl | (rw [ho2] at hl; exact hl)
    refine lv_aload_n hx hb dJ4_put_2_19 rfl (lv_at hl 1 rfl) ?_
    refine g_get (C := RJ4) (T := TJ4) (N := 9) (v := .null) hx hb hts hown hK hG hTH.1 rfl in_J4 2 (by decide) q145 rfl rfl dJ4_put_2_20 ?_
    refine lv_astoreN (lv' := [(7, .null), (4, .ref z1), (0, .ref mp), (1, .ref κ), (2, va_rf v9), (3, .int (iI 1))]) hx hb dJ4_put_2_23 hl (by decide) rfl (fun ls hl => ?_)
    refine lv_aloadN hx hb dJ4_put_2_25 (lv_at hl 0 rfl) ?_
    refine lv_ifnullN (tgt := 112) hx hb dJ4_put_2_27 (by decide) ?_
    refine lv_aload_n hx hb dJ4_put_2_112 rfl (lv_at hl 3 rfl) ?_
    refine g_callS (As := [.ref κ]) (rest := []) 1 hx hb hml hown hts hK hG hS hl.1 (mJ24_requireNonNull l X σ κ) q1135 q1136 q106 q1137 (by decide +kernel) rfl ⟨Nat.le_of_ble_eq_true rfl, Nat.le_of_ble_eq_true rfl⟩ ⟨Nat.le_of_ble_eq_true rfl, Nat.le_of_ble_eq_true rfl⟩ (Nat.le_of_ble_eq_true rfl) dJ4_put_2_113 (kA (fun r3 σr3 H locs hp hG hS => ?_))
    obtain ⟨rfl, rfl⟩ := hp
    refine lv_pop hx hb dJ4_put_2_116 rfl ?_
    refine lv_aload_n hx hb dJ4_put_2_117 rfl (lv_at hl 3 rfl) ?_
    refine g_castY hx hb hts hown hK hG (hkp _ _ _ hκ hκt) rfl q1140 q845 dJ4_put_2_118 ?_
    refine lv_astore (lv' := [(8, .ref κ), (7, .null), (4, .ref z1), (0, .ref mp), (1, .ref κ), (2, va_rf v9), (3, .int (iI 1))]) hx hb dJ4_put_2_121 hl (by decide) rfl (fun ls hl => ?_)
    have loop_123 : ∀ (nF : Nat) (t : Nat), (hi t - lo t : Nat) < nF → (tIn n ad ps t) → (∀ i, i < lo t → kc (ad i) < k9) → (∀ i, hi t ≤ i → i < n → k9 < kc (ad i)) → ∀ (H : Heap) (locs : List Loc) (ls : Array Slot), gSat X σ H → va_S (gA X) ss.heap H locs → lv_has ls 10 [(8, .ref κ), (7, .null), (4, .ref t), (0, .ref mp), (1, .ref κ), (2, va_rf v9), (3, .int (iI 1))] → W pp l ee (gR 5 1 6 107) ss mm args below meth cd H locs 0 0 Q (F0 mm 123 ls []) := by
      intro nF
      induction nF with
      | zero => intro t hm; exact absurd hm (Nat.not_lt_zero _)
      | succ nF ih_123 =>
        intro t hm hDt hlt hht H locs ls hG hS hl
        refine lv_aload hx hb dJ4_put_2_123 (lv_at hl 2 rfl) ?_
        refine lv_astore (lv' := [(6, .ref t), (8, .ref κ), (7, .null), (4, .ref t), (0, .ref mp), (1, .ref κ), (2, va_rf v9), (3, .int (iI 1))]) hx hb dJ4_put_2_125 hl (by decide) rfl (fun ls hl => ?_)
        have hkt9 := (hKc t hDt).2
        have hnt := hok.num hDt
        refine lv_aload hx hb dJ4_put_2_127 (lv_at hl 1 rfl) ?_
        refine lv_aload hx hb dJ4_put_2_129 (lv_at hl 3 rfl) ?_
        refine g_get (C := RJ25) (T := TJ25) (N := 6) (v := .ref (K t)) hx hb hts hown hK hG (hTH.2.1 _ hDt) rfl in_J25 0 (by decide) q1177 rfl rfl dJ4_put_2_131 ?_
        refine g_callF (As := [.ref (K t)]) (rest := []) 1 hx hb hml hown hts hK hG hS hl.1 (mX9_compareTo l X σ κ (K t) _ _ k9 (kc t) (hkp _ _ _ hκ hκt) (hkp _ _ _ (hKc t hDt).1 hkt) (by omega) (by omega)) (hkp _ _ _ hκ hκt) rfl q1142 q846 q848 q105 q850 q844 q843 q849 q847 q845 (by decide +kernel) rfl ⟨Nat.le_of_ble_eq_true rfl, Nat.le_of_ble_eq_true rfl⟩ ⟨Nat.le_of_ble_eq_true rfl, Nat.le_of_ble_eq_true rfl⟩ (Nat.le_of_ble_eq_true rfl) dJ4_put_2_134 (kI (fun r4 σr4 H locs hp hG hS => ?_))
        obtain ⟨hr4, rfl⟩ := hp
        refine lv_istore (lv' := [(5, .int (iI r4)), (6, .ref t), (8, .ref κ), (7, .null), (4, .ref t), (0, .ref mp), (1, .ref κ), (2, va_rf v9), (3, .int (iI 1))]) hx hb dJ4_put_2_139 hl (by decide) rfl (fun ls hl => ?_)
        refine lv_iload hx hb dJ4_put_2_141 (lv_at hl 0 rfl) ?_
        refine g_if_ge (tgt := 156) hx hb dJ4_put_2_143 (by decide) (by omega) (fun cq5 => ?_) (fun cq5 => ?_)
        · refine lv_iload hx hb dJ4_put_2_156 (lv_at hl 0 rfl) ?_
          refine g_if_le (tgt := 171) hx hb dJ4_put_2_158 (by decide) (by omega) (fun cq6 => ?_) (fun cq6 => ?_)
          · refine lv_aload hx hb dJ4_put_2_171 (lv_at hl 4 rfl) ?_
            refine g_get (C := RJ25) (T := TJ25) (N := 6) (v := va_rf (Vv t)) hx hb hts hown hK hG (hTH.2.1 _ hDt) rfl in_J25 1 (by decide) q1179 rfl rfl dJ4_put_2_173 ?_
            refine g_astoreR (lv' := [(9, va_rf (Vv t)), (5, .int (iI r4)), (6, .ref t), (8, .ref κ), (7, .null), (4, .ref t), (0, .ref mp), (1, .ref κ), (2, va_rf v9), (3, .int (iI 1))]) hx hb dJ4_put_2_176 hl (by decide) rfl (fun ls hl => ?_)
            refine lv_iload_n hx hb dJ4_put_2_178 rfl (lv_at hl 9 rfl) ?_
            refine g_if_ne (tgt := 187) hx hb dJ4_put_2_179 (by decide) (by omega) (fun cq7 => ?_) (fun cq7 => absurd cq7 (by decide))
            refine lv_aload hx hb dJ4_put_2_187 (lv_at hl 5 rfl) ?_
            refine g_aload_nR hx hb dJ4_put_2_189 rfl (lv_at hl 8 rfl) ?_
            refine g_put (C := RJ25) (T := TJ25) (N := 6) (ty0 := tyJ25) (v := va_rf v9) hx hb hts hown hK hG hS (hTH.2.1 _ hDt) rfl in_J25 tyJ25_ok nmJ25 1 (by decide) q1179 rfl (by decide) (nrf _) (frf _) (Nat.le_of_ble_eq_true rfl) dJ4_put_2_190 (fun H locs hG hS => ?_)
            obtain ⟨vv8, evv8⟩ : ∃ z : Nat → Option Nat, z = va_up Vv t v9 := ⟨_, rfl⟩
            have hTH8 : TH (gup σ t (tg, gO 18 ((teF K Vv l_ r_ p_ C t).set 1 (va_rf v9)))) tg mp (tIn n ad ps) K vv8 l_ r_ p_ C rt es ks sz md := by rw [evv8]; exact hTH.pV hDt v9
            have hkp8 : gKeep (fun t => t = tg) σ (gup σ t (tg, gO 18 ((teF K Vv l_ r_ p_ C t).set 1 (va_rf v9)))) := hkp.tr (gKeep.up (hTH.2.1 _ hDt) rfl)
            generalize (gup σ t (tg, gO 18 ((teF K Vv l_ r_ p_ C t).set 1 (va_rf v9)))) = σ8 at hG hTH8 hkp8
            refine g_aloadR hx hb dJ4_put_2_193 (lv_at hl 0 rfl) ?_
            exact g_aret hx hb hr (by first | exact Or.inl ⟨_, rfl⟩ | exact Or.inr ⟨_, rfl⟩) (by first | exact Or.inl rfl | exact Or.inr ⟨_, rfl⟩ | assumption | exact va_rf_or _) hlocks hQ hG hS (Nat.zero_le _) (Nat.zero_le _) ⟨_, rfl, Or.inl ⟨t, hDt, by omega, rfl, by rw [← evv8]; exact hTH8, hkp8⟩⟩ dJ4_put_2_195
          · refine lv_aload hx hb dJ4_put_2_161 (lv_at hl 4 rfl) ?_
            refine g_get (C := RJ25) (T := TJ25) (N := 6) (v := va_rf (r_ t)) hx hb hts hown hK hG (hTH.2.1 _ hDt) rfl in_J25 3 (by decide) q1181 rfl rfl dJ4_put_2_163 ?_
            refine g_astoreR (lv' := [(4, va_rf (r_ t)), (5, .int (iI r4)), (6, .ref t), (8, .ref κ), (7, .null), (0, .ref mp), (1, .ref κ), (2, va_rf v9), (3, .int (iI 1))]) hx hb dJ4_put_2_166 hl (by decide) rfl (fun ls hl => ?_)
            refine lv_goto (tgt := 196) hx hb dJ4_put_2_168 (by decide) ?_
            refine g_aloadR hx hb dJ4_put_2_196 (lv_at hl 0 rfl) ?_
            refine g_ifnonnullR (tgt := 123) hx hb dJ4_put_2_198 (by decide) (fun z9 ho10 => ?_) (fun ho10 => ?_)
            · have hD_z9 := (hok.r1 hDt ho10).1
              have hl : lv_has ls 10 [(4, .ref z9), (5, .int (iI r4)), (6, .ref t), (8, .ref κ), (7, .null), (0, .ref mp), (1, .ref κ), (2, va_rf v9), (3, .int (iI 1))] := by first | exact hl | (rw [ho10] at hl; exact hl)
              have q5 := hok.r1 hDt ho10
              have q6 := hok.num hDt
              have q7 := hok.num q5.1
              exact ih_123 z9 (by omega) (hD_z9) (fun i h => by
                          have q := hok.r1 hDt ho10
                          by_cases e : i = ps t
                          · rw [e, hDt.2]; omega
                          · have q2 := hko i (ps t) (by omega) hDt.1; rw [hDt.2] at q2; omega) (by rw [(hok.r1 hDt ho10).2.2.1]; exact hht)  _ _ _ hG hS (lv_sub hl [3, 4, 0, 5, 6, 7, 8] rfl)
            · have hl : lv_has ls 10 [(4, .null), (5, .int (iI r4)), (6, .ref t), (8, .ref κ), (7, .null), (0, .ref mp), (1, .ref κ), (2, va_rf v9), (3, .int (iI 1))] := by first | exact hl | (rw [ho10] at hl; exact hl)
              refine lv_aload_n hx hb dJ4_put_2_201 rfl (lv_at hl 5 rfl) ?_
              refine lv_aload_n hx hb dJ4_put_2_202 rfl (lv_at hl 6 rfl) ?_
              refine g_aload_nR hx hb dJ4_put_2_203 rfl (lv_at hl 7 rfl) ?_
              refine lv_aload hx hb dJ4_put_2_204 (lv_at hl 2 rfl) ?_
              refine lv_iload hx hb dJ4_put_2_206 (lv_at hl 1 rfl) ?_
              refine g_if_ge (tgt := 215) hx hb dJ4_put_2_208 (by decide) (by omega) (fun cq11 => ?_) (fun cq11 => by omega)
              refine g_iconst hx hb dJ4_put_2_215 ?_
              refine g_callV (As := [.ref κ, va_rf v9, .ref t, .int (iI 0)]) (rest := []) 4 hx hb hml hown hts hK hG hS hl.1 (mJ4_addEntry_r l X σ tg mp n ad ps K Vv l_ r_ p_ C rt es ks sz md hTH lo hi hok κ v9 t hDt ho10) hTH.1 rfl q1199 q1201 qs31 q75 q1202 (by decide +kernel) rfl ⟨Nat.le_of_ble_eq_true rfl, Nat.le_of_ble_eq_true rfl⟩ ⟨Nat.le_of_ble_eq_true rfl, Nat.le_of_ble_eq_true rfl⟩ (Nat.le_of_ble_eq_true rfl) dJ4_put_2_216 (kV (fun σr12 H locs hp hG hS => ?_))
              obtain ⟨zz, l2, r2, p2, C2, rt2, lo2, hi2, hnz, hTz, hoz, hkz⟩ := hp
              refine lv_null hx hb dJ4_put_2_219 ?_
              exact g_aret hx hb hr (by first | exact Or.inl ⟨_, rfl⟩ | exact Or.inr ⟨_, rfl⟩) (by first | exact Or.inl rfl | exact Or.inr ⟨_, rfl⟩ | assumption | exact va_rf_or _) hlocks hQ hG hS (Nat.le_of_ble_eq_true rfl) (Nat.le_of_ble_eq_true rfl) ⟨_, rfl, Or.inr ⟨rfl, zz, ps t + 1, l2, r2, p2, C2, rt2, lo2, hi2, hnz, (by omega), (fun i h => by
                        by_cases e : i = ps t
                        · rw [e, hDt.2]; omega
                        · have q2 := hko i (ps t) (by omega) hDt.1; rw [hDt.2] at q2; omega), (by have q := hok.r0 hDt ho10; rw [← q]; exact hht), (by rw [show ((n + 1 : Nat) : Int) = sz + 1 by omega]; exact hTz), hoz, hkz⟩⟩ dJ4_put_2_220
        · refine lv_aload hx hb dJ4_put_2_146 (lv_at hl 4 rfl) ?_
          refine g_get (C := RJ25) (T := TJ25) (N := 6) (v := va_rf (l_ t)) hx hb hts hown hK hG (hTH.2.1 _ hDt) rfl in_J25 2 (by decide) q1180 rfl rfl dJ4_put_2_148 ?_
          refine g_astoreR (lv' := [(4, va_rf (l_ t)), (5, .int (iI r4)), (6, .ref t), (8, .ref κ), (7, .null), (0, .ref mp), (1, .ref κ), (2, va_rf v9), (3, .int (iI 1))]) hx hb dJ4_put_2_151 hl (by decide) rfl (fun ls hl => ?_)
          refine lv_goto (tgt := 196) hx hb dJ4_put_2_153 (by decide) ?_
          refine g_aloadR hx hb dJ4_put_2_196 (lv_at hl 0 rfl) ?_
          refine g_ifnonnullR (tgt := 123) hx hb dJ4_put_2_198 (by decide) (fun z13 ho14 => ?_) (fun ho14 => ?_)
          · have hD_z13 := (hok.l1 hDt ho14).1
            have hl : lv_has ls 10 [(4, .ref z13), (5, .int (iI r4)), (6, .ref t), (8, .ref κ), (7, .null), (0, .ref mp), (1, .ref κ), (2, va_rf v9), (3, .int (iI 1))] := by first | exact hl | (rw [ho14] at hl; exact hl)
            have q5 := hok.l1 hDt ho14
            have q6 := hok.num hDt
            have q7 := hok.num q5.1
            exact ih_123 z13 (by omega) (hD_z13) (by rw [(hok.l1 hDt ho14).2.1]; exact hlt) (fun i h h2 => by
                        have q := hok.l1 hDt ho14
                        by_cases e : i = ps t
                        · rw [e, hDt.2]; omega
                        · have q2 := hko (ps t) i (by omega) h2; rw [hDt.2] at q2; omega)  _ _ _ hG hS (lv_sub hl [3, 4, 0, 5, 6, 7, 8] rfl)
          · have hl : lv_has ls 10 [(4, .null), (5, .int (iI r4)), (6, .ref t), (8, .ref κ), (7, .null), (0, .ref mp), (1, .ref κ), (2, va_rf v9), (3, .int (iI 1))] := by first | exact hl | (rw [ho14] at hl; exact hl)
            refine lv_aload_n hx hb dJ4_put_2_201 rfl (lv_at hl 5 rfl) ?_
            refine lv_aload_n hx hb dJ4_put_2_202 rfl (lv_at hl 6 rfl) ?_
            refine g_aload_nR hx hb dJ4_put_2_203 rfl (lv_at hl 7 rfl) ?_
            refine lv_aload hx hb dJ4_put_2_204 (lv_at hl 2 rfl) ?_
            refine lv_iload hx hb dJ4_put_2_206 (lv_at hl 1 rfl) ?_
            refine g_if_ge (tgt := 215) hx hb dJ4_put_2_208 (by decide) (by omega) (fun cq15 => by omega) (fun cq15 => ?_)
            refine g_iconst hx hb dJ4_put_2_211 ?_
            refine lv_goto (tgt := 216) hx hb dJ4_put_2_212 (by decide) ?_
            refine g_callV (As := [.ref κ, va_rf v9, .ref t, .int (iI 1)]) (rest := []) 4 hx hb hml hown hts hK hG hS hl.1 (mJ4_addEntry_l l X σ tg mp n ad ps K Vv l_ r_ p_ C rt es ks sz md hTH lo hi hok κ v9 t hDt ho14) hTH.1 rfl q1199 q1201 qs31 q75 q1202 (by decide +kernel) rfl ⟨Nat.le_of_ble_eq_true rfl, Nat.le_of_ble_eq_true rfl⟩ ⟨Nat.le_of_ble_eq_true rfl, Nat.le_of_ble_eq_true rfl⟩ (Nat.le_of_ble_eq_true rfl) dJ4_put_2_216 (kV (fun σr16 H locs hp hG hS => ?_))
            obtain ⟨zz, l2, r2, p2, C2, rt2, lo2, hi2, hnz, hTz, hoz, hkz⟩ := hp
            refine lv_null hx hb dJ4_put_2_219 ?_
            exact g_aret hx hb hr (by first | exact Or.inl ⟨_, rfl⟩ | exact Or.inr ⟨_, rfl⟩) (by first | exact Or.inl rfl | exact Or.inr ⟨_, rfl⟩ | assumption | exact va_rf_or _) hlocks hQ hG hS (Nat.le_of_ble_eq_true rfl) (Nat.le_of_ble_eq_true rfl) ⟨_, rfl, Or.inr ⟨rfl, zz, ps t, l2, r2, p2, C2, rt2, lo2, hi2, hnz, (by omega), (by have q := hok.l0 hDt ho14; rw [← q]; exact hlt), (fun i h h2 => by
                      by_cases e : i = ps t
                      · rw [e, hDt.2]; omega
                      · have q2 := hko (ps t) i (by omega) h2; rw [hDt.2] at q2; omega), (by rw [show ((n + 1 : Nat) : Int) = sz + 1 by omega]; exact hTz), hoz, hkz⟩⟩ dJ4_put_2_220
    exact loop_123 _ z1 (Nat.lt_succ_self _) (hD_z1) (fun i h => by have q := (hok.rx ho2).2.1; omega) (fun i h h2 => by have q := (hok.rx ho2).2.2.1; omega)  _ _ _ hG hS (lv_sub hl [0, 1, 2, 3, 4, 5, 6] rfl)
  · have hl : lv_has ls 10 [(4, .null), (0, .ref mp), (1, .ref κ), (2, va_rf v9), (3, .int (iI 1))] := by first | exact hl | (rw [ho2] at hl; exact hl)
    refine lv_aload_n hx hb dJ4_put_2_11 rfl (lv_at hl 1 rfl) ?_
    refine lv_aload_n hx hb dJ4_put_2_12 rfl (lv_at hl 2 rfl) ?_
    refine g_aload_nR hx hb dJ4_put_2_13 rfl (lv_at hl 3 rfl) ?_
    refine g_callV (As := [.ref κ, va_rf v9]) (rest := []) 2 hx hb hml hown hts hK hG hS hl.1 (mJ4_addEntryToEmptyMap_X9 l X σ tg mp n ad ps K Vv l_ r_ p_ C rt es ks sz md hTH lo hi hok ho2 κ _ k9 v9 (hkp _ _ _ hκ hκt) hκt (by omega)) hTH.1 rfl q1161 q1163 qs30 q75 q1164 (by decide +kernel) rfl ⟨Nat.le_of_ble_eq_true rfl, Nat.le_of_ble_eq_true rfl⟩ ⟨Nat.le_of_ble_eq_true rfl, Nat.le_of_ble_eq_true rfl⟩ (Nat.le_of_ble_eq_true rfl) dJ4_put_2_14 (kV (fun σr17 H locs hp hG hS => ?_))
    obtain ⟨zz, l2, r2, p2, C2, rt2, lo2, hi2, hnz, hTz, hoz, hkz⟩ := hp
    refine lv_null hx hb dJ4_put_2_17 ?_
    exact g_aret hx hb hr (by first | exact Or.inl ⟨_, rfl⟩ | exact Or.inr ⟨_, rfl⟩) (by first | exact Or.inl rfl | exact Or.inr ⟨_, rfl⟩ | assumption | exact va_rf_or _) hlocks hQ hG hS (Nat.le_of_ble_eq_true rfl) (Nat.le_of_ble_eq_true rfl) ⟨_, rfl, Or.inr ⟨rfl, zz, 0, l2, r2, p2, C2, rt2, lo2, hi2, hnz, Nat.zero_le _, (fun i h => absurd h (Nat.not_lt_zero _)), (fun i h h2 => by have q := hok.2.1.1 ho2; omega), (by rw [show ((n + 1 : Nat) : Int) = 1 by have q := hok.2.1.1 ho2; omega]; exact hTz), hoz, hkz⟩⟩ dJ4_put_2_18

set_option maxHeartbeats 4000000 in
theorem mJ4_put_X11 (l : Launch) (X : gX) (σ : gS) (tg mp n : Nat) (ad ps : Nat → Nat) (K : Nat → Nat) (Vv l_ r_ p_ : Nat → Option Nat) (C : Nat → Int) (rt es ks : Option Nat) (sz md : Int) (hTH : TH σ tg mp (tIn n ad ps) K Vv l_ r_ p_ C rt es ks sz md) (lo hi : Nat → Nat) (hok : tOk n ad ps l_ r_ p_ lo hi rt) (kt : Nat) (hkt : ¬ kt = tg) (kc : Nat → Int) (hKc : ∀ a, tIn n ad ps a → σ (K a) = some (kt, gO 11 [.int (iI (kc a))]) ∧ 0 ≤ kc a ∧ kc a ≤ 2000) (hko : kOk n ad kc) (κ t9 : Nat) (k9 : Int) (hκ : σ κ = some (t9, gO 11 [.int (iI k9)])) (hκt : ¬ t9 = tg) (hk9 : 0 ≤ k9 ∧ k9 ≤ 2000) (v9 : Option Nat) (hsz : sz = (n : Int)) : gMet l X yJ4_put cJ4_put 3 (some (.object "java/lang/Object")) 6 1 6 136 σ [.ref mp, .ref κ, va_rf v9] (oA (fun v σ' => (∃ a, tIn n ad ps a ∧ kc a = k9 ∧ v = va_rf (Vv a) ∧ TH σ' tg mp (tIn n ad ps) K (va_up Vv a v9) l_ r_ p_ C rt es ks sz md ∧ gKeep (fun t => t = tg) σ σ') ∨ (v = .null ∧ ∃ (z c : Nat) (l2 r2 p2 : Nat → Option Nat) (C2 : Nat → Int) (rt2 : Option Nat) (lo2 hi2 : Nat → Nat), ¬ tIn n ad ps z ∧ c ≤ n ∧ (∀ i, i < c → kc (ad i) < k9) ∧ (∀ i, c ≤ i → i < n → k9 < kc (ad i)) ∧ TH σ' tg mp (tIn (n + 1) (tAd z c ad) (tPs z c ps)) (va_up K z κ) (va_up Vv z v9) l2 r2 p2 C2 rt2 es ks (((n + 1 : Nat) : Int)) (md + 1) ∧ tOk (n + 1) (tAd z c ad) (tPs z c ps) l2 r2 p2 lo2 hi2 rt2 ∧ gKeep (fun t => t = tg) σ σ'))) := by
  refine gMet.of (by decide) (by cases v9 <;> exact Nat.le_of_ble_eq_true rfl) ?_
  intro pp ee ss mm args below meth cd Q H locs ls hargs hx hb hr hlocks hml hown hnm hts hK hG hS hQ hl
  have hown : ss.vm.findClass RJ4 = some mm.cls := hown
  have hl : lv_has ls 3 [(0, .ref mp), (1, .ref κ), (2, va_rf v9)] := by cases v9 <;> exact hl
  have hkp : gKeep (fun t => t = tg) σ σ := gKeep.rf
  refine lv_aload_n hx hb dJ4_put_0 rfl (lv_at hl 0 rfl) ?_
  refine lv_aload_n hx hb dJ4_put_1 rfl (lv_at hl 1 rfl) ?_
  refine g_aload_nR hx hb dJ4_put_2 rfl (lv_at hl 2 rfl) ?_
  refine g_iconst hx hb dJ4_put_3 ?_
  refine g_callV (As := [.ref κ, va_rf v9, .int (iI 1)]) (rest := []) 3 hx hb hml hown hts hK hG hS hl.1 (mJ4_put_2_X11 l X σ tg mp n ad ps K Vv l_ r_ p_ C rt es ks sz md hTH lo hi hok kt hkt kc hKc hko κ _ k9 (hkp _ _ _ hκ hκt) hκt (by omega) v9 hsz) hTH.1 rfl q1157 q1159 qs29 q75 q1160 (by decide +kernel) rfl ⟨Nat.le_of_ble_eq_true rfl, Nat.le_of_ble_eq_true rfl⟩ ⟨Nat.le_of_ble_eq_true rfl, Nat.le_of_ble_eq_true rfl⟩ (Nat.le_of_ble_eq_true rfl) dJ4_put_4 (kA (fun r1 σr1 H locs hp hG hS => ?_))
  have hvn : r1 = .null ∨ ∃ a, r1 = .ref a := by
    rcases hp with ⟨a, -, -, h, -⟩ | ⟨h, -⟩
    · rw [h]; exact va_rf_or _
    · exact Or.inl h
  exact g_aret hx hb hr (by first | exact Or.inl ⟨_, rfl⟩ | exact Or.inr ⟨_, rfl⟩) (by first | exact Or.inl rfl | exact Or.inr ⟨_, rfl⟩ | assumption | exact va_rf_or _) hlocks hQ hG hS (Nat.le_of_ble_eq_true rfl) (Nat.le_of_ble_eq_true rfl) ⟨_, rfl, hp⟩ dJ4_put_7

set_option maxHeartbeats 4000000 in
theorem mJ4_put_X9 (l : Launch) (X : gX) (σ : gS) (tg mp n : Nat) (ad ps : Nat → Nat) (K : Nat → Nat) (Vv l_ r_ p_ : Nat → Option Nat) (C : Nat → Int) (rt es ks : Option Nat) (sz md : Int) (hTH : TH σ tg mp (tIn n ad ps) K Vv l_ r_ p_ C rt es ks sz md) (lo hi : Nat → Nat) (hok : tOk n ad ps l_ r_ p_ lo hi rt) (kt : Nat) (hkt : ¬ kt = tg) (kc : Nat → Int) (hKc : ∀ a, tIn n ad ps a → σ (K a) = some (kt, gO 9 [.int (iI (kc a))]) ∧ 0 ≤ kc a ∧ kc a ≤ 2000) (hko : kOk n ad kc) (κ t9 : Nat) (k9 : Int) (hκ : σ κ = some (t9, gO 9 [.int (iI k9)])) (hκt : ¬ t9 = tg) (hk9 : 0 ≤ k9 ∧ k9 ≤ 2000) (v9 : Option Nat) (hsz : sz = (n : Int)) : gMet l X yJ4_put cJ4_put 3 (some (.object "java/lang/Object")) 6 1 6 136 σ [.ref mp, .ref κ, va_rf v9] (oA (fun v σ' => (∃ a, tIn n ad ps a ∧ kc a = k9 ∧ v = va_rf (Vv a) ∧ TH σ' tg mp (tIn n ad ps) K (va_up Vv a v9) l_ r_ p_ C rt es ks sz md ∧ gKeep (fun t => t = tg) σ σ') ∨ (v = .null ∧ ∃ (z c : Nat) (l2 r2 p2 : Nat → Option Nat) (C2 : Nat → Int) (rt2 : Option Nat) (lo2 hi2 : Nat → Nat), ¬ tIn n ad ps z ∧ c ≤ n ∧ (∀ i, i < c → kc (ad i) < k9) ∧ (∀ i, c ≤ i → i < n → k9 < kc (ad i)) ∧ TH σ' tg mp (tIn (n + 1) (tAd z c ad) (tPs z c ps)) (va_up K z κ) (va_up Vv z v9) l2 r2 p2 C2 rt2 es ks (((n + 1 : Nat) : Int)) (md + 1) ∧ tOk (n + 1) (tAd z c ad) (tPs z c ps) l2 r2 p2 lo2 hi2 rt2 ∧ gKeep (fun t => t = tg) σ σ'))) := by
  refine gMet.of (by decide) (by cases v9 <;> exact Nat.le_of_ble_eq_true rfl) ?_
  intro pp ee ss mm args below meth cd Q H locs ls hargs hx hb hr hlocks hml hown hnm hts hK hG hS hQ hl
  have hown : ss.vm.findClass RJ4 = some mm.cls := hown
  have hl : lv_has ls 3 [(0, .ref mp), (1, .ref κ), (2, va_rf v9)] := by cases v9 <;> exact hl
  have hkp : gKeep (fun t => t = tg) σ σ := gKeep.rf
  refine lv_aload_n hx hb dJ4_put_0 rfl (lv_at hl 0 rfl) ?_
  refine lv_aload_n hx hb dJ4_put_1 rfl (lv_at hl 1 rfl) ?_
  refine g_aload_nR hx hb dJ4_put_2 rfl (lv_at hl 2 rfl) ?_
  refine g_iconst hx hb dJ4_put_3 ?_
  refine g_callV (As := [.ref κ, va_rf v9, .int (iI 1)]) (rest := []) 3 hx hb hml hown hts hK hG hS hl.1 (mJ4_put_2_X9 l X σ tg mp n ad ps K Vv l_ r_ p_ C rt es ks sz md hTH lo hi hok kt hkt kc hKc hko κ _ k9 (hkp _ _ _ hκ hκt) hκt (by omega) v9 hsz) hTH.1 rfl q1157 q1159 qs29 q75 q1160 (by decide +kernel) rfl ⟨Nat.le_of_ble_eq_true rfl, Nat.le_of_ble_eq_true rfl⟩ ⟨Nat.le_of_ble_eq_true rfl, Nat.le_of_ble_eq_true rfl⟩ (Nat.le_of_ble_eq_true rfl) dJ4_put_4 (kA (fun r1 σr1 H locs hp hG hS => ?_))
  have hvn : r1 = .null ∨ ∃ a, r1 = .ref a := by
    rcases hp with ⟨a, -, -, h, -⟩ | ⟨h, -⟩
    · rw [h]; exact va_rf_or _
    · exact Or.inl h
  exact g_aret hx hb hr (by first | exact Or.inl ⟨_, rfl⟩ | exact Or.inr ⟨_, rfl⟩) (by first | exact Or.inl rfl | exact Or.inr ⟨_, rfl⟩ | assumption | exact va_rf_or _) hlocks hQ hG hS (Nat.le_of_ble_eq_true rfl) (Nat.le_of_ble_eq_true rfl) ⟨_, rfl, hp⟩ dJ4_put_7

