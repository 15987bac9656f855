set_option maxHeartbeats 4000000 in
theorem mX0_adds (l : Launch) (X : gX) (σ : gS) (b : Nat → Nat) (U : Nat → Int → Int) (J : Nat → Int) (R : Int → Option Nat) (hX : XW X σ b U J R) (hT : okT (U 20)) (sp : Int) (h0 : 0 ≤ J 9 ∧ J 9 ≤ 1023) : gMet l X yX0_adds cX0_adds 2 none 0 0 0 0 σ [.ref (b 0), .int (iI sp)] (oV (fun σ' => ∃ (U' : Nat → Int → Int) (J' : Nat → Int), XW X σ' b U' J' R ∧ gKeep (fun t => t = 1) σ σ' ∧ okT (U' 20) ∧ (U' = va_up U 8 (iup (U 8) (J 9) sp) ∧ J' = va_up J 9 (J 9 + 1)))) := by
  refine gMet.of (by decide) (Nat.le_of_ble_eq_true rfl) ?_
  intro pp ee ss mm args below meth cd Q H locs ls hargs hx hb hr hlocks hml hown hnm hts hK hG hS hQ hl
  have hown : ss.vm.findClass RX0 = some mm.cls := hown
  have hl : lv_has ls 2 [(0, .ref (b 0)), (1, .int (iI sp))] := hl
  have hkp : gKeep (fun t => t = 1) σ σ := gKeep.rf
  refine lv_aload_n hx hb dX0_adds_0 rfl (lv_at hl 0 rfl) ?_
  refine g_get (C := RX0) (T := TX0) (N := 20) (v := .ref (b 8)) hx hb hts hown hK hG hX.c0 rfl in_X0 8 (by decide) q431 rfl rfl dX0_adds_1 ?_
  refine lv_aload_n hx hb dX0_adds_4 rfl (lv_at hl 0 rfl) ?_
  refine g_get (C := RX0) (T := TX0) (N := 20) (v := .int (iI (J 9))) hx hb hts hown hK hG hX.c0 rfl in_X0 9 (by decide) q432 rfl rfl dX0_adds_5 ?_
  refine lv_iload_n hx hb dX0_adds_8 rfl (lv_at hl 1 rfl) ?_
  refine g_iast hx hb hK hG hS hX.c8 dX0_adds_9 (by omega) (fun H locs hG hS => ?_)
  obtain ⟨U1, eU1⟩ : ∃ z : Nat → Int → Int, z = va_up U 8 (iup (U 8) (J 9) sp) := ⟨_, rfl⟩
  have u8_1 : U1 8 = (iup (U 8) (J 9) sp) := by rw [eU1, va_up_self]
  have fU1 : ∀ j, j ≠ 8 → U1 j = U j := fun j hj => by rw [eU1, va_up_ne _ _ hj]
  have hX1 : XW X (gup σ (b 8) (1, gI (X.2.1 0) 1024 (iup (U 8) (J 9) sp))) b U1 J R := by rw [eU1]; exact hX.set 8 rfl (iup (U 8) (J 9) sp)
  have hkp1 : gKeep (fun t => t = 1) σ (gup σ (b 8) (1, gI (X.2.1 0) 1024 (iup (U 8) (J 9) sp))) := hkp.tr (gKeep.up hX.c8 rfl)
  have hT1 : okT (U1 20) := by rw [fU1 20 (by decide)]; exact hT
  generalize (gup σ (b 8) (1, gI (X.2.1 0) 1024 (iup (U 8) (J 9) sp))) = σ1 at hG hX1 hkp1
  refine lv_aload_n hx hb dX0_adds_10 rfl (lv_at hl 0 rfl) ?_
  refine lv_dup hx hb dX0_adds_11 rfl ?_
  refine g_get (C := RX0) (T := TX0) (N := 20) (v := .int (iI (J 9))) hx hb hts hown hK hG hX1.c0 rfl in_X0 9 (by decide) q432 rfl rfl dX0_adds_12 ?_
  refine g_iconst hx hb dX0_adds_15 ?_
  refine g_iadd hx hb dX0_adds_16 ?_
  refine g_put (C := RX0) (T := TX0) (N := 20) (ty0 := tyX0) (v := .int (iI ((J 9) + 1))) hx hb hts hown hK hG hS hX1.c0 rfl in_X0 tyX0_ok nmX0 9 (by decide) q432 rfl (by decide) rfl rfl (Nat.le_of_ble_eq_true rfl) dX0_adds_17 (fun H locs hG hS => ?_)
  obtain ⟨J2, eJ2⟩ : ∃ z : Nat → Int, z = va_up J 9 ((J 9) + 1) := ⟨_, rfl⟩
  have j9_2 : J2 9 = (J 9) + 1 := by rw [eJ2, va_up_self]
  have fJ2 : ∀ j, j ≠ 9 → J2 j = J j := fun j hj => by rw [eJ2, va_up_ne _ _ hj]
  have hX2 : XW X (gup σ1 (b 0) (1, gO 0 ([.ref (b 1), .ref (b 2), .int (iI (J 2)), .ref (b 3), .ref (b 4), .ref (b 5), .int (iI (J 6)), .ref (b 7), .ref (b 8), .int (iI (J 9)), .ref (b 10), .ref (b 11), .ref (b 12), .ref (b 13), .ref (b 14), .ref (b 56), .ref (b 57), .ref (b 58), .ref (b 18), .ref (b 19)].set 9 (.int (iI ((J 9) + 1)))))) b U1 J2 R := by rw [eJ2]; exact hX1.num 9 rfl ((J 9) + 1)
  have hkp2 : gKeep (fun t => t = 1) σ (gup σ1 (b 0) (1, gO 0 ([.ref (b 1), .ref (b 2), .int (iI (J 2)), .ref (b 3), .ref (b 4), .ref (b 5), .int (iI (J 6)), .ref (b 7), .ref (b 8), .int (iI (J 9)), .ref (b 10), .ref (b 11), .ref (b 12), .ref (b 13), .ref (b 14), .ref (b 56), .ref (b 57), .ref (b 58), .ref (b 18), .ref (b 19)].set 9 (.int (iI ((J 9) + 1)))))) := hkp1.tr (gKeep.up hX1.c0 rfl)
  generalize (gup σ1 (b 0) (1, gO 0 ([.ref (b 1), .ref (b 2), .int (iI (J 2)), .ref (b 3), .ref (b 4), .ref (b 5), .int (iI (J 6)), .ref (b 7), .ref (b 8), .int (iI (J 9)), .ref (b 10), .ref (b 11), .ref (b 12), .ref (b 13), .ref (b 14), .ref (b 56), .ref (b 57), .ref (b 58), .ref (b 18), .ref (b 19)].set 9 (.int (iI ((J 9) + 1)))))) = σ2 at hG hX2 hkp2
  exact g_vret hx hb hr hlocks hQ hG hS (Nat.zero_le _) (Nat.zero_le _) ⟨rfl, U1, J2, hX2, hkp2, hT1, (⟨eU1, eJ2⟩)⟩ dX0_adds_20

set_option maxHeartbeats 4000000 in
theorem mX0_lambda_gathers_2 (l : Launch) (X : gX) (σ : gS) (b : Nat → Nat) (U : Nat → Int → Int) (J : Nat → Int) (R : Int → Option Nat) (hX : XW X σ b U J R) (hT : okT (U 20)) (k : Int) (sp : Int) (v : Int) (h0 : 0 ≤ J 9 ∧ J 9 ≤ 1023) (h1 : -2147483648 ≤ k ∧ k ≤ 2147483647) (h2 : -2147483648 ≤ v ∧ v ≤ 2147483647) : gMet l X yX0_lambda_gathers_2 cX0_lambda_gathers_2 4 none 1 0 0 21 σ [.ref (b 0), .int (iI k), .int (iI sp), .int (iI v)] (oV (fun σ' => ∃ (U' : Nat → Int → Int) (J' : Nat → Int), XW X σ' b U' J' R ∧ gKeep (fun t => t = 1) σ σ' ∧ okT (U' 20) ∧ ((v = k ∧ U' = va_up U 8 (iup (U 8) (J 9) sp) ∧ J' = va_up J 9 (J 9 + 1)) ∨ (¬ v = k ∧ U' = U ∧ J' = J)))) := by
  refine gMet.of (by decide) (Nat.le_of_ble_eq_true rfl) ?_
  intro pp ee ss mm args below meth cd Q H locs ls hargs hx hb hr hlocks hml hown hnm hts hK hG hS hQ hl
  have hown : ss.vm.findClass RX0 = some mm.cls := hown
  have hl : lv_has ls 4 [(0, .ref (b 0)), (1, .int (iI k)), (2, .int (iI sp)), (3, .int (iI v))] := hl
  have hkp : gKeep (fun t => t = 1) σ σ := gKeep.rf
  refine lv_iload_n hx hb dX0_lambda_gathers_2_0 rfl (lv_at hl 3 rfl) ?_
  refine lv_iload_n hx hb dX0_lambda_gathers_2_1 rfl (lv_at hl 1 rfl) ?_
  refine g_icmp_ne (tgt := 10) hx hb dX0_lambda_gathers_2_2 (by decide) (by omega) (by omega) (fun cq1 => ?_) (fun cq1 => ?_)
  · exact g_vret hx hb hr hlocks hQ hG hS (Nat.zero_le _) (Nat.zero_le _) ⟨rfl, U, J, hX, hkp, hT, (Or.inr ⟨by omega, rfl, rfl⟩)⟩ dX0_lambda_gathers_2_10
  · refine lv_aload_n hx hb dX0_lambda_gathers_2_5 rfl (lv_at hl 0 rfl) ?_
    refine lv_iload_n hx hb dX0_lambda_gathers_2_6 rfl (lv_at hl 2 rfl) ?_
    refine g_callV (As := [.int (iI sp)]) (rest := []) 1 hx hb hml hown hts hK hG hS hl.1 (mX0_adds l X σ b U J R hX hT sp (by omega)) hX.c0 rfl q655 q657 qs22 q69 q658 (by decide +kernel) rfl ⟨Nat.le_of_ble_eq_true rfl, Nat.le_of_ble_eq_true rfl⟩ ⟨Nat.le_of_ble_eq_true rfl, Nat.le_of_ble_eq_true rfl⟩ (Nat.le_of_ble_eq_true rfl) dX0_lambda_gathers_2_7 (kV (fun σr2 H locs hp hG hS => ?_))
    obtain ⟨U2, J2, hX2, kp2, hT2, hrel2⟩ := hp
    have hkp2 := hkp.tr kp2
    exact g_vret hx hb hr hlocks hQ hG hS (Nat.zero_le _) (Nat.zero_le _) ⟨rfl, U2, J2, hX2, hkp2, hT2, (Or.inl ⟨by omega, hrel2⟩)⟩ dX0_lambda_gathers_2_10

set_option maxHeartbeats 4000000 in
theorem mX0_goesThrough_8 (l : Launch) (X : gX) (σ : gS) (b : Nat → Nat) (U : Nat → Int → Int) (J : Nat → Int) (R : Int → Option Nat) (hX : XW X σ b U J R) (hT : okT (U 20)) (k : Int) (lq : Nat) (h0 : J 9 = 0) (h1 : -2147483648 ≤ k ∧ k ≤ 2147483647) (h2 : σ lq = some (9, gL 8 [.ref (b 0), .int (iI k)])) : gMet l X yX0_goesThrough cX0_goesThrough 4 none 5 0 0 118 σ [.ref (b 0), .ref lq] (oV (fun σ' => ∃ (U' : Nat → Int → Int) (J' : Nat → Int), XW X σ' b U' J' R ∧ gKeep (fun t => t = 1) σ σ' ∧ okT (U' 20) ∧ (lisP (fibL (U 20) k 1024) (U' 8) (J' 9) ∧ (∀ q, q ≠ 8 → U' q = U q) ∧ (∀ q, q ≠ 9 → J' q = J q)))) := by
  refine gMet.of (by decide) (Nat.le_of_ble_eq_true rfl) ?_
  intro pp ee ss mm args below meth cd Q H locs ls hargs hx hb hr hlocks hml hown hnm hts hK hG hS hQ hl
  have hown : ss.vm.findClass RX0 = some mm.cls := hown
  have hl : lv_has ls 4 [(0, .ref (b 0)), (1, .ref lq)] := hl
  have hkp : gKeep (fun t => t = 1) σ σ := gKeep.rf
  have hL := h2
  refine g_iconst hx hb dX0_goesThrough_0 ?_
  refine lv_istore_n (lv' := [(2, .int (iI 0)), (0, .ref (b 0)), (1, .ref lq)]) hx hb dX0_goesThrough_1 rfl hl (by decide) rfl (fun ls hl => ?_)
  have loop_2 : ∀ (nF : Nat) (σM : gS) (UM : Nat → Int → Int) (JM : Nat → Int) (x9 : Int), ((32 - x9).toNat : Nat) < nF → (XW X σM b UM JM R) → (gKeep (fun t => t = 1) σ σM) → (okT (UM 20)) → (0 ≤ x9 ∧ x9 ≤ 32) → (lisP (fibL (U 20) k (32 * x9.toNat)) (UM 8) (JM 9)) → (∀ q, q ≠ 8 → UM q = U q) → (∀ q, q ≠ 9 → JM q = J q) → ∀ (H : Heap) (locs : List Loc) (ls : Array Slot), gSat X σM H → va_S (gA X) ss.heap H locs → lv_has ls 4 [(2, .int (iI x9)), (0, .ref (b 0)), (1, .ref lq)] → W pp l ee (gR 5 0 0 118) ss mm args below meth cd H locs 0 0 Q (F0 mm 2 ls []) := by
    intro nF
    induction nF with
    | zero => intro σM UM JM x9 hm; exact absurd hm (Nat.not_lt_zero _)
    | succ nF ih_2 =>
      intro σM UM JM x9 hm hXM hkM hTM hi2_3 hIM hAM hBM H locs ls hG hS hl
      refine lv_iload_n hx hb dX0_goesThrough_2 rfl (lv_at hl 0 rfl) ?_
      refine g_bipush hx hb dX0_goesThrough_3 (by decide) ?_
      refine g_icmp_ge (tgt := 45) hx hb dX0_goesThrough_5 (by decide) (by omega) (by omega) (fun cq1 => ?_) (fun cq1 => ?_)
      · exact g_vret hx hb hr hlocks hQ hG hS (Nat.zero_le _) (Nat.zero_le _) ⟨rfl, UM, JM, hXM, hkM, hTM, (⟨by rw [show 1024 = 32 * x9.toNat by omega]; exact hIM, hAM, hBM⟩)⟩ dX0_goesThrough_45
      · refine g_iconst hx hb dX0_goesThrough_8 ?_
        refine lv_istore_n (lv' := [(3, .int (iI 0)), (2, .int (iI x9)), (0, .ref (b 0)), (1, .ref lq)]) hx hb dX0_goesThrough_9 rfl hl (by decide) rfl (fun ls hl => ?_)
        have loop_10 : ∀ (nF : Nat) (σL : gS) (UL : Nat → Int → Int) (JL : Nat → Int) (y9 : Int), ((32 - y9).toNat : Nat) < nF → (XW X σL b UL JL R) → (gKeep (fun t => t = 1) σ σL) → (okT (UL 20)) → (0 ≤ y9 ∧ y9 ≤ 32) → (lisP (fibL (U 20) k (32 * x9.toNat + y9.toNat)) (UL 8) (JL 9)) → (∀ q, q ≠ 8 → UL q = U q) → (∀ q, q ≠ 9 → JL q = J q) → ∀ (H : Heap) (locs : List Loc) (ls : Array Slot), gSat X σL H → va_S (gA X) ss.heap H locs → lv_has ls 4 [(3, .int (iI y9)), (2, .int (iI x9)), (0, .ref (b 0)), (1, .ref lq)] → W pp l ee (gR 5 0 0 118) ss mm args below meth cd H locs 0 0 Q (F0 mm 10 ls []) := by
          intro nF
          induction nF with
          | zero => intro σL UL JL y9 hm; exact absurd hm (Nat.not_lt_zero _)
          | succ nF ih_10 =>
            intro σL UL JL y9 hm hXL hkL hTL hi10_3 hI hA hB H locs ls hG hS hl
            refine lv_iload_n hx hb dX0_goesThrough_10 rfl (lv_at hl 0 rfl) ?_
            refine g_bipush hx hb dX0_goesThrough_11 (by decide) ?_
            refine g_icmp_ge (tgt := 39) hx hb dX0_goesThrough_13 (by decide) (by omega) (by omega) (fun cq2 => ?_) (fun cq2 => ?_)
            · refine g_iinc (lv' := [(2, .int (iI (x9 + 1))), (3, .int (iI y9)), (0, .ref (b 0)), (1, .ref lq)]) hx hb dX0_goesThrough_39 hl (k := 1) rfl (by decide) rfl (fun ls hl => ?_)
              refine lv_goto (tgt := 2) hx hb dX0_goesThrough_42 (by decide) ?_
              exact ih_2 σL UL JL (x9 + 1) (by omega) (hXL) (hkL) (hTL) (by omega) (by rw [show 32 * (x9 + 1).toNat = 32 * x9.toNat + y9.toNat by omega]; exact hI) (hA) (hB)  _ _ _ hG hS (lv_sub hl [0, 2, 3] rfl)
            · refine lv_aload_n hx hb dX0_goesThrough_16 rfl (lv_at hl 3 rfl) ?_
              refine lv_iload_n hx hb dX0_goesThrough_17 rfl (lv_at hl 1 rfl) ?_
              refine lv_iload_n hx hb dX0_goesThrough_18 rfl (lv_at hl 0 rfl) ?_
              refine g_callS (As := [.int (iI x9), .int (iI y9)]) (rest := [.ref lq]) 2 hx hb hml hown hts hK hG hS hl.1 (mX0_codeOf l X σL  x9 y9 (by omega) (by omega)) q387 q388 q69 q389 (by decide +kernel) rfl ⟨Nat.le_of_ble_eq_true rfl, Nat.le_of_ble_eq_true rfl⟩ ⟨Nat.le_of_ble_eq_true rfl, Nat.le_of_ble_eq_true rfl⟩ (Nat.le_of_ble_eq_true rfl) dX0_goesThrough_19 (kI (fun r3 σr3 H locs hp hG hS => ?_))
              obtain ⟨hr3, rfl⟩ := hp
              refine lv_aload_n hx hb dX0_goesThrough_22 rfl (lv_at hl 2 rfl) ?_
              refine lv_iload_n hx hb dX0_goesThrough_23 rfl (lv_at hl 1 rfl) ?_
              refine lv_iload_n hx hb dX0_goesThrough_24 rfl (lv_at hl 0 rfl) ?_
              refine g_callV (As := [.int (iI x9), .int (iI y9)]) (rest := [.int (iI r3), .ref lq]) 2 hx hb hml hown hts hK hG hS hl.1 (mX0_keptAt l X σL b UL JL R hXL hTL x9 y9 (by omega) (by omega)) hXL.c0 rfl q606 q608 qs18 q69 q609 (by decide +kernel) rfl ⟨Nat.le_of_ble_eq_true rfl, Nat.le_of_ble_eq_true rfl⟩ ⟨Nat.le_of_ble_eq_true rfl, Nat.le_of_ble_eq_true rfl⟩ (Nat.le_of_ble_eq_true rfl) dX0_goesThrough_25 (kI (fun r4 σr4 H locs hp hG hS => ?_))
              obtain ⟨⟨hr4, kr4⟩, rfl⟩ := hp
              have hlen0 := fibL_len (U 20) k (32 * x9.toNat + y9.toNat)
              have hI1 := hI.1
              refine g_lc8 (rest := []) hx hb hml hown hts hK hG hS hl.1 (mX0_lambda_gathers_2 l X σL b UL JL R hXL hTL k r3 r4 (by omega) (by omega) (by omega)) (hkL _ _ _ hL (by decide)) hXL.c0 q664 (fun v σ' h => h.1) ⟨Nat.le_of_ble_eq_true rfl, Nat.le_of_ble_eq_true rfl⟩ ⟨Nat.le_of_ble_eq_true rfl, Nat.le_of_ble_eq_true rfl⟩ (Nat.le_of_ble_eq_true rfl) dX0_goesThrough_28 (kV (fun σr5 H locs hp hG hS => ?_))
              obtain ⟨U5, J5, hX5, kp5, hT5, hrel5⟩ := hp
              have hkp5 := hkL.tr kp5
              have hn1 : ((32 * x9.toNat + y9.toNat : Nat) : Int) = 32 * x9 + y9 := by omega
              rw [hA 20 (by decide)] at hr4
              have hlen := fibL_len (U 20) k (32 * x9.toNat + y9.toNat)
              have hP5 : lisP (fibL (U 20) k (32 * x9.toNat + y9.toNat + 1)) (U5 8) (J5 9) ∧ (∀ q, q ≠ 8 → U5 q = U q) ∧ (∀ q, q ≠ 9 → J5 q = J q) := by
                rcases hrel5 with ⟨hv, rfl, rfl⟩ | ⟨hv, rfl, rfl⟩
                · rw [fibL_y hn1 (by omega) (by rw [← hr4]; exact hv), va_up_self, va_up_self, ← hr3]
                  exact ⟨lisP_add hI (by omega), fun q hq => by rw [va_up_ne _ _ hq]; exact hA q hq, fun q hq => by rw [va_up_ne _ _ hq]; exact hB q hq⟩
                · rw [fibL_n hn1 (by omega) (by rw [← hr4]; exact hv)]
                  exact ⟨hI, hA, hB⟩
              refine g_iinc (lv' := [(3, .int (iI (y9 + 1))), (2, .int (iI x9)), (0, .ref (b 0)), (1, .ref lq)]) hx hb dX0_goesThrough_33 hl (k := 0) rfl (by decide) rfl (fun ls hl => ?_)
              refine lv_goto (tgt := 10) hx hb dX0_goesThrough_36 (by decide) ?_
              exact ih_10 σr5 U5 J5 (y9 + 1) (by omega) (hX5) (hkp5) (hT5) (by omega) (by rw [show 32 * x9.toNat + (y9 + 1).toNat = 32 * x9.toNat + y9.toNat + 1 by omega]; exact hP5.1) (hP5.2.1) (hP5.2.2)  _ _ _ hG hS (lv_sub hl [0, 1, 2, 3] rfl)
        exact loop_10 _ σM UM JM 0 (Nat.lt_succ_self _) (hXM) (hkM) (hTM) (by omega) (by simpa using hIM) (hAM) (hBM)  _ _ _ hG hS (lv_sub hl [0, 1, 2, 3] rfl)
  exact loop_2 _ σ U J 0 (Nat.lt_succ_self _) (hX) (hkp) (hT) (by omega) (by show lisP [] _ _; rw [h0]; exact lisP_nil _) (fun q h => rfl) (fun q h => rfl)  _ _ _ hG hS (lv_sub hl [0, 1, 2] rfl)

set_option maxHeartbeats 4000000 in
theorem mX0_gathers (l : Launch) (X : gX) (σ : gS) (b : Nat → Nat) (U : Nat → Int → Int) (J : Nat → Int) (R : Int → Option Nat) (hX : XW X σ b U J R) (hT : okT (U 20)) (k : Int) (h0 : -2147483648 ≤ k ∧ k ≤ 2147483647) : gMet l X yX0_gathers cX0_gathers 2 none 6 1 2 3100 σ [.ref (b 0), .int (iI k)] (oV (fun σ' => ∃ (U' : Nat → Int → Int) (J' : Nat → Int), XW X σ' b U' J' R ∧ gKeep (fun t => t = 1) σ σ' ∧ okT (U' 20) ∧ (lisP (fibL (U 20) k 1024) (U' 8) (J' 9) ∧ (∀ q, q ≠ 8 → U' q = U q) ∧ (∀ q, q ≠ 9 → J' q = J q)))) := by
  refine gMet.ofN (by decide) (Nat.le_of_ble_eq_true rfl) ?_
  intro pp ee ss mm args below meth cd Q H locs ls hargs hx hb hr hlocks hml hown hnm hts hK hG hS hQ hl hnd
  have hown : ss.vm.findClass RX0 = some mm.cls := hown
  have hl : lv_has ls 2 [(0, .ref (b 0)), (1, .int (iI k))] := hl
  have hkp : gKeep (fun t => t = 1) σ σ := gKeep.rf
  refine lv_aload_n hx hb dX0_gathers_0 rfl (lv_at hl 0 rfl) ?_
  refine g_iconst hx hb dX0_gathers_1 ?_
  refine g_put (C := RX0) (T := TX0) (N := 20) (ty0 := tyX0) (v := .int (iI 0)) hx hb hts hown hK hG hS hX.c0 rfl in_X0 tyX0_ok nmX0 9 (by decide) q432 rfl (by decide) rfl rfl (Nat.le_of_ble_eq_true rfl) dX0_gathers_2 (fun H locs hG hS => ?_)
  obtain ⟨J1, eJ1⟩ : ∃ z : Nat → Int, z = va_up J 9 0 := ⟨_, rfl⟩
  have j9_1 : J1 9 = 0 := by rw [eJ1, va_up_self]
  have fJ1 : ∀ j, j ≠ 9 → J1 j = J j := fun j hj => by rw [eJ1, va_up_ne _ _ hj]
  have hX1 : XW X (gup σ (b 0) (1, gO 0 ([.ref (b 1), .ref (b 2), .int (iI (J 2)), .ref (b 3), .ref (b 4), .ref (b 5), .int (iI (J 6)), .ref (b 7), .ref (b 8), .int (iI (J 9)), .ref (b 10), .ref (b 11), .ref (b 12), .ref (b 13), .ref (b 14), .ref (b 56), .ref (b 57), .ref (b 58), .ref (b 18), .ref (b 19)].set 9 (.int (iI 0))))) b U J1 R := by rw [eJ1]; exact hX.num 9 rfl 0
  have hkp1 : gKeep (fun t => t = 1) σ (gup σ (b 0) (1, gO 0 ([.ref (b 1), .ref (b 2), .int (iI (J 2)), .ref (b 3), .ref (b 4), .ref (b 5), .int (iI (J 6)), .ref (b 7), .ref (b 8), .int (iI (J 9)), .ref (b 10), .ref (b 11), .ref (b 12), .ref (b 13), .ref (b 14), .ref (b 56), .ref (b 57), .ref (b 58), .ref (b 18), .ref (b 19)].set 9 (.int (iI 0))))) := hkp.tr (gKeep.up hX.c0 rfl)
  generalize (gup σ (b 0) (1, gO 0 ([.ref (b 1), .ref (b 2), .int (iI (J 2)), .ref (b 3), .ref (b 4), .ref (b 5), .int (iI (J 6)), .ref (b 7), .ref (b 8), .int (iI (J 9)), .ref (b 10), .ref (b 11), .ref (b 12), .ref (b 13), .ref (b 14), .ref (b 56), .ref (b 57), .ref (b 58), .ref (b 18), .ref (b 19)].set 9 (.int (iI 0))))) = σ1 at hG hX1 hkp1
  have hJ0 : J1 9 = 0 := j9_1
  refine lv_aload_n hx hb dX0_gathers_5 rfl (lv_at hl 0 rfl) ?_
  refine lv_aload_n hx hb dX0_gathers_6 rfl (lv_at hl 0 rfl) ?_
  refine lv_iload_n hx hb dX0_gathers_7 rfl (lv_at hl 1 rfl) ?_
  refine g_lmk (k := 8) (vs := [.ref (b 0), .int (iI k)]) (rest := [.ref (b 0)]) 9 hx hb hml hts hK hG hS hl.1 (by decide) hnd rfl rfl lfi_8 lse_8 lla_8 lco_8 lfl_8 (by decide) lty_8 rfl rfl (fun i t v h1 h2 => by
        match i, h1, h2 with
        | 0, h1, h2 => cases h1; cases h2; rfl
        | 1, h1, h2 => cases h1; cases h2; rfl
        | n + 2, h1, _ => cases h1) (Nat.le_of_ble_eq_true rfl) (by first | exact Nat.le_of_ble_eq_true rfl | omega) (by first | exact Nat.le_of_ble_eq_true rfl | (show _ + 2 ≤ _; omega)) (Nat.le_of_ble_eq_true rfl) dX0_gathers_8 (fun lq2 H hqlq2 hG hS => ?_)
  have hLlq2 : (gup σ1 lq2 (9, gL 8 [.ref (b 0), .int (iI k)])) lq2 = some (9, gL 8 [.ref (b 0), .int (iI k)]) := gup_s
  have hX3 : XW X (gup σ1 lq2 (9, gL 8 [.ref (b 0), .int (iI k)])) b U J1 R := hX1.keep (tg := fun _ => False) (gKeep.new hqlq2) (fun h => h)
  have hkp3 : gKeep (fun t => t = 1) σ (gup σ1 lq2 (9, gL 8 [.ref (b 0), .int (iI k)])) := hkp1.tr (gKeep.new hqlq2)
  generalize (gup σ1 lq2 (9, gL 8 [.ref (b 0), .int (iI k)])) = σ3 at hG hX3 hkp3 hLlq2
  refine g_callV (As := [.ref lq2]) (rest := []) 1 hx hb hml hown hts hK hG hS hl.1 (mX0_goesThrough_8 l X σ3 b U J1 R hX3 hT k lq2 (by assumption) (by omega) hLlq2) hX3.c0 rfl q659 q661 qs23 q69 q662 (by decide +kernel) rfl ⟨Nat.le_of_ble_eq_true rfl, Nat.le_of_ble_eq_true rfl⟩ ⟨Nat.le_of_ble_eq_true rfl, Nat.le_of_ble_eq_true rfl⟩ (Nat.le_of_ble_eq_true rfl) dX0_gathers_13 (kV (fun σr4 H locs hp hG hS => ?_))
  obtain ⟨U4, J4, hX4, kp4, hT4, hrel4⟩ := hp
  have hkp4 := hkp3.tr kp4
  exact g_vret hx hb hr hlocks hQ hG hS (Nat.le_of_ble_eq_true rfl) (Nat.le_of_ble_eq_true rfl) ⟨rfl, U4, J4, hX4, hkp4, hT4, (⟨hrel4.1, hrel4.2.1, fun q hq => (hrel4.2.2 q hq).trans (fJ1 q hq)⟩)⟩ dX0_gathers_16

set_option maxHeartbeats 4000000 in
theorem mX0_spotOf (l : Launch) (X : gX) (σ : gS) (b : Nat → Nat) (U : Nat → Int → Int) (J : Nat → Int) (R : Int → Option Nat) (hX : XW X σ b U J R) (hT : okT (U 20)) (l9 : List Int) (i : Int) (h0 : lisP l9 (U 8) (J 9)) (h1 : -2147483648 ≤ i ∧ i ≤ 2147483647) : gMet l X yX0_spotOf cX0_spotOf 2 (some .int) 1 0 0 25 σ [.ref (b 0), .int (iI i)] (oI (fun r σ' => r = nthL l9 i ∧ σ = σ')) := by
  refine gMet.of (by decide) (Nat.le_of_ble_eq_true rfl) ?_
  intro pp ee ss mm args below meth cd Q H locs ls hargs hx hb hr hlocks hml hown hnm hts hK hG hS hQ hl
  have hown : ss.vm.findClass RX0 = some mm.cls := hown
  have hl : lv_has ls 2 [(0, .ref (b 0)), (1, .int (iI i))] := hl
  have hl1 := h0.1
  have hl2 := h0.2.1
  refine lv_iload_n hx hb dX0_spotOf_0 rfl (lv_at hl 1 rfl) ?_
  refine g_iconst hx hb dX0_spotOf_1 ?_
  refine g_icmp_ne (tgt := 12) hx hb dX0_spotOf_2 (by decide) (by omega) (by omega) (fun cq1 => ?_) (fun cq1 => ?_)
  · refine lv_iload_n hx hb dX0_spotOf_12 rfl (lv_at hl 1 rfl) ?_
    refine g_i2l hx hb dX0_spotOf_13 (by omega) ?_
    refine lv_lconst (v := lI 0) hx hb dX0_spotOf_14 (by decide) ?_
    refine lv_aload_n hx hb dX0_spotOf_15 rfl (lv_at hl 0 rfl) ?_
    refine g_get (C := RX0) (T := TX0) (N := 20) (v := .int (iI (J 9))) hx hb hts hown hK hG hX.c0 rfl in_X0 9 (by decide) q432 rfl rfl dX0_spotOf_16 ?_
    refine g_iconst hx hb dX0_spotOf_19 ?_
    refine g_isub hx hb dX0_spotOf_20 ?_
    refine g_i2l hx hb dX0_spotOf_21 (by omega) ?_
    refine g_callS (As := [.long (lI i), .long (lI 0), .long (lI ((J 9) - 1))]) (rest := []) 3 hx hb hml hown hts hK hG hS hl.1 (mX0_isIn l X σ  i 0 ((J 9) - 1) (by omega) (by omega) (by omega)) q494 q495 q69 q496 (by decide +kernel) rfl ⟨Nat.le_of_ble_eq_true rfl, Nat.le_of_ble_eq_true rfl⟩ ⟨Nat.le_of_ble_eq_true rfl, Nat.le_of_ble_eq_true rfl⟩ (Nat.le_of_ble_eq_true rfl) dX0_spotOf_22 (kI (fun r2 σr2 H locs hp hG hS => ?_))
    obtain ⟨hr2, rfl⟩ := hp
    refine g_if_eq (tgt := 37) hx hb dX0_spotOf_25 (by decide) (by omega) (fun cq3 => ?_) (fun cq3 => ?_)
    · refine g_bipush hx hb dX0_spotOf_37 (by decide) ?_
      exact g_iret hx hb hr hlocks hQ hG hS (Nat.zero_le _) (Nat.zero_le _) ⟨_, rfl, ((nthL_no h0 (by omega) (by omega)).symm), rfl⟩ dX0_spotOf_39
    · refine lv_aload_n hx hb dX0_spotOf_28 rfl (lv_at hl 0 rfl) ?_
      refine g_get (C := RX0) (T := TX0) (N := 20) (v := .ref (b 8)) hx hb hts hown hK hG hX.c0 rfl in_X0 8 (by decide) q431 rfl rfl dX0_spotOf_29 ?_
      refine lv_iload_n hx hb dX0_spotOf_32 rfl (lv_at hl 1 rfl) ?_
      refine g_iald hx hb hK hG hX.c8 dX0_spotOf_33 (by omega) ?_
      refine lv_goto (tgt := 39) hx hb dX0_spotOf_34 (by decide) ?_
      exact g_iret hx hb hr hlocks hQ hG hS (Nat.zero_le _) (Nat.zero_le _) ⟨_, rfl, ((nthL_at h0 (by omega)).symm), rfl⟩ dX0_spotOf_39
  · refine lv_aload_n hx hb dX0_spotOf_5 rfl (lv_at hl 0 rfl) ?_
    refine g_get (C := RX0) (T := TX0) (N := 20) (v := .int (iI (J 9))) hx hb hts hown hK hG hX.c0 rfl in_X0 9 (by decide) q432 rfl rfl dX0_spotOf_6 ?_
    refine lv_goto (tgt := 39) hx hb dX0_spotOf_9 (by decide) ?_
    exact g_iret hx hb hr hlocks hQ hG hS (Nat.zero_le _) (Nat.zero_le _) ⟨_, rfl, (by rename_i hq; rw [show i = -1 by omega]; exact (nthL_len h0).symm), rfl⟩ dX0_spotOf_39

set_option maxHeartbeats 4000000 in
theorem mX0_fibre (l : Launch) (X : gX) (σ : gS) (b : Nat → Nat) (U : Nat → Int → Int) (J : Nat → Int) (R : Int → Option Nat) (hX : XW X σ b U J R) (hT : okT (U 20)) (k : Int) (i : Int) (h0 : -2147483648 ≤ k ∧ k ≤ 2147483647) (h1 : -2147483648 ≤ i ∧ i ≤ 2147483647) : gMet l X yX0_fibre cX0_fibre 3 (some .int) 7 1 2 3121 σ [.ref (b 0), .int (iI k), .int (iI i)] (oI (fun r σ' => ∃ (U' : Nat → Int → Int) (J' : Nat → Int), XW X σ' b U' J' R ∧ gKeep (fun t => t = 1) σ σ' ∧ okT (U' 20) ∧ (r = (if 0 ≤ k ∧ k ≤ 31 then nthL (fibL (U 20) k 1024) i else -1) ∧ (∀ q, q ≠ 8 → U' q = U q) ∧ (∀ q, q ≠ 9 → J' q = J q)))) := by
  refine gMet.of (by decide) (Nat.le_of_ble_eq_true rfl) ?_
  intro pp ee ss mm args below meth cd Q H locs ls hargs hx hb hr hlocks hml hown hnm hts hK hG hS hQ hl
  have hown : ss.vm.findClass RX0 = some mm.cls := hown
  have hl : lv_has ls 3 [(0, .ref (b 0)), (1, .int (iI k)), (2, .int (iI i))] := hl
  have hkp : gKeep (fun t => t = 1) σ σ := gKeep.rf
  refine lv_iload_n hx hb dX0_fibre_0 rfl (lv_at hl 1 rfl) ?_
  refine g_callS (As := [.int (iI k)]) (rest := []) 1 hx hb hml hown hts hK hG hS hl.1 (mX0_isCoordinate l X σ  k (by omega)) q594 q595 q69 q596 (by decide +kernel) rfl ⟨Nat.le_of_ble_eq_true rfl, Nat.le_of_ble_eq_true rfl⟩ ⟨Nat.le_of_ble_eq_true rfl, Nat.le_of_ble_eq_true rfl⟩ (Nat.le_of_ble_eq_true rfl) dX0_fibre_1 (kI (fun r1 σr1 H locs hp hG hS => ?_))
  obtain ⟨hr1, rfl⟩ := hp
  refine g_if_ne (tgt := 9) hx hb dX0_fibre_4 (by decide) (by omega) (fun cq2 => ?_) (fun cq2 => ?_)
  · refine lv_aload_n hx hb dX0_fibre_9 rfl (lv_at hl 0 rfl) ?_
    refine lv_iload_n hx hb dX0_fibre_10 rfl (lv_at hl 1 rfl) ?_
    refine g_callV (As := [.int (iI k)]) (rest := []) 1 hx hb hml hown hts hK hG hS hl.1 (mX0_gathers l X σ b U J R hX hT k (by omega)) hX.c0 rfl q648 q650 qs20 q69 q651 (by decide +kernel) rfl ⟨Nat.le_of_ble_eq_true rfl, Nat.le_of_ble_eq_true rfl⟩ ⟨Nat.le_of_ble_eq_true rfl, Nat.le_of_ble_eq_true rfl⟩ (Nat.le_of_ble_eq_true rfl) dX0_fibre_11 (kV (fun σr3 H locs hp hG hS => ?_))
    obtain ⟨U3, J3, hX3, kp3, hT3, hrel3⟩ := hp
    have hkp3 := hkp.tr kp3
    refine lv_aload_n hx hb dX0_fibre_14 rfl (lv_at hl 0 rfl) ?_
    refine lv_iload_n hx hb dX0_fibre_15 rfl (lv_at hl 2 rfl) ?_
    refine g_callV (As := [.int (iI i)]) (rest := []) 1 hx hb hml hown hts hK hG hS hl.1 (mX0_spotOf l X σr3 b U3 J3 R hX3 hT3 (fibL (U 20) k 1024) i hrel3.1 (by omega)) hX3.c0 rfl q667 q669 qs24 q69 q670 (by decide +kernel) rfl ⟨Nat.le_of_ble_eq_true rfl, Nat.le_of_ble_eq_true rfl⟩ ⟨Nat.le_of_ble_eq_true rfl, Nat.le_of_ble_eq_true rfl⟩ (Nat.le_of_ble_eq_true rfl) dX0_fibre_16 (kI (fun r4 σr4 H locs hp hG hS => ?_))
    obtain ⟨hr4, rfl⟩ := hp
    exact g_iret hx hb hr hlocks hQ hG hS (Nat.le_of_ble_eq_true rfl) (Nat.le_of_ble_eq_true rfl) ⟨_, rfl, U3, J3, hX3, hkp3, hT3, (⟨by rw [if_pos (by omega)]; exact hr4, hrel3.2⟩)⟩ dX0_fibre_19
  · refine g_iconst hx hb dX0_fibre_7 ?_
    exact g_iret hx hb hr hlocks hQ hG hS (Nat.zero_le _) (Nat.zero_le _) ⟨_, rfl, U, J, hX, hkp, hT, (⟨by rw [if_neg (by omega)], fun q h => rfl, fun q h => rfl⟩)⟩ dX0_fibre_8

set_option maxHeartbeats 4000000 in
theorem mX0_base (l : Launch) (X : gX) (σ : gS) (b : Nat → Nat) (U : Nat → Int → Int) (J : Nat → Int) (R : Int → Option Nat) (hX : XW X σ b U J R) (hT : okT (U 20)) (i : Int) (h0 : -2147483648 ≤ i ∧ i ≤ 2147483647) : gMet l X yX0_base cX0_base 2 (some .int) 7 1 2 3121 σ [.ref (b 0), .int (iI i)] (oI (fun r σ' => ∃ (U' : Nat → Int → Int) (J' : Nat → Int), XW X σ' b U' J' R ∧ gKeep (fun t => t = 1) σ σ' ∧ okT (U' 20) ∧ (r = nthL (fibL (U 20) (-6) 1024) i ∧ (∀ q, q ≠ 8 → U' q = U q) ∧ (∀ q, q ≠ 9 → J' q = J q)))) := by
  refine gMet.of (by decide) (Nat.le_of_ble_eq_true rfl) ?_
  intro pp ee ss mm args below meth cd Q H locs ls hargs hx hb hr hlocks hml hown hnm hts hK hG hS hQ hl
  have hown : ss.vm.findClass RX0 = some mm.cls := hown
  have hl : lv_has ls 2 [(0, .ref (b 0)), (1, .int (iI i))] := hl
  have hkp : gKeep (fun t => t = 1) σ σ := gKeep.rf
  refine lv_aload_n hx hb dX0_base_0 rfl (lv_at hl 0 rfl) ?_
  refine g_bipush hx hb dX0_base_1 (by decide) ?_
  refine g_callV (As := [.int (iI (-6))]) (rest := []) 1 hx hb hml hown hts hK hG hS hl.1 (mX0_gathers l X σ b U J R hX hT (-6) (by omega)) hX.c0 rfl q648 q650 qs20 q69 q651 (by decide +kernel) rfl ⟨Nat.le_of_ble_eq_true rfl, Nat.le_of_ble_eq_true rfl⟩ ⟨Nat.le_of_ble_eq_true rfl, Nat.le_of_ble_eq_true rfl⟩ (Nat.le_of_ble_eq_true rfl) dX0_base_3 (kV (fun σr1 H locs hp hG hS => ?_))
  obtain ⟨U1, J1, hX1, kp1, hT1, hrel1⟩ := hp
  have hkp1 := hkp.tr kp1
  refine lv_aload_n hx hb dX0_base_6 rfl (lv_at hl 0 rfl) ?_
  refine lv_iload_n hx hb dX0_base_7 rfl (lv_at hl 1 rfl) ?_
  refine g_callV (As := [.int (iI i)]) (rest := []) 1 hx hb hml hown hts hK hG hS hl.1 (mX0_spotOf l X σr1 b U1 J1 R hX1 hT1 (fibL (U 20) (-6) 1024) i hrel1.1 (by omega)) hX1.c0 rfl q667 q669 qs24 q69 q670 (by decide +kernel) rfl ⟨Nat.le_of_ble_eq_true rfl, Nat.le_of_ble_eq_true rfl⟩ ⟨Nat.le_of_ble_eq_true rfl, Nat.le_of_ble_eq_true rfl⟩ (Nat.le_of_ble_eq_true rfl) dX0_base_8 (kI (fun r2 σr2 H locs hp hG hS => ?_))
  obtain ⟨hr2, rfl⟩ := hp
  exact g_iret hx hb hr hlocks hQ hG hS (Nat.le_of_ble_eq_true rfl) (Nat.le_of_ble_eq_true rfl) ⟨_, rfl, U1, J1, hX1, hkp1, hT1, (⟨hr2, hrel1.2⟩)⟩ dX0_base_11
