set_option maxHeartbeats 4000000 in
theorem mX4_moves (l : Launch) (X : gX) (σ : gS) (o : Nat) (a : Nat → Nat) (V : Nat → Int → Int) (Iv : Nat → Int) (hM : MW X σ o a V Iv) (hT : okT (V 0)) (hS0 : okS (V 0))    : gMet l X yX4_moves cX4_moves 3 none 6 0 0 148 σ [.ref o] (oV (fun σ' => ∃ (V' : Nat → Int → Int) (I' : Nat → Int), MW X σ' o a V' I' ∧ gKeep (fun t => t = 10) σ σ' ∧ ((∀ q, q ≠ 21 → V' q = V q) ∧ (∀ q : Int, 0 ≤ q → q < 1024 → V' 21 q = mvA (V 0) (V 0) (V 0 18).toNat q) ∧ I' = Iv))) := by
  refine gMet.of (by decide) (Nat.le_of_ble_eq_true rfl) ?_
  intro pp ee ss mm args below meth cd Q H locs ls hargs hx hb hr hlocks hml hown hnm hts hK hG hS hQ hl
  have hown : ss.vm.findClass RX4 = some mm.cls := hown
  have hl : lv_has ls 3 [(0, .ref o)] := hl
  have hkp : gKeep (fun t => t = 10) σ σ := gKeep.rf
  have hn := hS0.1
  refine g_iconst hx hb dX4_moves_0 ?_
  refine lv_istore_n (lv' := [(1, .int (iI 0)), (0, .ref o)]) hx hb dX4_moves_1 rfl hl (by decide) rfl (fun ls hl => ?_)
  have loop_2 : ∀ (nF : Nat) (σL : gS) (VL : Nat → Int → Int) (s9 : Int), ((1024 - s9).toNat : Nat) < nF → (MW X σL o a VL Iv) → (gKeep (fun t => t = 10) σ σL) → (0 ≤ s9 ∧ s9 ≤ 1024) → (∀ q, q ≠ 21 → VL q = V q) → (∀ q : Int, 0 ≤ q → q < s9 → VL 21 q = 0) → ∀ (H : Heap) (locs : List Loc) (ls : Array Slot), gSat X σL H → va_S (gA X) ss.heap H locs → lv_has ls 3 [(1, .int (iI s9)), (0, .ref o)] → W pp l ee (gR 6 0 0 148) ss mm args below meth cd H locs 0 0 Q (F0 mm 2 ls []) := by
    intro nF
    induction nF with
    | zero => intro σL VL s9 hm; exact absurd hm (Nat.not_lt_zero _)
    | succ nF ih_2 =>
      intro σL VL s9 hm hML hkL hi2_2 hA h21 H locs ls hG hS hl
      refine lv_iload_n hx hb dX4_moves_2 rfl (lv_at hl 0 rfl) ?_
      refine g_sipush hx hb dX4_moves_3 (by decide) ?_
      refine g_icmp_ge (tgt := 22) hx hb dX4_moves_6 (by decide) (by omega) (by omega) (fun cq1 => ?_) (fun cq1 => ?_)
      · refine g_iconst hx hb dX4_moves_22 ?_
        refine lv_istore_n (lv' := [(1, .int (iI 0)), (0, .ref o)]) hx hb dX4_moves_23 rfl hl (by decide) rfl (fun ls hl => ?_)
        have loop_24 : ∀ (nF : Nat) (σM : gS) (VM : Nat → Int → Int) (k9 : Int), ((V 0 18 - k9).toNat : Nat) < nF → (MW X σM o a VM Iv) → (gKeep (fun t => t = 10) σ σM) → (0 ≤ k9 ∧ k9 ≤ V 0 18) → (∀ q, q ≠ 21 → VM q = V q) → (∀ q : Int, 0 ≤ q → q < 1024 → VM 21 q = mvA (V 0) (V 0) k9.toNat q) → ∀ (H : Heap) (locs : List Loc) (ls : Array Slot), gSat X σM H → va_S (gA X) ss.heap H locs → lv_has ls 3 [(1, .int (iI k9)), (0, .ref o)] → W pp l ee (gR 6 0 0 148) ss mm args below meth cd H locs 0 0 Q (F0 mm 24 ls []) := by
          intro nF
          induction nF with
          | zero => intro σM VM k9 hm; exact absurd hm (Nat.not_lt_zero _)
          | succ nF ih_24 =>
            intro σM VM k9 hm hMM hkM hi24_2 hAM hF H locs ls hG hS hl
            have hV0 : VM 0 = V 0 := hAM 0 (by decide)
            have hT0 : okT (VM 0) := by rw [hV0]; exact hT
            refine lv_iload_n hx hb dX4_moves_24 rfl (lv_at hl 0 rfl) ?_
            refine lv_aload_n hx hb dX4_moves_25 rfl (lv_at hl 1 rfl) ?_
            refine g_get (C := RX4) (T := TX4) (N := 30) (v := .ref (a 0)) hx hb hts hown hK hG hMM.o rfl in_X4 0 (by decide) q1958 rfl rfl dX4_moves_26 ?_
            refine g_bipush hx hb dX4_moves_29 (by decide) ?_
            refine g_iald hx hb hK hG hMM.a0 dX4_moves_31 (by omega) ?_
            refine g_rw (b := (V 0 18)) (by rw [hV0]) ?_
            refine g_icmp_ge (tgt := 69) hx hb dX4_moves_32 (by decide) (by omega) (by omega) (fun cq2 => ?_) (fun cq2 => ?_)
            · exact g_vret hx hb hr hlocks hQ hG hS (Nat.zero_le _) (Nat.zero_le _) ⟨rfl, VM, Iv, hMM, hkM, (⟨hAM, by rw [show (V 0 18).toNat = k9.toNat by omega]; exact hF, rfl⟩)⟩ dX4_moves_69
            · refine lv_aload_n hx hb dX4_moves_35 rfl (lv_at hl 1 rfl) ?_
              refine lv_aload_n hx hb dX4_moves_36 rfl (lv_at hl 1 rfl) ?_
              refine g_get (C := RX4) (T := TX4) (N := 30) (v := .ref (a 0)) hx hb hts hown hK hG hMM.o rfl in_X4 0 (by decide) q1958 rfl rfl dX4_moves_37 ?_
              refine g_bipush hx hb dX4_moves_40 (by decide) ?_
              refine lv_iload_n hx hb dX4_moves_42 rfl (lv_at hl 0 rfl) ?_
              refine g_iadd hx hb dX4_moves_43 ?_
              refine g_iald hx hb hK hG hMM.a0 dX4_moves_44 (by omega) ?_
              refine g_rw (b := (V 0 (19 + k9))) (by rw [hV0]) ?_
              have hsr := hS0.2.2 k9 (by omega) (by omega)
              refine g_iconst hx hb dX4_moves_45 ?_
              refine g_callV (As := [.int (iI (V 0 (19 + k9))), .int (iI 0)]) (rest := []) 2 hx hb hml hown hts hK hG hS hl.1 (mX4_step l X σM o a VM Iv hMM hT0 (V 0 (19 + k9)) 0 (by omega) (by omega)) hMM.o rfl q2134 q2136 qs51 q86 q2137 (by decide +kernel) rfl ⟨Nat.le_of_ble_eq_true rfl, Nat.le_of_ble_eq_true rfl⟩ ⟨Nat.le_of_ble_eq_true rfl, Nat.le_of_ble_eq_true rfl⟩ (Nat.le_of_ble_eq_true rfl) dX4_moves_46 (kI (fun r3 σr3 H locs hp hG hS => ?_))
              obtain ⟨⟨hr3, kr3⟩, rfl⟩ := hp
              have hst : r3 = stpZ (V 0) (V 0 (19 + k9)) 0 := by rw [hr3, hV0]
              refine lv_istore_n (lv' := [(2, .int (iI r3)), (1, .int (iI k9)), (0, .ref o)]) hx hb dX4_moves_49 rfl hl (by decide) rfl (fun ls hl => ?_)
              refine lv_iload_n hx hb dX4_moves_50 rfl (lv_at hl 0 rfl) ?_
              refine g_bipush hx hb dX4_moves_51 (by decide) ?_
              refine g_icmp_eq (tgt := 63) hx hb dX4_moves_53 (by decide) (by omega) (by omega) (fun cq4 => ?_) (fun cq4 => ?_)
              · refine g_iinc (lv' := [(1, .int (iI (k9 + 1))), (2, .int (iI r3)), (0, .ref o)]) hx hb dX4_moves_63 hl (k := 1) rfl (by decide) rfl (fun ls hl => ?_)
                refine lv_goto (tgt := 24) hx hb dX4_moves_66 (by decide) ?_
                exact ih_24 σM VM (k9 + 1) (by omega) (hMM) (hkM) (by omega) (hAM) (fun q h1 h2 => by rw [show (k9 + 1).toNat = k9.toNat + 1 by omega, mvA, show ((k9.toNat : Nat) : Int) = k9 by omega, ← hst, if_pos (by omega)]; exact hF q h1 h2)  _ _ _ hG hS (lv_sub hl [0, 2] rfl)
              · refine lv_aload_n hx hb dX4_moves_56 rfl (lv_at hl 2 rfl) ?_
                refine g_get (C := RX4) (T := TX4) (N := 30) (v := .ref (a 21)) hx hb hts hown hK hG hMM.o rfl in_X4 21 (by decide) q1979 rfl rfl dX4_moves_57 ?_
                refine lv_iload_n hx hb dX4_moves_60 rfl (lv_at hl 0 rfl) ?_
                refine g_iconst hx hb dX4_moves_61 ?_
                refine g_zast hx hb hK hG hS hMM.a21 dX4_moves_62 (by first | rfl | decide) (by omega) (fun H locs hG hS => ?_)
                obtain ⟨V5, eV5⟩ : ∃ J : Nat → Int → Int, J = va_up VM 21 (iup (VM 21) r3 1) := ⟨_, rfl⟩
                have v21_5 : V5 21 = (iup (VM 21) r3 1) := by rw [eV5, va_up_self]
                have fV5 : ∀ j, j ≠ 21 → V5 j = VM j := fun j hj => by rw [eV5, va_up_ne _ _ hj]
                have hM5 : MW X (gup σM (a 21) (10, gI (X.2.1 1) 1024 (iup (VM 21) r3 1))) o a V5 Iv := by rw [eV5]; exact hMM.set 21 rfl _
                have hkp5 : gKeep (fun t => t = 10) σ (gup σM (a 21) (10, gI (X.2.1 1) 1024 (iup (VM 21) r3 1))) := hkM.tr (gKeep.up hMM.a21 rfl)
                generalize (gup σM (a 21) (10, gI (X.2.1 1) 1024 (iup (VM 21) r3 1))) = σ5 at hG hM5 hkp5
                refine g_iinc (lv' := [(1, .int (iI (k9 + 1))), (2, .int (iI r3)), (0, .ref o)]) hx hb dX4_moves_63 hl (k := 1) rfl (by decide) rfl (fun ls hl => ?_)
                refine lv_goto (tgt := 24) hx hb dX4_moves_66 (by decide) ?_
                exact ih_24 σ5 V5 (k9 + 1) (by omega) (hM5) (hkp5) (by omega) (fun q h => (fV5 q h).trans (hAM q h)) (fun q h1 h2 => by rw [show (k9 + 1).toNat = k9.toNat + 1 by omega, mvA, show ((k9.toNat : Nat) : Int) = k9 by omega, ← hst, if_neg (by omega), v21_5]; by_cases hq : q = r3; (rw [hq, iup_s, iup_s]); (rw [iup_n hq, iup_n hq]; exact hF q h1 h2))  _ _ _ hG hS (lv_sub hl [0, 2] rfl)
        exact loop_24 _ σL VL 0 (Nat.lt_succ_self _) (hML) (hkL) (by omega) (hA) (fun q h1 h2 => by rw [h21 q h1 (by omega)]; rfl)  _ _ _ hG hS (lv_sub hl [0, 1] rfl)
      · refine lv_aload_n hx hb dX4_moves_9 rfl (lv_at hl 1 rfl) ?_
        refine g_get (C := RX4) (T := TX4) (N := 30) (v := .ref (a 21)) hx hb hts hown hK hG hML.o rfl in_X4 21 (by decide) q1979 rfl rfl dX4_moves_10 ?_
        refine lv_iload_n hx hb dX4_moves_13 rfl (lv_at hl 0 rfl) ?_
        refine g_iconst hx hb dX4_moves_14 ?_
        refine g_zast hx hb hK hG hS hML.a21 dX4_moves_15 (by first | rfl | decide) (by omega) (fun H locs hG hS => ?_)
        obtain ⟨V6, eV6⟩ : ∃ J : Nat → Int → Int, J = va_up VL 21 (iup (VL 21) s9 0) := ⟨_, rfl⟩
        have v21_6 : V6 21 = (iup (VL 21) s9 0) := by rw [eV6, va_up_self]
        have fV6 : ∀ j, j ≠ 21 → V6 j = VL j := fun j hj => by rw [eV6, va_up_ne _ _ hj]
        have hM6 : MW X (gup σL (a 21) (10, gI (X.2.1 1) 1024 (iup (VL 21) s9 0))) o a V6 Iv := by rw [eV6]; exact hML.set 21 rfl _
        have hkp6 : gKeep (fun t => t = 10) σ (gup σL (a 21) (10, gI (X.2.1 1) 1024 (iup (VL 21) s9 0))) := hkL.tr (gKeep.up hML.a21 rfl)
        generalize (gup σL (a 21) (10, gI (X.2.1 1) 1024 (iup (VL 21) s9 0))) = σ6 at hG hM6 hkp6
        refine g_iinc (lv' := [(1, .int (iI (s9 + 1))), (0, .ref o)]) hx hb dX4_moves_16 hl (k := 0) rfl (by decide) rfl (fun ls hl => ?_)
        refine lv_goto (tgt := 2) hx hb dX4_moves_19 (by decide) ?_
        exact ih_2 σ6 V6 (s9 + 1) (by omega) (hM6) (hkp6) (by omega) (fun q h => (fV6 q h).trans (hA q h)) (fun q h1 h2 => by rw [v21_6]; by_cases hq : q = s9; (rw [hq, iup_s]); (rw [iup_n hq]; exact h21 q h1 (by omega)))  _ _ _ hG hS (lv_sub hl [0, 1] rfl)
  exact loop_2 _ σ V 0 (Nat.lt_succ_self _) (hM) (hkp) (by omega) (fun q h => rfl) (fun q h1 h2 => by omega)  _ _ _ hG hS (lv_sub hl [0, 1] rfl)

set_option maxHeartbeats 4000000 in
theorem mX4_moved (l : Launch) (X : gX) (σ : gS) (o : Nat) (a : Nat → Nat) (V : Nat → Int → Int) (Iv : Nat → Int) (hM : MW X σ o a V Iv) (hT : okT (V 0)) (hS0 : okS (V 0)) (i : Int)  (h0 : -2147483648 ≤ i ∧ i ≤ 2147483647) : gMet l X yX4_moved cX4_moved 4 (some .int) 7 0 0 170 σ [.ref o, .int (iI i)] (oI (fun r σ' => ∃ (V' : Nat → Int → Int) (I' : Nat → Int), MW X σ' o a V' I' ∧ gKeep (fun t => t = 10) σ σ' ∧ (r = nthL (movZ (V 0) (V 0)) i ∧ (∀ q, q ≠ 21 → V' q = V q) ∧ I' = Iv))) := by
  refine gMet.of (by decide) (Nat.le_of_ble_eq_true rfl) ?_
  intro pp ee ss mm args below meth cd Q H locs ls hargs hx hb hr hlocks hml hown hnm hts hK hG hS hQ hl
  have hown : ss.vm.findClass RX4 = some mm.cls := hown
  have hl : lv_has ls 4 [(0, .ref o), (1, .int (iI i))] := hl
  have hkp : gKeep (fun t => t = 10) σ σ := gKeep.rf
  have hn := hS0.1
  refine lv_aload_n hx hb dX4_moved_0 rfl (lv_at hl 0 rfl) ?_
  refine g_callV (As := []) (rest := []) 0 hx hb hml hown hts hK hG hS hl.1 (mX4_moves l X σ o a V Iv hM hT hS0  ) hM.o rfl q2243 q2245 qs63 q86 q2246 (by decide +kernel) rfl ⟨Nat.le_of_ble_eq_true rfl, Nat.le_of_ble_eq_true rfl⟩ ⟨Nat.le_of_ble_eq_true rfl, Nat.le_of_ble_eq_true rfl⟩ (Nat.le_of_ble_eq_true rfl) dX4_moved_1 (kV (fun σr1 H locs hp hG hS => ?_))
  obtain ⟨V1, I1, hM1, kp1, hrel1⟩ := hp
  have hkp1 := hkp.tr kp1
  obtain ⟨F, hF0⟩ : ∃ z, z = mvA (V 0) (V 0) (V 0 18).toNat := ⟨_, rfl⟩
  have hF := hrel1.2.1
  rw [← hF0] at hF
  have hmz : movZ (V 0) (V 0) = flL F 1024 := by rw [hF0]; rfl
  have hFb : ∀ q, F q = 0 ∨ F q = 1 := fun q => by rw [hF0]; exact mvA_b _ _ _ q
  have hV0 : V1 0 = V 0 := hrel1.1 0 (by decide)
  have hFl : ∀ m, (flL F m).length ≤ (V 0 18).toNat := fun m => by rw [hF0]; exact mvA_len _ _ _ m
  refine g_iconst hx hb dX4_moved_4 ?_
  refine lv_istore_n (lv' := [(2, .int (iI 0)), (0, .ref o), (1, .int (iI i))]) hx hb dX4_moved_5 rfl hl (by decide) rfl (fun ls hl => ?_)
  refine g_iconst hx hb dX4_moved_6 ?_
  refine lv_istore_n (lv' := [(3, .int (iI 0)), (2, .int (iI 0)), (0, .ref o), (1, .int (iI i))]) hx hb dX4_moved_7 rfl hl (by decide) rfl (fun ls hl => ?_)
  have loop_8 : ∀ (nF : Nat) (m9 : Int) (sp : Int), ((1024 - sp).toNat : Nat) < nF → (0 ≤ sp ∧ sp ≤ 1024) → (m9 = ((flL F sp.toNat).length : Int)) → (0 ≤ i → m9 ≤ i) → ∀ (H : Heap) (locs : List Loc) (ls : Array Slot), gSat X σr1 H → va_S (gA X) ss.heap H locs → lv_has ls 4 [(3, .int (iI sp)), (2, .int (iI m9)), (0, .ref o), (1, .int (iI i))] → W pp l ee (gR 7 0 0 170) ss mm args below meth cd H locs 0 0 Q (F0 mm 8 ls []) := by
    intro nF
    induction nF with
    | zero => intro m9 sp hm; exact absurd hm (Nat.not_lt_zero _)
    | succ nF ih_8 =>
      intro m9 sp hm hi8_0 hm hno H locs ls hG hS hl
      have hlen := flL_len F sp.toNat
      refine lv_iload_n hx hb dX4_moved_8 rfl (lv_at hl 0 rfl) ?_
      refine g_sipush hx hb dX4_moved_9 (by decide) ?_
      refine g_icmp_ge (tgt := 40) hx hb dX4_moved_12 (by decide) (by omega) (by omega) (fun cq2 => ?_) (fun cq2 => ?_)
      · refine lv_iload_n hx hb dX4_moved_40 rfl (lv_at hl 3 rfl) ?_
        refine g_iconst hx hb dX4_moved_41 ?_
        refine g_icmp_ne (tgt := 49) hx hb dX4_moved_42 (by decide) (by omega) (by omega) (fun cq3 => ?_) (fun cq3 => ?_)
        · refine g_bipush hx hb dX4_moved_49 (by decide) ?_
          exact g_iret hx hb hr hlocks hQ hG hS (Nat.zero_le _) (Nat.zero_le _) ⟨_, rfl, V1, I1, hM1, hkp1, (⟨by rw [hmz]; unfold nthL; rw [if_neg (by omega), if_neg (by intro hq; rw [show (1024 : Nat) = sp.toNat by omega] at hq; omega)], fun q h => hrel1.1 q h, hrel1.2.2⟩)⟩ dX4_moved_51
        · refine lv_iload_n hx hb dX4_moved_45 rfl (lv_at hl 1 rfl) ?_
          refine lv_goto (tgt := 51) hx hb dX4_moved_46 (by decide) ?_
          exact g_iret hx hb hr hlocks hQ hG hS (Nat.zero_le _) (Nat.zero_le _) ⟨_, rfl, V1, I1, hM1, hkp1, (⟨by rw [hmz, show i = -1 by omega]; unfold nthL; rw [if_pos rfl, hm, show sp.toNat = 1024 by omega], fun q h => hrel1.1 q h, hrel1.2.2⟩)⟩ dX4_moved_51
      · refine lv_aload_n hx hb dX4_moved_15 rfl (lv_at hl 2 rfl) ?_
        refine g_get (C := RX4) (T := TX4) (N := 30) (v := .ref (a 21)) hx hb hts hown hK hG hM1.o rfl in_X4 21 (by decide) q1979 rfl rfl dX4_moved_16 ?_
        refine lv_iload_n hx hb dX4_moved_19 rfl (lv_at hl 0 rfl) ?_
        refine g_zald hx hb hK hG hM1.a21 dX4_moved_20 (by omega) ?_
        refine g_rw (b := (F sp)) (hF sp (by omega) (by omega)) ?_
        have hb4 := hFb sp
        refine g_if_eq (tgt := 34) hx hb dX4_moved_21 (by decide) (by omega) (fun cq5 => ?_) (fun cq5 => ?_)
        · refine g_iinc (lv' := [(3, .int (iI (sp + 1))), (2, .int (iI m9)), (0, .ref o), (1, .int (iI i))]) hx hb dX4_moved_34 hl (k := 0) rfl (by decide) rfl (fun ls hl => ?_)
          refine lv_goto (tgt := 8) hx hb dX4_moved_37 (by decide) ?_
          exact ih_8 m9 (sp + 1) (by omega) (by omega) (by rw [show (sp + 1).toNat = sp.toNat + 1 by omega, flL_n (x := sp) (by omega) (by omega)]; exact hm) (hno)  _ _ _ hG hS (lv_sub hl [0, 1, 2, 3] rfl)
        · refine lv_iload_n hx hb dX4_moved_24 rfl (lv_at hl 1 rfl) ?_
          refine lv_iload_n hx hb dX4_moved_25 rfl (lv_at hl 3 rfl) ?_
          refine g_icmp_ne (tgt := 31) hx hb dX4_moved_26 (by decide) (by omega) (by omega) (fun cq6 => ?_) (fun cq6 => ?_)
          · refine g_iinc (lv' := [(2, .int (iI (m9 + 1))), (3, .int (iI sp)), (0, .ref o), (1, .int (iI i))]) hx hb dX4_moved_31 hl (k := 1) rfl (by decide) rfl (fun ls hl => ?_)
            refine g_iinc (lv' := [(3, .int (iI (sp + 1))), (2, .int (iI (m9 + 1))), (0, .ref o), (1, .int (iI i))]) hx hb dX4_moved_34 hl (k := 1) rfl (by decide) rfl (fun ls hl => ?_)
            refine lv_goto (tgt := 8) hx hb dX4_moved_37 (by decide) ?_
            exact ih_8 (m9 + 1) (sp + 1) (by omega) (by omega) (by rw [show (sp + 1).toNat = sp.toNat + 1 by omega, flL_y (x := sp) (by omega) (by omega), List.length_append, hm]; simp) (fun h => by omega)  _ _ _ hG hS (lv_sub hl [0, 1, 2, 3] rfl)
          · refine lv_iload_n hx hb dX4_moved_29 rfl (lv_at hl 0 rfl) ?_
            exact g_iret hx hb hr hlocks hQ hG hS (Nat.zero_le _) (Nat.zero_le _) ⟨_, rfl, V1, I1, hM1, hkp1, (⟨by
                      have e1 := flL_y (F := F) (n := sp.toNat) (x := sp) (by omega) (by omega)
                      have e2 := flL_pre F (n := sp.toNat + 1) (m := 1024) (by omega)
                      rw [e1] at e2
                      rw [hmz, nthL_pre e2 (by rw [← hm]; omega)], fun q h => hrel1.1 q h, hrel1.2.2⟩)⟩ dX4_moved_30
  exact loop_8 _ 0 0 (Nat.lt_succ_self _) (by omega) (rfl) (fun h => h)  _ _ _ hG hS (lv_sub hl [0, 1, 2, 3] rfl)

set_option maxHeartbeats 4000000 in
theorem mX4_move (l : Launch) (X : gX) (σ : gS) (o : Nat) (a : Nat → Nat) (V : Nat → Int → Int) (Iv : Nat → Int) (hM : MW X σ o a V Iv) (hT : okT (V 0)) (hS0 : okS (V 0))    : gMet l X yX4_move cX4_move 2 (some .int) 7 0 0 170 σ [.ref o] (oI (fun r σ' => ∃ (V' : Nat → Int → Int) (I' : Nat → Int), MW X σ' o a V' I' ∧ gKeep (fun t => t = 10) σ σ' ∧ (r = ((movZ (V 0) (V 0)).length : Int) ∧ (movZ (V 0) (V 0)).length ≤ 12 ∧ (∀ q, q ≠ 0 → q ≠ 21 → V' q = V q) ∧ (∀ q : Int, q < 18 ∨ 31 ≤ q → V' 0 q = V 0 q) ∧ V' 0 18 = ((movZ (V 0) (V 0)).length : Int) ∧ (∀ j : Nat, j < (movZ (V 0) (V 0)).length → V' 0 (19 + (j : Int)) = (movZ (V 0) (V 0)).getD j 0) ∧ I' = Iv))) := by
  refine gMet.of (by decide) (Nat.le_of_ble_eq_true rfl) ?_
  intro pp ee ss mm args below meth cd Q H locs ls hargs hx hb hr hlocks hml hown hnm hts hK hG hS hQ hl
  have hown : ss.vm.findClass RX4 = some mm.cls := hown
  have hl : lv_has ls 2 [(0, .ref o)] := hl
  have hkp : gKeep (fun t => t = 10) σ σ := gKeep.rf
  have hn := hS0.1
  refine lv_aload_n hx hb dX4_move_0 rfl (lv_at hl 0 rfl) ?_
  refine g_callV (As := []) (rest := []) 0 hx hb hml hown hts hK hG hS hl.1 (mX4_moves l X σ o a V Iv hM hT hS0  ) hM.o rfl q2243 q2245 qs63 q86 q2246 (by decide +kernel) rfl ⟨Nat.le_of_ble_eq_true rfl, Nat.le_of_ble_eq_true rfl⟩ ⟨Nat.le_of_ble_eq_true rfl, Nat.le_of_ble_eq_true rfl⟩ (Nat.le_of_ble_eq_true rfl) dX4_move_1 (kV (fun σr1 H locs hp hG hS => ?_))
  obtain ⟨V1, I1, hM1, kp1, hrel1⟩ := hp
  have hkp1 := hkp.tr kp1
  obtain ⟨F, hF0⟩ : ∃ z, z = mvA (V 0) (V 0) (V 0 18).toNat := ⟨_, rfl⟩
  have hF := hrel1.2.1
  rw [← hF0] at hF
  have hmz : movZ (V 0) (V 0) = flL F 1024 := by rw [hF0]; rfl
  have hFb : ∀ q, F q = 0 ∨ F q = 1 := fun q => by rw [hF0]; exact mvA_b _ _ _ q
  have hV0 : V1 0 = V 0 := hrel1.1 0 (by decide)
  have hFl : ∀ m, (flL F m).length ≤ (V 0 18).toNat := fun m => by rw [hF0]; exact mvA_len _ _ _ m
  obtain ⟨V21, hV21⟩ : ∃ z, z = V1 21 := ⟨_, rfl⟩
  rw [← hV21] at hF
  refine g_iconst hx hb dX4_move_4 ?_
  refine lv_istore_n (lv' := [(1, .int (iI 0)), (0, .ref o)]) hx hb dX4_move_5 rfl hl (by decide) rfl (fun ls hl => ?_)
  have loop_6 : ∀ (nF : Nat) (σL : gS) (VL : Nat → Int → Int) (k9 : Int), ((12 - k9).toNat : Nat) < nF → (MW X σL o a VL I1) → (gKeep (fun t => t = 10) σ σL) → (0 ≤ k9 ∧ k9 ≤ 12) → (∀ q, q ≠ 0 → q ≠ 21 → VL q = V q) → (VL 21 = V21) → (∀ q : Int, q < 19 ∨ 31 ≤ q → VL 0 q = V 0 q) → (∀ q : Int, 0 ≤ q → q < k9 → VL 0 (19 + q) = 0) → ∀ (H : Heap) (locs : List Loc) (ls : Array Slot), gSat X σL H → va_S (gA X) ss.heap H locs → lv_has ls 2 [(1, .int (iI k9)), (0, .ref o)] → W pp l ee (gR 7 0 0 170) ss mm args below meth cd H locs 0 0 Q (F0 mm 6 ls []) := by
    intro nF
    induction nF with
    | zero => intro σL VL k9 hm; exact absurd hm (Nat.not_lt_zero _)
    | succ nF ih_6 =>
      intro σL VL k9 hm hML hkL hi6_2 hA hFL hB hZ H locs ls hG hS hl
      refine lv_iload_n hx hb dX4_move_6 rfl (lv_at hl 0 rfl) ?_
      refine g_bipush hx hb dX4_move_7 (by decide) ?_
      refine g_icmp_ge (tgt := 28) hx hb dX4_move_9 (by decide) (by omega) (by omega) (fun cq2 => ?_) (fun cq2 => ?_)
      · refine lv_aload_n hx hb dX4_move_28 rfl (lv_at hl 1 rfl) ?_
        refine g_get (C := RX4) (T := TX4) (N := 30) (v := .ref (a 0)) hx hb hts hown hK hG hML.o rfl in_X4 0 (by decide) q1958 rfl rfl dX4_move_29 ?_
        refine g_bipush hx hb dX4_move_32 (by decide) ?_
        refine g_iconst hx hb dX4_move_34 ?_
        refine g_iast hx hb hK hG hS hML.a0 dX4_move_35 (by omega) (fun H locs hG hS => ?_)
        obtain ⟨V3, eV3⟩ : ∃ J : Nat → Int → Int, J = va_up VL 0 (iup (VL 0) 18 0) := ⟨_, rfl⟩
        have v0_3 : V3 0 = (iup (VL 0) 18 0) := by rw [eV3, va_up_self]
        have fV3 : ∀ j, j ≠ 0 → V3 j = VL j := fun j hj => by rw [eV3, va_up_ne _ _ hj]
        have hM3 : MW X (gup σL (a 0) (10, gI (X.2.1 0) 48 (iup (VL 0) 18 0))) o a V3 I1 := by rw [eV3]; exact hML.set 0 rfl _
        have hkp3 : gKeep (fun t => t = 10) σ (gup σL (a 0) (10, gI (X.2.1 0) 48 (iup (VL 0) 18 0))) := hkL.tr (gKeep.up hML.a0 rfl)
        generalize (gup σL (a 0) (10, gI (X.2.1 0) 48 (iup (VL 0) 18 0))) = σ3 at hG hM3 hkp3
        refine g_iconst hx hb dX4_move_36 ?_
        refine lv_istore_n (lv' := [(1, .int (iI 0)), (0, .ref o)]) hx hb dX4_move_37 rfl hl (by decide) rfl (fun ls hl => ?_)
        have loop_38 : ∀ (nF : Nat) (σM : gS) (VM : Nat → Int → Int) (sp : Int), ((1024 - sp).toNat : Nat) < nF → (MW X σM o a VM I1) → (gKeep (fun t => t = 10) σ σM) → (0 ≤ sp ∧ sp ≤ 1024) → (∀ q, q ≠ 0 → q ≠ 21 → VM q = V q) → (VM 21 = V21) → (∀ q : Int, q < 18 ∨ 31 ≤ q → VM 0 q = V 0 q) → (VM 0 18 = ((flL F sp.toNat).length : Int)) → (∀ j : Nat, j < (flL F sp.toNat).length → VM 0 (19 + (j : Int)) = (flL F sp.toNat).getD j 0) → (∀ q : Int, ((flL F sp.toNat).length : Int) ≤ q → q < 12 → VM 0 (19 + q) = 0) → ∀ (H : Heap) (locs : List Loc) (ls : Array Slot), gSat X σM H → va_S (gA X) ss.heap H locs → lv_has ls 2 [(1, .int (iI sp)), (0, .ref o)] → W pp l ee (gR 7 0 0 170) ss mm args below meth cd H locs 0 0 Q (F0 mm 38 ls []) := by
          intro nF
          induction nF with
          | zero => intro σM VM sp hm; exact absurd hm (Nat.not_lt_zero _)
          | succ nF ih_38 =>
            intro σM VM sp hm hMM hkM hi38_2 hAM hFM hBM hm hL hZM H locs ls hG hS hl
            have hlen := hFl sp.toNat
            have hm0 := hm
            refine lv_iload_n hx hb dX4_move_38 rfl (lv_at hl 0 rfl) ?_
            refine g_sipush hx hb dX4_move_39 (by decide) ?_
            refine g_icmp_ge (tgt := 87) hx hb dX4_move_42 (by decide) (by omega) (by omega) (fun cq4 => ?_) (fun cq4 => ?_)
            · refine lv_aload_n hx hb dX4_move_87 rfl (lv_at hl 1 rfl) ?_
              refine g_get (C := RX4) (T := TX4) (N := 30) (v := .ref (a 0)) hx hb hts hown hK hG hMM.o rfl in_X4 0 (by decide) q1958 rfl rfl dX4_move_88 ?_
              refine g_bipush hx hb dX4_move_91 (by decide) ?_
              refine g_iald hx hb hK hG hMM.a0 dX4_move_93 (by omega) ?_
              exact g_iret hx hb hr hlocks hQ hG hS (Nat.zero_le _) (Nat.zero_le _) ⟨_, rfl, VM, I1, hMM, hkM, (by rw [hmz, show 1024 = sp.toNat by omega]; exact ⟨hm, by omega, hAM, hBM, hm, hL, hrel1.2.2⟩)⟩ dX4_move_94
            · refine lv_aload_n hx hb dX4_move_45 rfl (lv_at hl 1 rfl) ?_
              refine g_get (C := RX4) (T := TX4) (N := 30) (v := .ref (a 21)) hx hb hts hown hK hG hMM.o rfl in_X4 21 (by decide) q1979 rfl rfl dX4_move_46 ?_
              refine lv_iload_n hx hb dX4_move_49 rfl (lv_at hl 0 rfl) ?_
              refine g_zald hx hb hK hG hMM.a21 dX4_move_50 (by omega) ?_
              refine g_rw (b := (F sp)) (by rw [hFM]; exact hF sp (by omega) (by omega)) ?_
              have hb5 := hFb sp
              refine g_if_eq (tgt := 81) hx hb dX4_move_51 (by decide) (by omega) (fun cq6 => ?_) (fun cq6 => ?_)
              · refine g_iinc (lv' := [(1, .int (iI (sp + 1))), (0, .ref o)]) hx hb dX4_move_81 hl (k := 0) rfl (by decide) rfl (fun ls hl => ?_)
                refine lv_goto (tgt := 38) hx hb dX4_move_84 (by decide) ?_
                exact ih_38 σM VM (sp + 1) (by omega) (hMM) (hkM) (by omega) (hAM) (hFM) (hBM) (by rw [show (sp + 1).toNat = sp.toNat + 1 by omega, flL_n (x := sp) (by omega) (by omega)]; exact hm) (by rw [show (sp + 1).toNat = sp.toNat + 1 by omega, flL_n (x := sp) (by omega) (by omega)]; exact hL) (by rw [show (sp + 1).toNat = sp.toNat + 1 by omega, flL_n (x := sp) (by omega) (by omega)]; exact hZM)  _ _ _ hG hS (lv_sub hl [0, 1] rfl)
              · refine lv_aload_n hx hb dX4_move_54 rfl (lv_at hl 1 rfl) ?_
                refine g_get (C := RX4) (T := TX4) (N := 30) (v := .ref (a 0)) hx hb hts hown hK hG hMM.o rfl in_X4 0 (by decide) q1958 rfl rfl dX4_move_55 ?_
                refine g_bipush hx hb dX4_move_58 (by decide) ?_
                refine lv_aload_n hx hb dX4_move_60 rfl (lv_at hl 1 rfl) ?_
                refine g_get (C := RX4) (T := TX4) (N := 30) (v := .ref (a 0)) hx hb hts hown hK hG hMM.o rfl in_X4 0 (by decide) q1958 rfl rfl dX4_move_61 ?_
                refine g_bipush hx hb dX4_move_64 (by decide) ?_
                refine g_iald hx hb hK hG hMM.a0 dX4_move_66 (by omega) ?_
                refine g_iadd hx hb dX4_move_67 ?_
                refine lv_iload_n hx hb dX4_move_68 rfl (lv_at hl 0 rfl) ?_
                refine g_iast hx hb hK hG hS hMM.a0 dX4_move_69 (by omega) (fun H locs hG hS => ?_)
                obtain ⟨V7, eV7⟩ : ∃ J : Nat → Int → Int, J = va_up VM 0 (iup (VM 0) (19 + ((VM 0) 18)) sp) := ⟨_, rfl⟩
                have v0_7 : V7 0 = (iup (VM 0) (19 + ((VM 0) 18)) sp) := by rw [eV7, va_up_self]
                have fV7 : ∀ j, j ≠ 0 → V7 j = VM j := fun j hj => by rw [eV7, va_up_ne _ _ hj]
                have hM7 : MW X (gup σM (a 0) (10, gI (X.2.1 0) 48 (iup (VM 0) (19 + ((VM 0) 18)) sp))) o a V7 I1 := by rw [eV7]; exact hMM.set 0 rfl _
                have hkp7 : gKeep (fun t => t = 10) σ (gup σM (a 0) (10, gI (X.2.1 0) 48 (iup (VM 0) (19 + ((VM 0) 18)) sp))) := hkM.tr (gKeep.up hMM.a0 rfl)
                generalize (gup σM (a 0) (10, gI (X.2.1 0) 48 (iup (VM 0) (19 + ((VM 0) 18)) sp))) = σ7 at hG hM7 hkp7
                have hlen2 : ((flL F (sp.toNat + 1)).length : Int) ≤ V 0 18 := by have := hFl (sp.toNat + 1); omega
                rw [flL_y (x := sp) (by omega) (by omega), List.length_append] at hlen2
                have hlen2 : (((flL F sp.toNat).length + 1 : Nat) : Int) ≤ V 0 18 := hlen2
                refine lv_aload_n hx hb dX4_move_70 rfl (lv_at hl 1 rfl) ?_
                refine g_get (C := RX4) (T := TX4) (N := 30) (v := .ref (a 0)) hx hb hts hown hK hG hM7.o rfl in_X4 0 (by decide) q1958 rfl rfl dX4_move_71 ?_
                refine g_bipush hx hb dX4_move_74 (by decide) ?_
                refine lv_dup2_11 hx hb dX4_move_76 rfl rfl ?_
                refine g_iald hx hb hK hG hM7.a0 dX4_move_77 (by omega) ?_
                refine g_rw (b := (VM 0 18)) (by rw [v0_7, iup_n (by omega)]) ?_
                refine g_iconst hx hb dX4_move_78 ?_
                refine g_iadd hx hb dX4_move_79 ?_
                refine g_iast hx hb hK hG hS hM7.a0 dX4_move_80 (by omega) (fun H locs hG hS => ?_)
                obtain ⟨V8, eV8⟩ : ∃ J : Nat → Int → Int, J = va_up V7 0 (iup (V7 0) 18 ((VM 0 18) + 1)) := ⟨_, rfl⟩
                have v0_8 : V8 0 = (iup (V7 0) 18 ((VM 0 18) + 1)) := by rw [eV8, va_up_self]
                have fV8 : ∀ j, j ≠ 0 → V8 j = V7 j := fun j hj => by rw [eV8, va_up_ne _ _ hj]
                have hM8 : MW X (gup σ7 (a 0) (10, gI (X.2.1 0) 48 (iup (V7 0) 18 ((VM 0 18) + 1)))) o a V8 I1 := by rw [eV8]; exact hM7.set 0 rfl _
                have hkp8 : gKeep (fun t => t = 10) σ (gup σ7 (a 0) (10, gI (X.2.1 0) 48 (iup (V7 0) 18 ((VM 0 18) + 1)))) := hkp7.tr (gKeep.up hM7.a0 rfl)
                generalize (gup σ7 (a 0) (10, gI (X.2.1 0) 48 (iup (V7 0) 18 ((VM 0 18) + 1)))) = σ8 at hG hM8 hkp8
                have h2ne : ∀ q, q ≠ 0 → V8 q = VM q := fun q h => (fV8 q h).trans (fV7 q h)
                have h2m : V8 0 18 = VM 0 18 + 1 := by rw [v0_8, iup_s]
                have h2s : V8 0 (19 + VM 0 18) = sp := by rw [v0_8, iup_n (by omega), v0_7, iup_s]
                have h2o : ∀ q : Int, q ≠ 18 → q ≠ 19 + VM 0 18 → V8 0 q = VM 0 q := fun q h1 h2 => by rw [v0_8, iup_n h1, v0_7, iup_n h2]
                refine g_iinc (lv' := [(1, .int (iI (sp + 1))), (0, .ref o)]) hx hb dX4_move_81 hl (k := 0) rfl (by decide) rfl (fun ls hl => ?_)
                refine lv_goto (tgt := 38) hx hb dX4_move_84 (by decide) ?_
                exact ih_38 σ8 V8 (sp + 1) (by omega) (hM8) (hkp8) (by omega) (fun q h1 h2 => (h2ne q h1).trans (hAM q h1 h2)) ((h2ne 21 (by decide)).trans hFM) (fun q h => (h2o q (by omega) (by omega)).trans (hBM q h)) (by rw [show (sp + 1).toNat = sp.toNat + 1 by omega, flL_y (x := sp) (by omega) (by omega), List.length_append, h2m, hm]; simp) (by
                          rw [show (sp + 1).toNat = sp.toNat + 1 by omega, flL_y (x := sp) (by omega) (by omega)]
                          intro j hj
                          rw [List.length_append] at hj
                          have hj : j < (flL F sp.toNat).length + 1 := hj
                          simp only [List.getD_eq_getElem?_getD]
                          by_cases e : j = (flL F sp.toNat).length
                          · rw [e, ← hm, h2s]; simp
                          · rw [h2o _ (by omega) (by omega), hL j (by omega), List.getElem?_append_left (by omega)]
                            simp only [List.getD_eq_getElem?_getD]) (by
                          rw [show (sp + 1).toNat = sp.toNat + 1 by omega, flL_y (x := sp) (by omega) (by omega)]
                          intro q h1 h2
                          rw [List.length_append] at h1
                          have h1 : (((flL F sp.toNat).length + 1 : Nat) : Int) ≤ q := h1
                          rw [h2o _ (by omega) (by omega)]
                          exact hZM q (by omega) h2)  _ _ _ hG hS (lv_sub hl [0, 1] rfl)
        exact loop_38 _ σ3 V3 0 (Nat.lt_succ_self _) (hM3) (hkp3) (by omega) (fun q h1 h2 => (fV3 q h1).trans (hA q h1 h2)) ((fV3 21 (by decide)).trans hFL) (fun q h => by rw [v0_3, iup_n (by omega)]; exact hB q (by omega)) (by rw [v0_3, iup_s]; rfl) (fun j h => absurd h (Nat.not_lt_zero _)) (fun q h1 h2 => by rw [v0_3, iup_n (by have h1 : (0 : Int) ≤ q := h1; omega)]; exact hZ q h1 (by omega))  _ _ _ hG hS (lv_sub hl [0, 1] rfl)
      · refine lv_aload_n hx hb dX4_move_12 rfl (lv_at hl 1 rfl) ?_
        refine g_get (C := RX4) (T := TX4) (N := 30) (v := .ref (a 0)) hx hb hts hown hK hG hML.o rfl in_X4 0 (by decide) q1958 rfl rfl dX4_move_13 ?_
        refine g_bipush hx hb dX4_move_16 (by decide) ?_
        refine lv_iload_n hx hb dX4_move_18 rfl (lv_at hl 0 rfl) ?_
        refine g_iadd hx hb dX4_move_19 ?_
        refine g_iconst hx hb dX4_move_20 ?_
        refine g_iast hx hb hK hG hS hML.a0 dX4_move_21 (by omega) (fun H locs hG hS => ?_)
        obtain ⟨V9, eV9⟩ : ∃ J : Nat → Int → Int, J = va_up VL 0 (iup (VL 0) (19 + k9) 0) := ⟨_, rfl⟩
        have v0_9 : V9 0 = (iup (VL 0) (19 + k9) 0) := by rw [eV9, va_up_self]
        have fV9 : ∀ j, j ≠ 0 → V9 j = VL j := fun j hj => by rw [eV9, va_up_ne _ _ hj]
        have hM9 : MW X (gup σL (a 0) (10, gI (X.2.1 0) 48 (iup (VL 0) (19 + k9) 0))) o a V9 I1 := by rw [eV9]; exact hML.set 0 rfl _
        have hkp9 : gKeep (fun t => t = 10) σ (gup σL (a 0) (10, gI (X.2.1 0) 48 (iup (VL 0) (19 + k9) 0))) := hkL.tr (gKeep.up hML.a0 rfl)
        generalize (gup σL (a 0) (10, gI (X.2.1 0) 48 (iup (VL 0) (19 + k9) 0))) = σ9 at hG hM9 hkp9
        refine g_iinc (lv' := [(1, .int (iI (k9 + 1))), (0, .ref o)]) hx hb dX4_move_22 hl (k := 0) rfl (by decide) rfl (fun ls hl => ?_)
        refine lv_goto (tgt := 6) hx hb dX4_move_25 (by decide) ?_
        exact ih_6 σ9 V9 (k9 + 1) (by omega) (hM9) (hkp9) (by omega) (fun q h1 h2 => (fV9 q h1).trans (hA q h1 h2)) ((fV9 21 (by decide)).trans hFL) (fun q h => by rw [v0_9, iup_n (by omega)]; exact hB q h) (fun q h1 h2 => by rw [v0_9]; by_cases hq : q = k9; (rw [hq, iup_s]); (rw [iup_n (by omega)]; exact hZ q h1 (by omega)))  _ _ _ hG hS (lv_sub hl [0, 1] rfl)
  exact loop_6 _ σr1 V1 0 (Nat.lt_succ_self _) (hM1) (hkp1) (by omega) (fun q h1 h2 => hrel1.1 q h2) (hV21.symm) (fun q h => by rw [hV0]) (fun q h1 h2 => by omega)  _ _ _ hG hS (lv_sub hl [0, 1] rfl)

set_option maxHeartbeats 4000000 in
theorem mX4_grows (l : Launch) (X : gX) (σ : gS) (o : Nat) (a : Nat → Nat) (V : Nat → Int → Int) (Iv : Nat → Int) (hM : MW X σ o a V Iv) (hT : okT (V 0)) (hS0 : okS (V 0)) (n : Int)  (h0 : -2147483648 ≤ n ∧ n ≤ 2147483647) : gMet l X yX4_grows cX4_grows 8 (some .int) 6 0 0 148 σ [.ref o, .int (iI n)] (oI (fun r σ' => ∃ (V' : Nat → Int → Int) (I' : Nat → Int), MW X σ' o a V' I' ∧ gKeep (fun t => t = 10) σ σ' ∧ (r = grZ (V 0) (V 0) n ∧ (∀ q, q ≠ 5 → q ≠ 21 → V' q = V q) ∧ I' = Iv))) := by
  refine gMet.of (by decide) (Nat.le_of_ble_eq_true rfl) ?_
  intro pp ee ss mm args below meth cd Q H locs ls hargs hx hb hr hlocks hml hown hnm hts hK hG hS hQ hl
  have hown : ss.vm.findClass RX4 = some mm.cls := hown
  have hl : lv_has ls 8 [(0, .ref o), (1, .int (iI n))] := hl
  have hkp : gKeep (fun t => t = 10) σ σ := gKeep.rf
  have hn := hS0.1
  refine lv_iload_n hx hb dX4_grows_0 rfl (lv_at hl 1 rfl) ?_
  refine g_i2l hx hb dX4_grows_1 (by omega) ?_
  refine lv_lconst (v := lI 0) hx hb dX4_grows_2 (by decide) ?_
  refine g_ldc2 hx hb (40) hown (hts _ q2255) (by decide) dX4_grows_3 ?_
  refine g_callS (As := [.long (lI n), .long (lI 0), .long (lI (40))]) (rest := []) 3 hx hb hml hown hts hK hG hS hl.1 (mX4_in l X σ  n 0 (40) (by omega) (by omega) (by omega)) q2056 q2057 q86 q2058 (by decide +kernel) rfl ⟨Nat.le_of_ble_eq_true rfl, Nat.le_of_ble_eq_true rfl⟩ ⟨Nat.le_of_ble_eq_true rfl, Nat.le_of_ble_eq_true rfl⟩ (Nat.le_of_ble_eq_true rfl) dX4_grows_6 (kI (fun r1 σr1 H locs hp hG hS => ?_))
  obtain ⟨hr1, rfl⟩ := hp
  refine g_if_ne (tgt := 15) hx hb dX4_grows_9 (by decide) (by omega) (fun cq2 => ?_) (fun cq2 => ?_)
  · refine g_iconst hx hb dX4_grows_15 ?_
    refine lv_istore_n (lv' := [(2, .int (iI 0)), (0, .ref o), (1, .int (iI n))]) hx hb dX4_grows_16 rfl hl (by decide) rfl (fun ls hl => ?_)
    have loop_17 : ∀ (nF : Nat) (σL : gS) (VL : Nat → Int → Int) (s9 : Int), ((1024 - s9).toNat : Nat) < nF → (MW X σL o a VL Iv) → (gKeep (fun t => t = 10) σ σL) → (0 ≤ s9 ∧ s9 ≤ 1024) → (∀ q, q ≠ 21 → VL q = V q) → (∀ q : Int, 0 ≤ q → q < s9 → VL 21 q = 0) → ∀ (H : Heap) (locs : List Loc) (ls : Array Slot), gSat X σL H → va_S (gA X) ss.heap H locs → lv_has ls 8 [(2, .int (iI s9)), (0, .ref o), (1, .int (iI n))] → W pp l ee (gR 6 0 0 148) ss mm args below meth cd H locs 0 0 Q (F0 mm 17 ls []) := by
      intro nF
      induction nF with
      | zero => intro σL VL s9 hm; exact absurd hm (Nat.not_lt_zero _)
      | succ nF ih_17 =>
        intro σL VL s9 hm hML hkL hi17_2 hA h21 H locs ls hG hS hl
        refine lv_iload_n hx hb dX4_grows_17 rfl (lv_at hl 0 rfl) ?_
        refine g_sipush hx hb dX4_grows_18 (by decide) ?_
        refine g_icmp_ge (tgt := 37) hx hb dX4_grows_21 (by decide) (by omega) (by omega) (fun cq3 => ?_) (fun cq3 => ?_)
        · refine g_iconst hx hb dX4_grows_37 ?_
          refine lv_istore_n (lv' := [(2, .int (iI 0)), (0, .ref o), (1, .int (iI n))]) hx hb dX4_grows_38 rfl hl (by decide) rfl (fun ls hl => ?_)
          refine g_iconst hx hb dX4_grows_39 ?_
          refine lv_istore_n (lv' := [(3, .int (iI 0)), (2, .int (iI 0)), (0, .ref o), (1, .int (iI n))]) hx hb dX4_grows_40 rfl hl (by decide) rfl (fun ls hl => ?_)
          have loop_41 : ∀ (nF : Nat) (σM : gS) (VM : Nat → Int → Int) (m9 : Int) (k9 : Int), ((V 0 18 - k9).toNat : Nat) < nF → (MW X σM o a VM Iv) → (gKeep (fun t => t = 10) σ σM) → (0 ≤ k9 ∧ k9 ≤ V 0 18) → (∀ q, q ≠ 5 → q ≠ 21 → VM q = V q) → (gHd (setA (V 0) k9.toNat) (VM 21) (VM 5) m9) → ∀ (H : Heap) (locs : List Loc) (ls : Array Slot), gSat X σM H → va_S (gA X) ss.heap H locs → lv_has ls 8 [(3, .int (iI k9)), (2, .int (iI m9)), (0, .ref o), (1, .int (iI n))] → W pp l ee (gR 6 0 0 148) ss mm args below meth cd H locs 0 0 Q (F0 mm 41 ls []) := by
            intro nF
            induction nF with
            | zero => intro σM VM m9 k9 hm; exact absurd hm (Nat.not_lt_zero _)
            | succ nF ih_41 =>
              intro σM VM m9 k9 hm hMM hkM hi41_2 hO hHd H locs ls hG hS hl
              have hV0 : VM 0 = V 0 := hO 0 (by decide) (by decide)
              have hwf : gWf (setA (V 0) k9.toNat) := setA_wf hS0 _ (by omega)
              have hmr := hwf.le
              rw [← hHd.1] at hmr
              refine lv_iload_n hx hb dX4_grows_41 rfl (lv_at hl 0 rfl) ?_
              refine lv_aload_n hx hb dX4_grows_42 rfl (lv_at hl 2 rfl) ?_
              refine g_get (C := RX4) (T := TX4) (N := 30) (v := .ref (a 0)) hx hb hts hown hK hG hMM.o rfl in_X4 0 (by decide) q1958 rfl rfl dX4_grows_43 ?_
              refine g_bipush hx hb dX4_grows_46 (by decide) ?_
              refine g_iald hx hb hK hG hMM.a0 dX4_grows_48 (by omega) ?_
              refine g_rw (b := (V 0 18)) (by rw [hV0]) ?_
              refine g_icmp_ge (tgt := 91) hx hb dX4_grows_49 (by decide) (by omega) (by omega) (fun cq4 => ?_) (fun cq4 => ?_)
              · refine g_iconst hx hb dX4_grows_91 ?_
                refine lv_istore_n (lv' := [(3, .int (iI 0)), (2, .int (iI m9)), (0, .ref o), (1, .int (iI n))]) hx hb dX4_grows_92 rfl hl (by decide) rfl (fun ls hl => ?_)
                refine g_iconst hx hb dX4_grows_93 ?_
                refine lv_istore (lv' := [(4, .int (iI 0)), (3, .int (iI 0)), (2, .int (iI m9)), (0, .ref o), (1, .int (iI n))]) hx hb dX4_grows_94 hl (by decide) rfl (fun ls hl => ?_)
                have loop_96 : ∀ (nF : Nat) (σN : gS) (VN : Nat → Int → Int) (m9 : Int) (fr9 : Int) (i9 : Int) (x9 : gSt) (f : Nat), (f : Nat) < nF → (MW X σN o a VN Iv) → (gKeep (fun t => t = 10) σ σN) → (0 ≤ i9 ∧ i9 + (f : Int) = n) → (∀ q, q ≠ 5 → q ≠ 21 → VN q = V q) → (gHd x9 (VN 21) (VN 5) m9) → (gWf x9) → (0 ≤ fr9 ∧ fr9 ≤ m9) → (grA (V 0) f fr9 x9 = grA (V 0) n.toNat 0 (setA (V 0) (V 0 18).toNat)) → ∀ (H : Heap) (locs : List Loc) (ls : Array Slot), gSat X σN H → va_S (gA X) ss.heap H locs → lv_has ls 8 [(4, .int (iI i9)), (3, .int (iI fr9)), (2, .int (iI m9)), (0, .ref o), (1, .int (iI n))] → W pp l ee (gR 6 0 0 148) ss mm args below meth cd H locs 0 0 Q (F0 mm 96 ls []) := by
                  intro nF
                  induction nF with
                  | zero => intro σN VN m9 fr9 i9 x9 f hm; exact absurd hm (Nat.not_lt_zero _)
                  | succ nF ih_96 =>
                    intro σN VN m9 fr9 i9 x9 f hm hMN hkN hi96_2 hON hHdN hwfN hi96_6 hgr H locs ls hG hS hl
                    have hm9r := hwfN.le
                    rw [← hHdN.1] at hm9r
                    refine lv_iload hx hb dX4_grows_96 (lv_at hl 0 rfl) ?_
                    refine lv_iload_n hx hb dX4_grows_98 rfl (lv_at hl 4 rfl) ?_
                    refine g_icmp_ge (tgt := 180) hx hb dX4_grows_99 (by decide) (by omega) (by omega) (fun cq5 => ?_) (fun cq5 => ?_)
                    · refine lv_iload_n hx hb dX4_grows_180 rfl (lv_at hl 2 rfl) ?_
                      exact g_iret hx hb hr hlocks hQ hG hS (Nat.zero_le _) (Nat.zero_le _) ⟨_, rfl, VN, Iv, hMN, hkN, (⟨by unfold grZ; rw [if_pos (by omega), ← hgr, show f = 0 by omega]; exact hHdN.1, hON, rfl⟩)⟩ dX4_grows_181
                    · refine lv_iload_n hx hb dX4_grows_102 rfl (lv_at hl 2 rfl) ?_
                      refine lv_istore (lv' := [(5, .int (iI m9)), (4, .int (iI i9)), (3, .int (iI fr9)), (2, .int (iI m9)), (0, .ref o), (1, .int (iI n))]) hx hb dX4_grows_103 hl (by decide) rfl (fun ls hl => ?_)
                      refine lv_iload_n hx hb dX4_grows_105 rfl (lv_at hl 2 rfl) ?_
                      refine lv_istore (lv' := [(6, .int (iI fr9)), (5, .int (iI m9)), (4, .int (iI i9)), (3, .int (iI fr9)), (2, .int (iI m9)), (0, .ref o), (1, .int (iI n))]) hx hb dX4_grows_106 hl (by decide) rfl (fun ls hl => ?_)
                      have loop_108 : ∀ (nF : Nat) (σP : gS) (VP : Nat → Int → Int) (m8 : Int) (p9 : Int), ((m9 - p9).toNat : Nat) < nF → (MW X σP o a VP Iv) → (gKeep (fun t => t = 10) σ σP) → (fr9 ≤ p9 ∧ p9 ≤ m9) → (∀ q, q ≠ 5 → q ≠ 21 → VP q = V q) → (gHd (lvA (V 0) fr9 (p9 - fr9).toNat x9) (VP 21) (VP 5) m8) → ∀ (H : Heap) (locs : List Loc) (ls : Array Slot), gSat X σP H → va_S (gA X) ss.heap H locs → lv_has ls 8 [(6, .int (iI p9)), (5, .int (iI m9)), (4, .int (iI i9)), (3, .int (iI fr9)), (2, .int (iI m8)), (0, .ref o), (1, .int (iI n))] → W pp l ee (gR 6 0 0 148) ss mm args below meth cd H locs 0 0 Q (F0 mm 108 ls []) := by
                        intro nF
                        induction nF with
                        | zero => intro σP VP m8 p9 hm; exact absurd hm (Nat.not_lt_zero _)
                        | succ nF ih_108 =>
                          intro σP VP m8 p9 hm hMP hkP hi108_2 hOP hHdP H locs ls hG hS hl
                          have hV0P : VP 0 = V 0 := hOP 0 (by decide) (by decide)
                          have hT0 : okT (VP 0) := by rw [hV0P]; exact hT
                          have hwl := lvA_wf (T := V 0) hwfN (fr := fr9) (by omega) (p9 - fr9).toNat (by rw [← hHdN.1]; omega)
                          have hwfP : gWf (lvA (V 0) fr9 (p9 - fr9).toNat x9) := hwl.1
                          have hm8 : m9 ≤ m8 := by rw [hHdP.1, hHdN.1]; exact hwl.2
                          have hm8r := hwfP.le
                          rw [← hHdP.1] at hm8r
                          refine lv_iload hx hb dX4_grows_108 (lv_at hl 0 rfl) ?_
                          refine lv_iload hx hb dX4_grows_110 (lv_at hl 1 rfl) ?_
                          refine g_icmp_ge (tgt := 171) hx hb dX4_grows_112 (by decide) (by omega) (by omega) (fun cq6 => ?_) (fun cq6 => ?_)
                          · refine lv_iload hx hb dX4_grows_171 (lv_at hl 1 rfl) ?_
                            refine lv_istore_n (lv' := [(3, .int (iI m9)), (6, .int (iI p9)), (5, .int (iI m9)), (4, .int (iI i9)), (2, .int (iI m8)), (0, .ref o), (1, .int (iI n))]) hx hb dX4_grows_173 rfl hl (by decide) rfl (fun ls hl => ?_)
                            refine g_iinc (lv' := [(4, .int (iI (i9 + 1))), (3, .int (iI m9)), (6, .int (iI p9)), (5, .int (iI m9)), (2, .int (iI m8)), (0, .ref o), (1, .int (iI n))]) hx hb dX4_grows_174 hl (k := 3) rfl (by decide) rfl (fun ls hl => ?_)
                            refine lv_goto (tgt := 96) hx hb dX4_grows_177 (by decide) ?_
                            exact ih_96 σP VP m8 m9 (i9 + 1) (lvA (V 0) fr9 (p9 - fr9).toNat x9) (f - 1) (by omega) (hMP) (hkP) (by omega) (hOP) (hHdP) (hwfP) (by omega) (by rw [← hgr, ← grA_s (show 0 < f by omega), hHdN.1, show (x9.2.2 - fr9).toNat = (p9 - fr9).toNat by rw [← hHdN.1]; omega])  _ _ _ hG hS (lv_sub hl [0, 1, 4, 5, 6] rfl)
                          · refine lv_aload_n hx hb dX4_grows_115 rfl (lv_at hl 5 rfl) ?_
                            refine lv_aload_n hx hb dX4_grows_116 rfl (lv_at hl 5 rfl) ?_
                            refine g_get (C := RX4) (T := TX4) (N := 30) (v := .ref (a 5)) hx hb hts hown hK hG hMP.o rfl in_X4 5 (by decide) q1963 rfl rfl dX4_grows_117 ?_
                            refine lv_iload hx hb dX4_grows_120 (lv_at hl 0 rfl) ?_
                            refine g_iald hx hb hK hG hMP.a5 dX4_grows_122 (by omega) ?_
                            refine g_name (fun w9 ew9 => ?_)
                            have hw9 : w9 = (lvA (V 0) fr9 (p9 - fr9).toNat x9).2.1 p9 := by rw [ew9]; exact hHdP.2.2 p9 (by omega) (by omega)
                            have hw9r := hwfP.2.2 p9 (by omega) (by rw [← hHdP.1]; omega)
                            rw [← hw9] at hw9r
                            refine g_iconst hx hb dX4_grows_123 ?_
                            refine g_callV (As := [.int (iI w9), .int (iI 0)]) (rest := []) 2 hx hb hml hown hts hK hG hS hl.1 (mX4_step l X σP o a VP Iv hMP hT0 w9 0 (by omega) (by omega)) hMP.o rfl q2134 q2136 qs51 q86 q2137 (by decide +kernel) rfl ⟨Nat.le_of_ble_eq_true rfl, Nat.le_of_ble_eq_true rfl⟩ ⟨Nat.le_of_ble_eq_true rfl, Nat.le_of_ble_eq_true rfl⟩ (Nat.le_of_ble_eq_true rfl) dX4_grows_124 (kI (fun r7 σr7 H locs hp hG hS => ?_))
                            obtain ⟨⟨hr7, kr7⟩, rfl⟩ := hp
                            have hst : r7 = stpZ (V 0) w9 0 := by rw [hr7, hV0P]
                            refine lv_istore (lv' := [(7, .int (iI r7)), (6, .int (iI p9)), (5, .int (iI m9)), (4, .int (iI i9)), (3, .int (iI fr9)), (2, .int (iI m8)), (0, .ref o), (1, .int (iI n))]) hx hb dX4_grows_127 hl (by decide) rfl (fun ls hl => ?_)
                            refine lv_iload hx hb dX4_grows_129 (lv_at hl 0 rfl) ?_
                            refine g_bipush hx hb dX4_grows_131 (by decide) ?_
                            refine g_icmp_eq (tgt := 165) hx hb dX4_grows_133 (by decide) (by omega) (by omega) (fun cq8 => ?_) (fun cq8 => ?_)
                            · refine g_iinc (lv' := [(6, .int (iI (p9 + 1))), (7, .int (iI r7)), (5, .int (iI m9)), (4, .int (iI i9)), (3, .int (iI fr9)), (2, .int (iI m8)), (0, .ref o), (1, .int (iI n))]) hx hb dX4_grows_165 hl (k := 1) rfl (by decide) rfl (fun ls hl => ?_)
                              refine lv_goto (tgt := 108) hx hb dX4_grows_168 (by decide) ?_
                              exact ih_108 σP VP m8 (p9 + 1) (by omega) (hMP) (hkP) (by omega) (hOP) (by rw [show (p9 + 1 - fr9).toNat = (p9 - fr9).toNat + 1 by omega, lvA_l (i := p9) (by omega) (by rw [← hw9, ← hst]; omega)]; exact hHdP)  _ _ _ hG hS (lv_sub hl [0, 2, 3, 4, 5, 6, 7] rfl)
                            · refine lv_aload_n hx hb dX4_grows_136 rfl (lv_at hl 6 rfl) ?_
                              refine g_get (C := RX4) (T := TX4) (N := 30) (v := .ref (a 21)) hx hb hts hown hK hG hMP.o rfl in_X4 21 (by decide) q1979 rfl rfl dX4_grows_137 ?_
                              refine lv_iload hx hb dX4_grows_140 (lv_at hl 0 rfl) ?_
                              refine g_zald hx hb hK hG hMP.a21 dX4_grows_142 (by omega) ?_
                              refine g_name (fun b9 eb9 => ?_)
                              have hb9 : b9 = (lvA (V 0) fr9 (p9 - fr9).toNat x9).1 r7 := by rw [eb9]; exact hHdP.2.1 _ (by omega) (by omega)
                              have hb9r := hwfP.1 r7
                              rw [← hb9] at hb9r
                              refine g_if_ne (tgt := 165) hx hb dX4_grows_143 (by decide) (by omega) (fun cq9 => ?_) (fun cq9 => ?_)
                              · refine g_iinc (lv' := [(6, .int (iI (p9 + 1))), (7, .int (iI r7)), (5, .int (iI m9)), (4, .int (iI i9)), (3, .int (iI fr9)), (2, .int (iI m8)), (0, .ref o), (1, .int (iI n))]) hx hb dX4_grows_165 hl (k := 1) rfl (by decide) rfl (fun ls hl => ?_)
                                refine lv_goto (tgt := 108) hx hb dX4_grows_168 (by decide) ?_
                                exact ih_108 σP VP m8 (p9 + 1) (by omega) (hMP) (hkP) (by omega) (hOP) (by rw [show (p9 + 1 - fr9).toNat = (p9 - fr9).toNat + 1 by omega, lvA_s (i := p9) (s := r7) (by omega) (by rw [← hw9]; exact hst) (by omega)]; exact hHdP.not (by omega) (by rw [← eb9]; omega))  _ _ _ hG hS (lv_sub hl [0, 2, 3, 4, 5, 6, 7] rfl)
                              · have hlt := hwfP.lt (s := r7) (by omega) (by rw [← hb9]; omega)
                                rw [← hHdP.1] at hlt
                                refine lv_aload_n hx hb dX4_grows_146 rfl (lv_at hl 6 rfl) ?_
                                refine g_get (C := RX4) (T := TX4) (N := 30) (v := .ref (a 21)) hx hb hts hown hK hG hMP.o rfl in_X4 21 (by decide) q1979 rfl rfl dX4_grows_147 ?_
                                refine lv_iload hx hb dX4_grows_150 (lv_at hl 0 rfl) ?_
                                refine g_iconst hx hb dX4_grows_152 ?_
                                refine g_zast hx hb hK hG hS hMP.a21 dX4_grows_153 (by first | rfl | decide) (by omega) (fun H locs hG hS => ?_)
                                obtain ⟨V10, eV10⟩ : ∃ J : Nat → Int → Int, J = va_up VP 21 (iup (VP 21) r7 1) := ⟨_, rfl⟩
                                have v21_10 : V10 21 = (iup (VP 21) r7 1) := by rw [eV10, va_up_self]
                                have fV10 : ∀ j, j ≠ 21 → V10 j = VP j := fun j hj => by rw [eV10, va_up_ne _ _ hj]
                                have hM10 : MW X (gup σP (a 21) (10, gI (X.2.1 1) 1024 (iup (VP 21) r7 1))) o a V10 Iv := by rw [eV10]; exact hMP.set 21 rfl _
                                have hkp10 : gKeep (fun t => t = 10) σ (gup σP (a 21) (10, gI (X.2.1 1) 1024 (iup (VP 21) r7 1))) := hkP.tr (gKeep.up hMP.a21 rfl)
                                generalize (gup σP (a 21) (10, gI (X.2.1 1) 1024 (iup (VP 21) r7 1))) = σ10 at hG hM10 hkp10
                                refine lv_aload_n hx hb dX4_grows_154 rfl (lv_at hl 6 rfl) ?_
                                refine g_get (C := RX4) (T := TX4) (N := 30) (v := .ref (a 5)) hx hb hts hown hK hG hM10.o rfl in_X4 5 (by decide) q1963 rfl rfl dX4_grows_155 ?_
                                refine lv_iload_n hx hb dX4_grows_158 rfl (lv_at hl 5 rfl) ?_
                                refine lv_iload hx hb dX4_grows_159 (lv_at hl 0 rfl) ?_
                                refine g_iast hx hb hK hG hS hM10.a5 dX4_grows_161 (by omega) (fun H locs hG hS => ?_)
                                obtain ⟨V11, eV11⟩ : ∃ J : Nat → Int → Int, J = va_up V10 5 (iup (V10 5) m8 r7) := ⟨_, rfl⟩
                                have v5_11 : V11 5 = (iup (V10 5) m8 r7) := by rw [eV11, va_up_self]
                                have fV11 : ∀ j, j ≠ 5 → V11 j = V10 j := fun j hj => by rw [eV11, va_up_ne _ _ hj]
                                have hM11 : MW X (gup σ10 (a 5) (10, gI (X.2.1 0) 1024 (iup (V10 5) m8 r7))) o a V11 Iv := by rw [eV11]; exact hM10.set 5 rfl _
                                have hkp11 : gKeep (fun t => t = 10) σ (gup σ10 (a 5) (10, gI (X.2.1 0) 1024 (iup (V10 5) m8 r7))) := hkp10.tr (gKeep.up hM10.a5 rfl)
                                generalize (gup σ10 (a 5) (10, gI (X.2.1 0) 1024 (iup (V10 5) m8 r7))) = σ11 at hG hM11 hkp11
                                refine g_iinc (lv' := [(2, .int (iI (m8 + 1))), (7, .int (iI r7)), (6, .int (iI p9)), (5, .int (iI m9)), (4, .int (iI i9)), (3, .int (iI fr9)), (0, .ref o), (1, .int (iI n))]) hx hb dX4_grows_162 hl (k := 5) rfl (by decide) rfl (fun ls hl => ?_)
                                refine g_iinc (lv' := [(6, .int (iI (p9 + 1))), (2, .int (iI (m8 + 1))), (7, .int (iI r7)), (5, .int (iI m9)), (4, .int (iI i9)), (3, .int (iI fr9)), (0, .ref o), (1, .int (iI n))]) hx hb dX4_grows_165 hl (k := 2) rfl (by decide) rfl (fun ls hl => ?_)
                                refine lv_goto (tgt := 108) hx hb dX4_grows_168 (by decide) ?_
                                exact ih_108 σ11 V11 (m8 + 1) (p9 + 1) (by omega) (hM11) (hkp11) (by omega) (fun q h1 h2 => (fV11 q h1).trans ((fV10 q h2).trans (hOP q h1 h2))) (by rw [show (p9 + 1 - fr9).toNat = (p9 - fr9).toNat + 1 by omega, lvA_s (i := p9) (s := r7) (by omega) (by rw [← hw9]; exact hst) (by omega), v5_11, fV11 21 (by decide), v21_10, fV10 5 (by decide)]; exact hHdP.see hwfP (by omega) (by rw [← eb9]; omega))  _ _ _ hG hS (lv_sub hl [0, 3, 4, 5, 1, 6, 7] rfl)
                      exact loop_108 _ σN VN m9 fr9 (Nat.lt_succ_self _) (hMN) (hkN) (by omega) (hON) (by rw [show (fr9 - fr9).toNat = 0 by omega]; exact hHdN)  _ _ _ hG hS (lv_sub hl [0, 1, 2, 3, 4, 5, 6] rfl)
                exact loop_96 _ σM VM m9 0 0 (setA (V 0) k9.toNat) n.toNat (Nat.lt_succ_self _) (hMM) (hkM) (by omega) (hO) (hHd) (hwf) (by omega) (by rw [show (V 0 18).toNat = k9.toNat by omega])  _ _ _ hG hS (lv_sub hl [0, 1, 2, 3, 4] rfl)
              · refine lv_aload_n hx hb dX4_grows_52 rfl (lv_at hl 2 rfl) ?_
                refine g_get (C := RX4) (T := TX4) (N := 30) (v := .ref (a 21)) hx hb hts hown hK hG hMM.o rfl in_X4 21 (by decide) q1979 rfl rfl dX4_grows_53 ?_
                refine lv_aload_n hx hb dX4_grows_56 rfl (lv_at hl 2 rfl) ?_
                refine g_get (C := RX4) (T := TX4) (N := 30) (v := .ref (a 0)) hx hb hts hown hK hG hMM.o rfl in_X4 0 (by decide) q1958 rfl rfl dX4_grows_57 ?_
                refine g_bipush hx hb dX4_grows_60 (by decide) ?_
                refine lv_iload_n hx hb dX4_grows_62 rfl (lv_at hl 0 rfl) ?_
                refine g_iadd hx hb dX4_grows_63 ?_
                refine g_iald hx hb hK hG hMM.a0 dX4_grows_64 (by omega) ?_
                refine g_rw (b := (V 0 (19 + k9))) (by rw [hV0]) ?_
                have hsr := hS0.2.2 k9 (by omega) (by omega)
                have hnew : VM 21 (V 0 (19 + k9)) = 0 := by
                  rw [hHd.2.1 _ (by omega) (by omega)]
                  have := setA_new hS0 (n := k9.toNat) (by omega)
                  rw [show ((k9.toNat : Nat) : Int) = k9 by omega] at this
                  exact this
                have hlt := hwf.lt hsr (by rw [← hHd.2.1 _ (by omega) (by omega)]; exact hnew)
                rw [← hHd.1] at hlt
                refine g_iconst hx hb dX4_grows_65 ?_
                refine g_zast hx hb hK hG hS hMM.a21 dX4_grows_66 (by first | rfl | decide) (by omega) (fun H locs hG hS => ?_)
                obtain ⟨V12, eV12⟩ : ∃ J : Nat → Int → Int, J = va_up VM 21 (iup (VM 21) (V 0 (19 + k9)) 1) := ⟨_, rfl⟩
                have v21_12 : V12 21 = (iup (VM 21) (V 0 (19 + k9)) 1) := by rw [eV12, va_up_self]
                have fV12 : ∀ j, j ≠ 21 → V12 j = VM j := fun j hj => by rw [eV12, va_up_ne _ _ hj]
                have hM12 : MW X (gup σM (a 21) (10, gI (X.2.1 1) 1024 (iup (VM 21) (V 0 (19 + k9)) 1))) o a V12 Iv := by rw [eV12]; exact hMM.set 21 rfl _
                have hkp12 : gKeep (fun t => t = 10) σ (gup σM (a 21) (10, gI (X.2.1 1) 1024 (iup (VM 21) (V 0 (19 + k9)) 1))) := hkM.tr (gKeep.up hMM.a21 rfl)
                generalize (gup σM (a 21) (10, gI (X.2.1 1) 1024 (iup (VM 21) (V 0 (19 + k9)) 1))) = σ12 at hG hM12 hkp12
                refine lv_aload_n hx hb dX4_grows_67 rfl (lv_at hl 2 rfl) ?_
                refine g_get (C := RX4) (T := TX4) (N := 30) (v := .ref (a 5)) hx hb hts hown hK hG hM12.o rfl in_X4 5 (by decide) q1963 rfl rfl dX4_grows_68 ?_
                refine lv_iload_n hx hb dX4_grows_71 rfl (lv_at hl 1 rfl) ?_
                refine lv_aload_n hx hb dX4_grows_72 rfl (lv_at hl 2 rfl) ?_
                refine g_get (C := RX4) (T := TX4) (N := 30) (v := .ref (a 0)) hx hb hts hown hK hG hM12.o rfl in_X4 0 (by decide) q1958 rfl rfl dX4_grows_73 ?_
                refine g_bipush hx hb dX4_grows_76 (by decide) ?_
                refine lv_iload_n hx hb dX4_grows_78 rfl (lv_at hl 0 rfl) ?_
                refine g_iadd hx hb dX4_grows_79 ?_
                refine g_iald hx hb hK hG hM12.a0 dX4_grows_80 (by omega) ?_
                refine g_rw (b := (V 0 (19 + k9))) (by rw [fV12 0 (by decide), hV0]) ?_
                refine g_iast hx hb hK hG hS hM12.a5 dX4_grows_81 (by omega) (fun H locs hG hS => ?_)
                obtain ⟨V13, eV13⟩ : ∃ J : Nat → Int → Int, J = va_up V12 5 (iup (V12 5) m9 (V 0 (19 + k9))) := ⟨_, rfl⟩
                have v5_13 : V13 5 = (iup (V12 5) m9 (V 0 (19 + k9))) := by rw [eV13, va_up_self]
                have fV13 : ∀ j, j ≠ 5 → V13 j = V12 j := fun j hj => by rw [eV13, va_up_ne _ _ hj]
                have hM13 : MW X (gup σ12 (a 5) (10, gI (X.2.1 0) 1024 (iup (V12 5) m9 (V 0 (19 + k9))))) o a V13 Iv := by rw [eV13]; exact hM12.set 5 rfl _
                have hkp13 : gKeep (fun t => t = 10) σ (gup σ12 (a 5) (10, gI (X.2.1 0) 1024 (iup (V12 5) m9 (V 0 (19 + k9))))) := hkp12.tr (gKeep.up hM12.a5 rfl)
                generalize (gup σ12 (a 5) (10, gI (X.2.1 0) 1024 (iup (V12 5) m9 (V 0 (19 + k9))))) = σ13 at hG hM13 hkp13
                refine g_iinc (lv' := [(2, .int (iI (m9 + 1))), (3, .int (iI k9)), (0, .ref o), (1, .int (iI n))]) hx hb dX4_grows_82 hl (k := 1) rfl (by decide) rfl (fun ls hl => ?_)
                refine g_iinc (lv' := [(3, .int (iI (k9 + 1))), (2, .int (iI (m9 + 1))), (0, .ref o), (1, .int (iI n))]) hx hb dX4_grows_85 hl (k := 1) rfl (by decide) rfl (fun ls hl => ?_)
                refine lv_goto (tgt := 41) hx hb dX4_grows_88 (by decide) ?_
                exact ih_41 σ13 V13 (m9 + 1) (k9 + 1) (by omega) (hM13) (hkp13) (by omega) (fun q h1 h2 => (fV13 q h1).trans ((fV12 q h2).trans (hO q h1 h2))) (by
                          have e1 : setA (V 0) (k9 + 1).toNat = seeA (V 0 (19 + k9)) (setA (V 0) k9.toNat) := by rw [show (k9 + 1).toNat = k9.toNat + 1 by omega, setA, show ((k9.toNat : Nat) : Int) = k9 by omega]
                          rw [e1, v5_13, fV13 21 (by decide), v21_12, fV12 5 (by decide)]
                          exact hHd.see hwf hsr hnew)  _ _ _ hG hS (lv_sub hl [0, 1, 2, 3] rfl)
          exact loop_41 _ σL VL 0 0 (Nat.lt_succ_self _) (hML) (hkL) (by omega) (fun q h1 h2 => hA q h2) (⟨rfl, fun q h1 h2 => h21 q h1 (by omega), fun q h1 h2 => by omega⟩)  _ _ _ hG hS (lv_sub hl [0, 1, 2, 3] rfl)
        · refine lv_aload_n hx hb dX4_grows_24 rfl (lv_at hl 1 rfl) ?_
          refine g_get (C := RX4) (T := TX4) (N := 30) (v := .ref (a 21)) hx hb hts hown hK hG hML.o rfl in_X4 21 (by decide) q1979 rfl rfl dX4_grows_25 ?_
          refine lv_iload_n hx hb dX4_grows_28 rfl (lv_at hl 0 rfl) ?_
          refine g_iconst hx hb dX4_grows_29 ?_
          refine g_zast hx hb hK hG hS hML.a21 dX4_grows_30 (by first | rfl | decide) (by omega) (fun H locs hG hS => ?_)
          obtain ⟨V14, eV14⟩ : ∃ J : Nat → Int → Int, J = va_up VL 21 (iup (VL 21) s9 0) := ⟨_, rfl⟩
          have v21_14 : V14 21 = (iup (VL 21) s9 0) := by rw [eV14, va_up_self]
          have fV14 : ∀ j, j ≠ 21 → V14 j = VL j := fun j hj => by rw [eV14, va_up_ne _ _ hj]
          have hM14 : MW X (gup σL (a 21) (10, gI (X.2.1 1) 1024 (iup (VL 21) s9 0))) o a V14 Iv := by rw [eV14]; exact hML.set 21 rfl _
          have hkp14 : gKeep (fun t => t = 10) σ (gup σL (a 21) (10, gI (X.2.1 1) 1024 (iup (VL 21) s9 0))) := hkL.tr (gKeep.up hML.a21 rfl)
          generalize (gup σL (a 21) (10, gI (X.2.1 1) 1024 (iup (VL 21) s9 0))) = σ14 at hG hM14 hkp14
          refine g_iinc (lv' := [(2, .int (iI (s9 + 1))), (0, .ref o), (1, .int (iI n))]) hx hb dX4_grows_31 hl (k := 0) rfl (by decide) rfl (fun ls hl => ?_)
          refine lv_goto (tgt := 17) hx hb dX4_grows_34 (by decide) ?_
          exact ih_17 σ14 V14 (s9 + 1) (by omega) (hM14) (hkp14) (by omega) (fun q h => (fV14 q h).trans (hA q h)) (fun q h1 h2 => by rw [v21_14]; by_cases hq : q = s9; (rw [hq, iup_s]); (rw [iup_n hq]; exact h21 q h1 (by omega)))  _ _ _ hG hS (lv_sub hl [0, 1, 2] rfl)
    exact loop_17 _ σ V 0 (Nat.lt_succ_self _) (hM) (hkp) (by omega) (fun q h => rfl) (fun q h1 h2 => by omega)  _ _ _ hG hS (lv_sub hl [0, 1, 2] rfl)
  · refine g_bipush hx hb dX4_grows_12 (by decide) ?_
    exact g_iret hx hb hr hlocks hQ hG hS (Nat.zero_le _) (Nat.zero_le _) ⟨_, rfl, V, Iv, hM, hkp, (⟨by unfold grZ; rw [if_neg (by omega)], fun q h1 h2 => rfl, rfl⟩)⟩ dX4_grows_14
