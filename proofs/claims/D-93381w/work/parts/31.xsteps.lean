set_option maxHeartbeats 4000000 in
theorem mX0_both_01 (l : Launch) (X : gX) (σ : gS) (b : Nat → Nat) (U : Nat → Int → Int) (J : Nat → Int) (R : Int → Option Nat) (hX : XW X σ b U J R) (hT : okT (U 20)) (sp : Int) (h0 : 0 ≤ sp ∧ sp ≤ 1023) : gMet l X yX0_both cX0_both 4 (some .int) 7 0 0 169 σ [.ref (b 80), .ref (b 81), .int (iI sp)] (oI (fun r σ' => (r = stpZ (U 20) sp 0 ∧ (r = -7 ∨ (0 ≤ r ∧ r ≤ 1023))) ∧ σ = σ')) := by
  refine gMet.of (by decide) (Nat.le_of_ble_eq_true rfl) ?_
  intro pp ee ss mm args below meth cd Q H locs ls hargs hx hb hr hlocks hml hown hnm hts hK hG hS hQ hl
  have hown : ss.vm.findClass RX0 = some mm.cls := hown
  have hl : lv_has ls 4 [(0, .ref (b 80)), (1, .ref (b 81)), (2, .int (iI sp))] := hl
  refine lv_aload_n hx hb dX0_both_0 rfl (lv_at hl 0 rfl) ?_
  refine lv_iload_n hx hb dX0_both_1 rfl (lv_at hl 2 rfl) ?_
  refine g_lc0 (rest := []) hx hb hml hown hts hK hG hS hl.1 (mX0_swapsX l X σ b U J R hX hT sp (by omega)) hX.c80 hX.c0 q400 (fun v σ' h => by obtain ⟨r, rfl, -⟩ := h; exact ⟨_, rfl⟩) ⟨Nat.le_of_ble_eq_true rfl, Nat.le_of_ble_eq_true rfl⟩ ⟨Nat.le_of_ble_eq_true rfl, Nat.le_of_ble_eq_true rfl⟩ (Nat.le_of_ble_eq_true rfl) dX0_both_2 (kI (fun r1 σr1 H locs hp hG hS => ?_))
  obtain ⟨⟨hr1, kr1⟩, rfl⟩ := hp
  refine lv_istore_n (lv' := [(3, .int (iI r1)), (0, .ref (b 80)), (1, .ref (b 81)), (2, .int (iI sp))]) hx hb dX0_both_7 rfl hl (by decide) rfl (fun ls hl => ?_)
  refine lv_iload_n hx hb dX0_both_8 rfl (lv_at hl 0 rfl) ?_
  refine g_bipush hx hb dX0_both_9 (by decide) ?_
  refine g_icmp_ne (tgt := 19) hx hb dX0_both_11 (by decide) (by omega) (by omega) (fun cq2 => ?_) (fun cq2 => ?_)
  · refine lv_aload_n hx hb dX0_both_19 rfl (lv_at hl 2 rfl) ?_
    refine lv_iload_n hx hb dX0_both_20 rfl (lv_at hl 0 rfl) ?_
    refine g_lc1 (rest := []) hx hb hml hown hts hK hG hS hl.1 (mX0_swapsY l X σ b U J R hX hT r1 (by omega)) hX.c81 hX.c0 q400 (fun v σ' h => by obtain ⟨r, rfl, -⟩ := h; exact ⟨_, rfl⟩) ⟨Nat.le_of_ble_eq_true rfl, Nat.le_of_ble_eq_true rfl⟩ ⟨Nat.le_of_ble_eq_true rfl, Nat.le_of_ble_eq_true rfl⟩ (Nat.le_of_ble_eq_true rfl) dX0_both_21 (kI (fun r3 σr3 H locs hp hG hS => ?_))
    obtain ⟨⟨hr3, kr3⟩, rfl⟩ := hp
    exact g_iret hx hb hr hlocks hQ hG hS (Nat.zero_le _) (Nat.zero_le _) ⟨_, rfl, ⟨(by unfold stpZ; rw [← hr1]; rw [if_neg (by omega)]; exact hr3), (by omega)⟩, rfl⟩ dX0_both_26
  · refine g_bipush hx hb dX0_both_14 (by decide) ?_
    refine lv_goto (tgt := 26) hx hb dX0_both_16 (by decide) ?_
    exact g_iret hx hb hr hlocks hQ hG hS (Nat.zero_le _) (Nat.zero_le _) ⟨_, rfl, ⟨(by unfold stpZ; rw [← hr1]; rw [if_pos (by omega)]), (by omega)⟩, rfl⟩ dX0_both_26

set_option maxHeartbeats 4000000 in
theorem mX0_both_10 (l : Launch) (X : gX) (σ : gS) (b : Nat → Nat) (U : Nat → Int → Int) (J : Nat → Int) (R : Int → Option Nat) (hX : XW X σ b U J R) (hT : okT (U 20)) (sp : Int) (h0 : 0 ≤ sp ∧ sp ≤ 1023) : gMet l X yX0_both cX0_both 4 (some .int) 7 0 0 169 σ [.ref (b 81), .ref (b 80), .int (iI sp)] (oI (fun r σ' => (r = stpZ (U 20) sp 1 ∧ (r = -7 ∨ (0 ≤ r ∧ r ≤ 1023))) ∧ σ = σ')) := by
  refine gMet.of (by decide) (Nat.le_of_ble_eq_true rfl) ?_
  intro pp ee ss mm args below meth cd Q H locs ls hargs hx hb hr hlocks hml hown hnm hts hK hG hS hQ hl
  have hown : ss.vm.findClass RX0 = some mm.cls := hown
  have hl : lv_has ls 4 [(0, .ref (b 81)), (1, .ref (b 80)), (2, .int (iI sp))] := hl
  refine lv_aload_n hx hb dX0_both_0 rfl (lv_at hl 0 rfl) ?_
  refine lv_iload_n hx hb dX0_both_1 rfl (lv_at hl 2 rfl) ?_
  refine g_lc1 (rest := []) hx hb hml hown hts hK hG hS hl.1 (mX0_swapsY l X σ b U J R hX hT sp (by omega)) hX.c81 hX.c0 q400 (fun v σ' h => by obtain ⟨r, rfl, -⟩ := h; exact ⟨_, rfl⟩) ⟨Nat.le_of_ble_eq_true rfl, Nat.le_of_ble_eq_true rfl⟩ ⟨Nat.le_of_ble_eq_true rfl, Nat.le_of_ble_eq_true rfl⟩ (Nat.le_of_ble_eq_true rfl) dX0_both_2 (kI (fun r1 σr1 H locs hp hG hS => ?_))
  obtain ⟨⟨hr1, kr1⟩, rfl⟩ := hp
  refine lv_istore_n (lv' := [(3, .int (iI r1)), (0, .ref (b 81)), (1, .ref (b 80)), (2, .int (iI sp))]) hx hb dX0_both_7 rfl hl (by decide) rfl (fun ls hl => ?_)
  refine lv_iload_n hx hb dX0_both_8 rfl (lv_at hl 0 rfl) ?_
  refine g_bipush hx hb dX0_both_9 (by decide) ?_
  refine g_icmp_ne (tgt := 19) hx hb dX0_both_11 (by decide) (by omega) (by omega) (fun cq2 => ?_) (fun cq2 => ?_)
  · refine lv_aload_n hx hb dX0_both_19 rfl (lv_at hl 2 rfl) ?_
    refine lv_iload_n hx hb dX0_both_20 rfl (lv_at hl 0 rfl) ?_
    refine g_lc0 (rest := []) hx hb hml hown hts hK hG hS hl.1 (mX0_swapsX l X σ b U J R hX hT r1 (by omega)) hX.c80 hX.c0 q400 (fun v σ' h => by obtain ⟨r, rfl, -⟩ := h; exact ⟨_, rfl⟩) ⟨Nat.le_of_ble_eq_true rfl, Nat.le_of_ble_eq_true rfl⟩ ⟨Nat.le_of_ble_eq_true rfl, Nat.le_of_ble_eq_true rfl⟩ (Nat.le_of_ble_eq_true rfl) dX0_both_21 (kI (fun r3 σr3 H locs hp hG hS => ?_))
    obtain ⟨⟨hr3, kr3⟩, rfl⟩ := hp
    exact g_iret hx hb hr hlocks hQ hG hS (Nat.zero_le _) (Nat.zero_le _) ⟨_, rfl, ⟨(by unfold stpZ; rw [← hr1]; rw [if_neg (by omega)]; exact hr3), (by omega)⟩, rfl⟩ dX0_both_26
  · refine g_bipush hx hb dX0_both_14 (by decide) ?_
    refine lv_goto (tgt := 26) hx hb dX0_both_16 (by decide) ?_
    exact g_iret hx hb hr hlocks hQ hG hS (Nat.zero_le _) (Nat.zero_le _) ⟨_, rfl, ⟨(by unfold stpZ; rw [← hr1]; rw [if_pos (by omega)]), (by omega)⟩, rfl⟩ dX0_both_26

set_option maxHeartbeats 4000000 in
theorem mX0_steps (l : Launch) (X : gX) (σ : gS) (b : Nat → Nat) (U : Nat → Int → Int) (J : Nat → Int) (R : Int → Option Nat) (hX : XW X σ b U J R) (hT : okT (U 20)) (sp : Int) (h0 : 0 ≤ sp ∧ sp ≤ 1023) : gMet l X yX0_steps cX0_steps 2 (some .int) 8 0 0 192 σ [.ref (b 0), .int (iI sp)] (oI (fun r σ' => (r = stpZ (U 20) sp 0 ∧ (r = -7 ∨ (0 ≤ r ∧ r ≤ 1023))) ∧ σ = σ')) := by
  refine gMet.of (by decide) (Nat.le_of_ble_eq_true rfl) ?_
  intro pp ee ss mm args below meth cd Q H locs ls hargs hx hb hr hlocks hml hown hnm hts hK hG hS hQ hl
  have hown : ss.vm.findClass RX0 = some mm.cls := hown
  have hl : lv_has ls 2 [(0, .ref (b 0)), (1, .int (iI sp))] := hl
  refine lv_aload_n hx hb dX0_steps_0 rfl (lv_at hl 0 rfl) ?_
  refine g_get (C := RX0) (T := TX0) (N := 20) (v := .ref (b 4)) hx hb hts hown hK hG hX.c0 rfl in_X0 4 (by decide) q424 rfl rfl dX0_steps_1 ?_
  refine g_iconst hx hb dX0_steps_4 ?_
  refine g_aald (v := .ref (b 80)) hx hb 4 hK hG hX.c4 rfl dX0_steps_5 (by omega) (rfl) ?_
  refine lv_aload_n hx hb dX0_steps_6 rfl (lv_at hl 0 rfl) ?_
  refine g_get (C := RX0) (T := TX0) (N := 20) (v := .ref (b 4)) hx hb hts hown hK hG hX.c0 rfl in_X0 4 (by decide) q424 rfl rfl dX0_steps_7 ?_
  refine g_iconst hx hb dX0_steps_10 ?_
  refine g_aald (v := .ref (b 81)) hx hb 4 hK hG hX.c4 rfl dX0_steps_11 (by omega) (rfl) ?_
  refine lv_iload_n hx hb dX0_steps_12 rfl (lv_at hl 1 rfl) ?_
  refine g_callS (As := [.ref (b 80), .ref (b 81), .int (iI sp)]) (rest := []) 3 hx hb hml hown hts hK hG hS hl.1 (mX0_both_01 l X σ b U J R hX hT sp (by omega)) q396 q397 q69 q398 (by decide +kernel) rfl ⟨Nat.le_of_ble_eq_true rfl, Nat.le_of_ble_eq_true rfl⟩ ⟨Nat.le_of_ble_eq_true rfl, Nat.le_of_ble_eq_true rfl⟩ (Nat.le_of_ble_eq_true rfl) dX0_steps_13 (kI (fun r1 σr1 H locs hp hG hS => ?_))
  obtain ⟨⟨hr1, kr1⟩, rfl⟩ := hp
  exact g_iret hx hb hr hlocks hQ hG hS (Nat.zero_le _) (Nat.zero_le _) ⟨_, rfl, ⟨(hr1), (by omega)⟩, rfl⟩ dX0_steps_16

set_option maxHeartbeats 4000000 in
theorem mX0_stepsBack (l : Launch) (X : gX) (σ : gS) (b : Nat → Nat) (U : Nat → Int → Int) (J : Nat → Int) (R : Int → Option Nat) (hX : XW X σ b U J R) (hT : okT (U 20)) (sp : Int) (h0 : 0 ≤ sp ∧ sp ≤ 1023) : gMet l X yX0_stepsBack cX0_stepsBack 2 (some .int) 8 0 0 192 σ [.ref (b 0), .int (iI sp)] (oI (fun r σ' => (r = stpZ (U 20) sp 1 ∧ (r = -7 ∨ (0 ≤ r ∧ r ≤ 1023))) ∧ σ = σ')) := by
  refine gMet.of (by decide) (Nat.le_of_ble_eq_true rfl) ?_
  intro pp ee ss mm args below meth cd Q H locs ls hargs hx hb hr hlocks hml hown hnm hts hK hG hS hQ hl
  have hown : ss.vm.findClass RX0 = some mm.cls := hown
  have hl : lv_has ls 2 [(0, .ref (b 0)), (1, .int (iI sp))] := hl
  refine lv_aload_n hx hb dX0_stepsBack_0 rfl (lv_at hl 0 rfl) ?_
  refine g_get (C := RX0) (T := TX0) (N := 20) (v := .ref (b 4)) hx hb hts hown hK hG hX.c0 rfl in_X0 4 (by decide) q424 rfl rfl dX0_stepsBack_1 ?_
  refine g_iconst hx hb dX0_stepsBack_4 ?_
  refine g_aald (v := .ref (b 81)) hx hb 4 hK hG hX.c4 rfl dX0_stepsBack_5 (by omega) (rfl) ?_
  refine lv_aload_n hx hb dX0_stepsBack_6 rfl (lv_at hl 0 rfl) ?_
  refine g_get (C := RX0) (T := TX0) (N := 20) (v := .ref (b 4)) hx hb hts hown hK hG hX.c0 rfl in_X0 4 (by decide) q424 rfl rfl dX0_stepsBack_7 ?_
  refine g_iconst hx hb dX0_stepsBack_10 ?_
  refine g_aald (v := .ref (b 80)) hx hb 4 hK hG hX.c4 rfl dX0_stepsBack_11 (by omega) (rfl) ?_
  refine lv_iload_n hx hb dX0_stepsBack_12 rfl (lv_at hl 1 rfl) ?_
  refine g_callS (As := [.ref (b 81), .ref (b 80), .int (iI sp)]) (rest := []) 3 hx hb hml hown hts hK hG hS hl.1 (mX0_both_10 l X σ b U J R hX hT sp (by omega)) q396 q397 q69 q398 (by decide +kernel) rfl ⟨Nat.le_of_ble_eq_true rfl, Nat.le_of_ble_eq_true rfl⟩ ⟨Nat.le_of_ble_eq_true rfl, Nat.le_of_ble_eq_true rfl⟩ (Nat.le_of_ble_eq_true rfl) dX0_stepsBack_13 (kI (fun r1 σr1 H locs hp hG hS => ?_))
  obtain ⟨⟨hr1, kr1⟩, rfl⟩ := hp
  exact g_iret hx hb hr hlocks hQ hG hS (Nat.zero_le _) (Nat.zero_le _) ⟨_, rfl, ⟨(hr1), (by omega)⟩, rfl⟩ dX0_stepsBack_16

set_option maxHeartbeats 4000000 in
theorem mX0_often_2 (l : Launch) (X : gX) (σ : gS) (b : Nat → Nat) (U : Nat → Int → Int) (J : Nat → Int) (R : Int → Option Nat) (hX : XW X σ b U J R) (hT : okT (U 20)) (sp : Int) (n : Int) (h0 : 0 ≤ sp ∧ sp ≤ 1023) (h1 : 0 ≤ n ∧ n ≤ 99) : gMet l X yX0_often cX0_often 5 (some .int) 10 0 0 234 σ [.ref (b 82), .int (iI sp), .int (iI n)] (oI (fun r σ' => (r = goZ (U 20) 0 n.toNat sp ∧ (r = -7 ∨ (0 ≤ r ∧ r ≤ 1023))) ∧ σ = σ')) := by
  refine gMet.of (by decide) (Nat.le_of_ble_eq_true rfl) ?_
  intro pp ee ss mm args below meth cd Q H locs ls hargs hx hb hr hlocks hml hown hnm hts hK hG hS hQ hl
  have hown : ss.vm.findClass RX0 = some mm.cls := hown
  have hl : lv_has ls 5 [(0, .ref (b 82)), (1, .int (iI sp)), (2, .int (iI n))] := hl
  refine lv_iload_n hx hb dX0_often_0 rfl (lv_at hl 1 rfl) ?_
  refine lv_istore_n (lv' := [(3, .int (iI sp)), (0, .ref (b 82)), (1, .int (iI sp)), (2, .int (iI n))]) hx hb dX0_often_1 rfl hl (by decide) rfl (fun ls hl => ?_)
  refine g_iconst hx hb dX0_often_2 ?_
  refine lv_istore (lv' := [(4, .int (iI 0)), (3, .int (iI sp)), (0, .ref (b 82)), (1, .int (iI sp)), (2, .int (iI n))]) hx hb dX0_often_3 hl (by decide) rfl (fun ls hl => ?_)
  have loop_5 : ∀ (nF : Nat) (a9 : Int) (i9 : Int) (k : Nat), (k : Nat) < nF → (0 ≤ i9 ∧ i9 + (k : Int) = n) → (a9 = -7 ∨ (0 ≤ a9 ∧ a9 ≤ 1023)) → (goZ (U 20) 0 k a9 = goZ (U 20) 0 n.toNat sp) → ∀ (H : Heap) (locs : List Loc) (ls : Array Slot), gSat X σ H → va_S (gA X) ss.heap H locs → lv_has ls 5 [(4, .int (iI i9)), (3, .int (iI a9)), (0, .ref (b 82)), (1, .int (iI sp)), (2, .int (iI n))] → W pp l ee (gR 10 0 0 234) ss mm args below meth cd H locs 0 0 Q (F0 mm 5 ls []) := by
    intro nF
    induction nF with
    | zero => intro a9 i9 k hm; exact absurd hm (Nat.not_lt_zero _)
    | succ nF ih_5 =>
      intro a9 i9 k hm hi5_0 hi5_1 hi5_2 H locs ls hG hS hl
      refine lv_iload hx hb dX0_often_5 (lv_at hl 0 rfl) ?_
      refine lv_iload_n hx hb dX0_often_7 rfl (lv_at hl 4 rfl) ?_
      refine g_icmp_ge (tgt := 31) hx hb dX0_often_8 (by decide) (by omega) (by omega) (fun cq1 => ?_) (fun cq1 => ?_)
      · refine lv_iload_n hx hb dX0_often_31 rfl (lv_at hl 1 rfl) ?_
        exact g_iret hx hb hr hlocks hQ hG hS (Nat.zero_le _) (Nat.zero_le _) ⟨_, rfl, ⟨(by rw [← hi5_2]; first | (rw [show k = 0 by omega]; rfl) | (rename_i hq; rw [show a9 = -7 by omega]; exact (goZ_lost _ _ _).symm)), (by omega)⟩, rfl⟩ dX0_often_32
      · refine lv_iload_n hx hb dX0_often_11 rfl (lv_at hl 1 rfl) ?_
        refine g_bipush hx hb dX0_often_12 (by decide) ?_
        refine g_icmp_eq (tgt := 31) hx hb dX0_often_14 (by decide) (by omega) (by omega) (fun cq2 => ?_) (fun cq2 => ?_)
        · refine lv_iload_n hx hb dX0_often_31 rfl (lv_at hl 1 rfl) ?_
          exact g_iret hx hb hr hlocks hQ hG hS (Nat.zero_le _) (Nat.zero_le _) ⟨_, rfl, ⟨(by rw [← hi5_2]; first | (rw [show k = 0 by omega]; rfl) | (rename_i hq; rw [show a9 = -7 by omega]; exact (goZ_lost _ _ _).symm)), (by omega)⟩, rfl⟩ dX0_often_32
        · refine lv_aload_n hx hb dX0_often_17 rfl (lv_at hl 2 rfl) ?_
          refine lv_iload_n hx hb dX0_often_18 rfl (lv_at hl 1 rfl) ?_
          refine g_lc2 (rest := []) hx hb hml hown hts hK hG hS hl.1 (mX0_steps l X σ b U J R hX hT a9 (by omega)) hX.c82 hX.c0 q400 (fun v σ' h => by obtain ⟨r, rfl, -⟩ := h; exact ⟨_, rfl⟩) ⟨Nat.le_of_ble_eq_true rfl, Nat.le_of_ble_eq_true rfl⟩ ⟨Nat.le_of_ble_eq_true rfl, Nat.le_of_ble_eq_true rfl⟩ (Nat.le_of_ble_eq_true rfl) dX0_often_19 (kI (fun r3 σr3 H locs hp hG hS => ?_))
          obtain ⟨⟨hr3, kr3⟩, rfl⟩ := hp
          refine lv_istore_n (lv' := [(3, .int (iI r3)), (4, .int (iI i9)), (0, .ref (b 82)), (1, .int (iI sp)), (2, .int (iI n))]) hx hb dX0_often_24 rfl hl (by decide) rfl (fun ls hl => ?_)
          refine g_iinc (lv' := [(4, .int (iI (i9 + 1))), (3, .int (iI r3)), (0, .ref (b 82)), (1, .int (iI sp)), (2, .int (iI n))]) hx hb dX0_often_25 hl (k := 1) rfl (by decide) rfl (fun ls hl => ?_)
          refine lv_goto (tgt := 5) hx hb dX0_often_28 (by decide) ?_
          exact ih_5 r3 (i9 + 1) (k - 1) (by omega) (by omega) (by omega) (by rw [← hi5_2, hr3]; exact goZ_s (by omega) (by omega))  _ _ _ hG hS (lv_sub hl [0, 1, 2, 3, 4] rfl)
  exact loop_5 _ sp 0 n.toNat (Nat.lt_succ_self _) (by omega) (by omega) (rfl)  _ _ _ hG hS (lv_sub hl [0, 1, 2, 3, 4] rfl)

set_option maxHeartbeats 4000000 in
theorem mX0_often_3 (l : Launch) (X : gX) (σ : gS) (b : Nat → Nat) (U : Nat → Int → Int) (J : Nat → Int) (R : Int → Option Nat) (hX : XW X σ b U J R) (hT : okT (U 20)) (sp : Int) (n : Int) (h0 : 0 ≤ sp ∧ sp ≤ 1023) (h1 : 0 ≤ n ∧ n ≤ 99) : gMet l X yX0_often cX0_often 5 (some .int) 10 0 0 234 σ [.ref (b 83), .int (iI sp), .int (iI n)] (oI (fun r σ' => (r = goZ (U 20) 1 n.toNat sp ∧ (r = -7 ∨ (0 ≤ r ∧ r ≤ 1023))) ∧ σ = σ')) := by
  refine gMet.of (by decide) (Nat.le_of_ble_eq_true rfl) ?_
  intro pp ee ss mm args below meth cd Q H locs ls hargs hx hb hr hlocks hml hown hnm hts hK hG hS hQ hl
  have hown : ss.vm.findClass RX0 = some mm.cls := hown
  have hl : lv_has ls 5 [(0, .ref (b 83)), (1, .int (iI sp)), (2, .int (iI n))] := hl
  refine lv_iload_n hx hb dX0_often_0 rfl (lv_at hl 1 rfl) ?_
  refine lv_istore_n (lv' := [(3, .int (iI sp)), (0, .ref (b 83)), (1, .int (iI sp)), (2, .int (iI n))]) hx hb dX0_often_1 rfl hl (by decide) rfl (fun ls hl => ?_)
  refine g_iconst hx hb dX0_often_2 ?_
  refine lv_istore (lv' := [(4, .int (iI 0)), (3, .int (iI sp)), (0, .ref (b 83)), (1, .int (iI sp)), (2, .int (iI n))]) hx hb dX0_often_3 hl (by decide) rfl (fun ls hl => ?_)
  have loop_5 : ∀ (nF : Nat) (a9 : Int) (i9 : Int) (k : Nat), (k : Nat) < nF → (0 ≤ i9 ∧ i9 + (k : Int) = n) → (a9 = -7 ∨ (0 ≤ a9 ∧ a9 ≤ 1023)) → (goZ (U 20) 1 k a9 = goZ (U 20) 1 n.toNat sp) → ∀ (H : Heap) (locs : List Loc) (ls : Array Slot), gSat X σ H → va_S (gA X) ss.heap H locs → lv_has ls 5 [(4, .int (iI i9)), (3, .int (iI a9)), (0, .ref (b 83)), (1, .int (iI sp)), (2, .int (iI n))] → W pp l ee (gR 10 0 0 234) ss mm args below meth cd H locs 0 0 Q (F0 mm 5 ls []) := by
    intro nF
    induction nF with
    | zero => intro a9 i9 k hm; exact absurd hm (Nat.not_lt_zero _)
    | succ nF ih_5 =>
      intro a9 i9 k hm hi5_0 hi5_1 hi5_2 H locs ls hG hS hl
      refine lv_iload hx hb dX0_often_5 (lv_at hl 0 rfl) ?_
      refine lv_iload_n hx hb dX0_often_7 rfl (lv_at hl 4 rfl) ?_
      refine g_icmp_ge (tgt := 31) hx hb dX0_often_8 (by decide) (by omega) (by omega) (fun cq1 => ?_) (fun cq1 => ?_)
      · refine lv_iload_n hx hb dX0_often_31 rfl (lv_at hl 1 rfl) ?_
        exact g_iret hx hb hr hlocks hQ hG hS (Nat.zero_le _) (Nat.zero_le _) ⟨_, rfl, ⟨(by rw [← hi5_2]; first | (rw [show k = 0 by omega]; rfl) | (rename_i hq; rw [show a9 = -7 by omega]; exact (goZ_lost _ _ _).symm)), (by omega)⟩, rfl⟩ dX0_often_32
      · refine lv_iload_n hx hb dX0_often_11 rfl (lv_at hl 1 rfl) ?_
        refine g_bipush hx hb dX0_often_12 (by decide) ?_
        refine g_icmp_eq (tgt := 31) hx hb dX0_often_14 (by decide) (by omega) (by omega) (fun cq2 => ?_) (fun cq2 => ?_)
        · refine lv_iload_n hx hb dX0_often_31 rfl (lv_at hl 1 rfl) ?_
          exact g_iret hx hb hr hlocks hQ hG hS (Nat.zero_le _) (Nat.zero_le _) ⟨_, rfl, ⟨(by rw [← hi5_2]; first | (rw [show k = 0 by omega]; rfl) | (rename_i hq; rw [show a9 = -7 by omega]; exact (goZ_lost _ _ _).symm)), (by omega)⟩, rfl⟩ dX0_often_32
        · refine lv_aload_n hx hb dX0_often_17 rfl (lv_at hl 2 rfl) ?_
          refine lv_iload_n hx hb dX0_often_18 rfl (lv_at hl 1 rfl) ?_
          refine g_lc3 (rest := []) hx hb hml hown hts hK hG hS hl.1 (mX0_stepsBack l X σ b U J R hX hT a9 (by omega)) hX.c83 hX.c0 q400 (fun v σ' h => by obtain ⟨r, rfl, -⟩ := h; exact ⟨_, rfl⟩) ⟨Nat.le_of_ble_eq_true rfl, Nat.le_of_ble_eq_true rfl⟩ ⟨Nat.le_of_ble_eq_true rfl, Nat.le_of_ble_eq_true rfl⟩ (Nat.le_of_ble_eq_true rfl) dX0_often_19 (kI (fun r3 σr3 H locs hp hG hS => ?_))
          obtain ⟨⟨hr3, kr3⟩, rfl⟩ := hp
          refine lv_istore_n (lv' := [(3, .int (iI r3)), (4, .int (iI i9)), (0, .ref (b 83)), (1, .int (iI sp)), (2, .int (iI n))]) hx hb dX0_often_24 rfl hl (by decide) rfl (fun ls hl => ?_)
          refine g_iinc (lv' := [(4, .int (iI (i9 + 1))), (3, .int (iI r3)), (0, .ref (b 83)), (1, .int (iI sp)), (2, .int (iI n))]) hx hb dX0_often_25 hl (k := 1) rfl (by decide) rfl (fun ls hl => ?_)
          refine lv_goto (tgt := 5) hx hb dX0_often_28 (by decide) ?_
          exact ih_5 r3 (i9 + 1) (k - 1) (by omega) (by omega) (by omega) (by rw [← hi5_2, hr3]; exact goZ_s (by omega) (by omega))  _ _ _ hG hS (lv_sub hl [0, 1, 2, 3, 4] rfl)
  exact loop_5 _ sp 0 n.toNat (Nat.lt_succ_self _) (by omega) (by omega) (rfl)  _ _ _ hG hS (lv_sub hl [0, 1, 2, 3, 4] rfl)

set_option maxHeartbeats 4000000 in
theorem mX0_behind (l : Launch) (X : gX) (σ : gS) (b : Nat → Nat) (U : Nat → Int → Int) (J : Nat → Int) (R : Int → Option Nat) (hX : XW X σ b U J R) (hT : okT (U 20)) (x : Int) (y : Int) (n : Int) (h0 : -2147483648 ≤ x ∧ x ≤ 2147483647) (h1 : -2147483648 ≤ y ∧ y ≤ 2147483647) (h2 : -2147483648 ≤ n ∧ n ≤ 2147483647) : gMet l X yX0_behind cX0_behind 4 (some .int) 11 0 0 258 σ [.ref (b 0), .int (iI x), .int (iI y), .int (iI n)] (oI (fun r σ' => r = behZ (U 20) x y n ∧ σ = σ')) := by
  refine gMet.of (by decide) (Nat.le_of_ble_eq_true rfl) ?_
  intro pp ee ss mm args below meth cd Q H locs ls hargs hx hb hr hlocks hml hown hnm hts hK hG hS hQ hl
  have hown : ss.vm.findClass RX0 = some mm.cls := hown
  have hl : lv_has ls 4 [(0, .ref (b 0)), (1, .int (iI x)), (2, .int (iI y)), (3, .int (iI n))] := hl
  refine lv_iload_n hx hb dX0_behind_0 rfl (lv_at hl 1 rfl) ?_
  refine lv_iload_n hx hb dX0_behind_1 rfl (lv_at hl 2 rfl) ?_
  refine g_callS (As := [.int (iI x), .int (iI y)]) (rest := []) 2 hx hb hml hown hts hK hG hS hl.1 (mX0_isSpot l X σ  x y (by omega) (by omega)) q591 q592 q69 q593 (by decide +kernel) rfl ⟨Nat.le_of_ble_eq_true rfl, Nat.le_of_ble_eq_true rfl⟩ ⟨Nat.le_of_ble_eq_true rfl, Nat.le_of_ble_eq_true rfl⟩ (Nat.le_of_ble_eq_true rfl) dX0_behind_2 (kI (fun r1 σr1 H locs hp hG hS => ?_))
  obtain ⟨hr1, rfl⟩ := hp
  refine g_if_ne (tgt := 10) hx hb dX0_behind_5 (by decide) (by omega) (fun cq2 => ?_) (fun cq2 => ?_)
  · refine lv_iload_n hx hb dX0_behind_10 rfl (lv_at hl 3 rfl) ?_
    refine g_i2l hx hb dX0_behind_11 (by omega) ?_
    refine g_ldc2 hx hb (-99) hown (hts _ q630) (by decide) dX0_behind_12 ?_
    refine g_ldc2 hx hb (99) hown (hts _ q631) (by decide) dX0_behind_15 ?_
    refine g_callS (As := [.long (lI n), .long (lI (-99)), .long (lI (99))]) (rest := []) 3 hx hb hml hown hts hK hG hS hl.1 (mX0_isIn l X σ  n (-99) (99) (by omega) (by omega) (by omega)) q494 q495 q69 q496 (by decide +kernel) rfl ⟨Nat.le_of_ble_eq_true rfl, Nat.le_of_ble_eq_true rfl⟩ ⟨Nat.le_of_ble_eq_true rfl, Nat.le_of_ble_eq_true rfl⟩ (Nat.le_of_ble_eq_true rfl) dX0_behind_18 (kI (fun r3 σr3 H locs hp hG hS => ?_))
    obtain ⟨hr3, rfl⟩ := hp
    refine g_if_ne (tgt := 27) hx hb dX0_behind_21 (by decide) (by omega) (fun cq4 => ?_) (fun cq4 => ?_)
    · refine lv_iload_n hx hb dX0_behind_27 rfl (lv_at hl 3 rfl) ?_
      refine g_if_ge (tgt := 50) hx hb dX0_behind_28 (by decide) (by omega) (fun cq5 => ?_) (fun cq5 => ?_)
      · refine lv_aload_n hx hb dX0_behind_50 rfl (lv_at hl 0 rfl) ?_
        refine g_get (C := RX0) (T := TX0) (N := 20) (v := .ref (b 4)) hx hb hts hown hK hG hX.c0 rfl in_X0 4 (by decide) q424 rfl rfl dX0_behind_51 ?_
        refine g_iconst hx hb dX0_behind_54 ?_
        refine g_aald (v := .ref (b 82)) hx hb 4 hK hG hX.c4 rfl dX0_behind_55 (by omega) (rfl) ?_
        refine lv_iload_n hx hb dX0_behind_56 rfl (lv_at hl 1 rfl) ?_
        refine lv_iload_n hx hb dX0_behind_57 rfl (lv_at hl 2 rfl) ?_
        refine g_callS (As := [.int (iI x), .int (iI y)]) (rest := [.ref (b 82)]) 2 hx hb hml hown hts hK hG hS hl.1 (mX0_codeOf l X σ  x y (by omega) (by omega)) q387 q388 q69 q389 (by decide +kernel) rfl ⟨Nat.le_of_ble_eq_true rfl, Nat.le_of_ble_eq_true rfl⟩ ⟨Nat.le_of_ble_eq_true rfl, Nat.le_of_ble_eq_true rfl⟩ (Nat.le_of_ble_eq_true rfl) dX0_behind_58 (kI (fun r6 σr6 H locs hp hG hS => ?_))
        obtain ⟨hr6, rfl⟩ := hp
        refine lv_iload_n hx hb dX0_behind_61 rfl (lv_at hl 3 rfl) ?_
        refine g_callS (As := [.ref (b 82), .int (iI r6), .int (iI n)]) (rest := []) 3 hx hb hml hown hts hK hG hS hl.1 (mX0_often_2 l X σ b U J R hX hT r6 n (by omega) (by omega)) q632 q633 q69 q634 (by decide +kernel) rfl ⟨Nat.le_of_ble_eq_true rfl, Nat.le_of_ble_eq_true rfl⟩ ⟨Nat.le_of_ble_eq_true rfl, Nat.le_of_ble_eq_true rfl⟩ (Nat.le_of_ble_eq_true rfl) dX0_behind_62 (kI (fun r7 σr7 H locs hp hG hS => ?_))
        obtain ⟨⟨hr7, kr7⟩, rfl⟩ := hp
        exact g_iret hx hb hr hlocks hQ hG hS (Nat.zero_le _) (Nat.zero_le _) ⟨_, rfl, (by unfold behZ; rw [if_pos (by omega), if_pos (by omega), if_neg (by omega), hr7, show n.natAbs = (n).toNat by omega]; simp only [*]), rfl⟩ dX0_behind_65
      · refine lv_aload_n hx hb dX0_behind_31 rfl (lv_at hl 0 rfl) ?_
        refine g_get (C := RX0) (T := TX0) (N := 20) (v := .ref (b 4)) hx hb hts hown hK hG hX.c0 rfl in_X0 4 (by decide) q424 rfl rfl dX0_behind_32 ?_
        refine g_iconst hx hb dX0_behind_35 ?_
        refine g_aald (v := .ref (b 83)) hx hb 4 hK hG hX.c4 rfl dX0_behind_36 (by omega) (rfl) ?_
        refine lv_iload_n hx hb dX0_behind_37 rfl (lv_at hl 1 rfl) ?_
        refine lv_iload_n hx hb dX0_behind_38 rfl (lv_at hl 2 rfl) ?_
        refine g_callS (As := [.int (iI x), .int (iI y)]) (rest := [.ref (b 83)]) 2 hx hb hml hown hts hK hG hS hl.1 (mX0_codeOf l X σ  x y (by omega) (by omega)) q387 q388 q69 q389 (by decide +kernel) rfl ⟨Nat.le_of_ble_eq_true rfl, Nat.le_of_ble_eq_true rfl⟩ ⟨Nat.le_of_ble_eq_true rfl, Nat.le_of_ble_eq_true rfl⟩ (Nat.le_of_ble_eq_true rfl) dX0_behind_39 (kI (fun r8 σr8 H locs hp hG hS => ?_))
        obtain ⟨hr8, rfl⟩ := hp
        refine lv_iload_n hx hb dX0_behind_42 rfl (lv_at hl 3 rfl) ?_
        refine g_ineg hx hb dX0_behind_43 ?_
        refine g_callS (As := [.ref (b 83), .int (iI r8), .int (iI (-n))]) (rest := []) 3 hx hb hml hown hts hK hG hS hl.1 (mX0_often_3 l X σ b U J R hX hT r8 (-n) (by omega) (by omega)) q632 q633 q69 q634 (by decide +kernel) rfl ⟨Nat.le_of_ble_eq_true rfl, Nat.le_of_ble_eq_true rfl⟩ ⟨Nat.le_of_ble_eq_true rfl, Nat.le_of_ble_eq_true rfl⟩ (Nat.le_of_ble_eq_true rfl) dX0_behind_44 (kI (fun r9 σr9 H locs hp hG hS => ?_))
        obtain ⟨⟨hr9, kr9⟩, rfl⟩ := hp
        refine lv_goto (tgt := 65) hx hb dX0_behind_47 (by decide) ?_
        exact g_iret hx hb hr hlocks hQ hG hS (Nat.zero_le _) (Nat.zero_le _) ⟨_, rfl, (by unfold behZ; rw [if_pos (by omega), if_pos (by omega), if_pos (by omega), hr9, show n.natAbs = (-n).toNat by omega]; simp only [*]), rfl⟩ dX0_behind_65
    · refine g_bipush hx hb dX0_behind_24 (by decide) ?_
      exact g_iret hx hb hr hlocks hQ hG hS (Nat.zero_le _) (Nat.zero_le _) ⟨_, rfl, (by unfold behZ; rw [if_pos (by omega), if_neg (by omega)]), rfl⟩ dX0_behind_26
  · refine g_iconst hx hb dX0_behind_8 ?_
    exact g_iret hx hb hr hlocks hQ hG hS (Nat.zero_le _) (Nat.zero_le _) ⟨_, rfl, (by unfold behZ; rw [if_neg (by omega)]), rfl⟩ dX0_behind_9

set_option maxHeartbeats 4000000 in
theorem mX0_periodOf (l : Launch) (X : gX) (σ : gS) (b : Nat → Nat) (U : Nat → Int → Int) (J : Nat → Int) (R : Int → Option Nat) (hX : XW X σ b U J R) (hT : okT (U 20)) (sp : Int) (h0 : 0 ≤ sp ∧ sp ≤ 1023) : gMet l X yX0_periodOf cX0_periodOf 4 (some .int) 9 0 0 213 σ [.ref (b 0), .int (iI sp)] (oI (fun r σ' => (r = perZ (U 20) sp ∧ (r = -7 ∨ r = -5 ∨ (1 ≤ r ∧ r ≤ 1024))) ∧ σ = σ')) := by
  refine gMet.of (by decide) (Nat.le_of_ble_eq_true rfl) ?_
  intro pp ee ss mm args below meth cd Q H locs ls hargs hx hb hr hlocks hml hown hnm hts hK hG hS hQ hl
  have hown : ss.vm.findClass RX0 = some mm.cls := hown
  have hl : lv_has ls 4 [(0, .ref (b 0)), (1, .int (iI sp))] := hl
  refine lv_iload_n hx hb dX0_periodOf_0 rfl (lv_at hl 1 rfl) ?_
  refine lv_istore_n (lv' := [(2, .int (iI sp)), (0, .ref (b 0)), (1, .int (iI sp))]) hx hb dX0_periodOf_1 rfl hl (by decide) rfl (fun ls hl => ?_)
  refine g_iconst hx hb dX0_periodOf_2 ?_
  refine lv_istore_n (lv' := [(3, .int (iI 1)), (2, .int (iI sp)), (0, .ref (b 0)), (1, .int (iI sp))]) hx hb dX0_periodOf_3 rfl hl (by decide) rfl (fun ls hl => ?_)
  have loop_4 : ∀ (nF : Nat) (at9 : Int) (n9 : Int) (f : Nat), (f : Nat) < nF → (0 ≤ at9 ∧ at9 ≤ 1023) → (n9 + f = 1025) → (f ≤ 1024) → (perA (U 20) sp f n9 at9 = perZ (U 20) sp) → ∀ (H : Heap) (locs : List Loc) (ls : Array Slot), gSat X σ H → va_S (gA X) ss.heap H locs → lv_has ls 4 [(3, .int (iI n9)), (2, .int (iI at9)), (0, .ref (b 0)), (1, .int (iI sp))] → W pp l ee (gR 9 0 0 213) ss mm args below meth cd H locs 0 0 Q (F0 mm 4 ls []) := by
    intro nF
    induction nF with
    | zero => intro at9 n9 f hm; exact absurd hm (Nat.not_lt_zero _)
    | succ nF ih_4 =>
      intro at9 n9 f hm hi4_0 hi4_1 hi4_2 hi4_3 H locs ls hG hS hl
      refine lv_iload_n hx hb dX0_periodOf_4 rfl (lv_at hl 0 rfl) ?_
      refine g_sipush hx hb dX0_periodOf_5 (by decide) ?_
      refine g_icmp_gt (tgt := 47) hx hb dX0_periodOf_8 (by decide) (by omega) (by omega) (fun cq1 => ?_) (fun cq1 => ?_)
      · refine g_bipush hx hb dX0_periodOf_47 (by decide) ?_
        exact g_iret hx hb hr hlocks hQ hG hS (Nat.zero_le _) (Nat.zero_le _) ⟨_, rfl, ⟨(by rw [← hi4_3]; exact (perA_0 (by omega)).symm), (by omega)⟩, rfl⟩ dX0_periodOf_49
      · refine lv_aload_n hx hb dX0_periodOf_11 rfl (lv_at hl 2 rfl) ?_
        refine lv_iload_n hx hb dX0_periodOf_12 rfl (lv_at hl 1 rfl) ?_
        refine g_callV (As := [.int (iI at9)]) (rest := []) 1 hx hb hml hown hts hK hG hS hl.1 (mX0_steps l X σ b U J R hX hT at9 (by omega)) hX.c0 rfl q643 q394 qs7 q69 q395 (by decide +kernel) rfl ⟨Nat.le_of_ble_eq_true rfl, Nat.le_of_ble_eq_true rfl⟩ ⟨Nat.le_of_ble_eq_true rfl, Nat.le_of_ble_eq_true rfl⟩ (Nat.le_of_ble_eq_true rfl) dX0_periodOf_13 (kI (fun r2 σr2 H locs hp hG hS => ?_))
        obtain ⟨⟨hr2, kr2⟩, rfl⟩ := hp
        refine lv_istore_n (lv' := [(2, .int (iI r2)), (3, .int (iI n9)), (0, .ref (b 0)), (1, .int (iI sp))]) hx hb dX0_periodOf_16 rfl hl (by decide) rfl (fun ls hl => ?_)
        refine lv_iload_n hx hb dX0_periodOf_17 rfl (lv_at hl 0 rfl) ?_
        refine g_bipush hx hb dX0_periodOf_18 (by decide) ?_
        refine g_icmp_eq (tgt := 28) hx hb dX0_periodOf_20 (by decide) (by omega) (by omega) (fun cq3 => ?_) (fun cq3 => ?_)
        · refine lv_iload_n hx hb dX0_periodOf_28 rfl (lv_at hl 0 rfl) ?_
          refine g_bipush hx hb dX0_periodOf_29 (by decide) ?_
          refine g_icmp_ne (tgt := 39) hx hb dX0_periodOf_31 (by decide) (by omega) (by omega) (fun cq4 => by omega) (fun cq4 => ?_)
          refine g_bipush hx hb dX0_periodOf_34 (by decide) ?_
          refine lv_goto (tgt := 40) hx hb dX0_periodOf_36 (by decide) ?_
          exact g_iret hx hb hr hlocks hQ hG hS (Nat.zero_le _) (Nat.zero_le _) ⟨_, rfl, ⟨(by rw [← hi4_3]; exact (perA_l (by omega) (by omega)).symm), (by omega)⟩, rfl⟩ dX0_periodOf_40
        · refine lv_iload_n hx hb dX0_periodOf_23 rfl (lv_at hl 0 rfl) ?_
          refine lv_iload_n hx hb dX0_periodOf_24 rfl (lv_at hl 3 rfl) ?_
          refine g_icmp_ne (tgt := 41) hx hb dX0_periodOf_25 (by decide) (by omega) (by omega) (fun cq5 => ?_) (fun cq5 => ?_)
          · refine g_iinc (lv' := [(3, .int (iI (n9 + 1))), (2, .int (iI r2)), (0, .ref (b 0)), (1, .int (iI sp))]) hx hb dX0_periodOf_41 hl (k := 1) rfl (by decide) rfl (fun ls hl => ?_)
            refine lv_goto (tgt := 4) hx hb dX0_periodOf_44 (by decide) ?_
            exact ih_4 r2 (n9 + 1) (f - 1) (by omega) (by omega) (by omega) (by omega) (by rw [← hi4_3, hr2]; exact perA_s (by omega) (by omega) (by omega))  _ _ _ hG hS (lv_sub hl [0, 1, 2, 3] rfl)
          · refine lv_iload_n hx hb dX0_periodOf_28 rfl (lv_at hl 0 rfl) ?_
            refine g_bipush hx hb dX0_periodOf_29 (by decide) ?_
            refine g_icmp_ne (tgt := 39) hx hb dX0_periodOf_31 (by decide) (by omega) (by omega) (fun cq6 => ?_) (fun cq6 => by omega)
            refine lv_iload_n hx hb dX0_periodOf_39 rfl (lv_at hl 1 rfl) ?_
            exact g_iret hx hb hr hlocks hQ hG hS (Nat.zero_le _) (Nat.zero_le _) ⟨_, rfl, ⟨(by rw [← hi4_3]; exact (perA_b (by omega) (by omega) (by omega)).symm), (by omega)⟩, rfl⟩ dX0_periodOf_40
  exact loop_4 _ sp 1 1024 (Nat.lt_succ_self _) (by omega) (by omega) (by omega) (rfl)  _ _ _ hG hS (lv_sub hl [0, 1, 2, 3] rfl)

set_option maxHeartbeats 4000000 in
theorem mX0_period (l : Launch) (X : gX) (σ : gS) (b : Nat → Nat) (U : Nat → Int → Int) (J : Nat → Int) (R : Int → Option Nat) (hX : XW X σ b U J R) (hT : okT (U 20)) (x : Int) (y : Int) (h0 : -2147483648 ≤ x ∧ x ≤ 2147483647) (h1 : -2147483648 ≤ y ∧ y ≤ 2147483647) : gMet l X yX0_period cX0_period 3 (some .int) 10 0 0 236 σ [.ref (b 0), .int (iI x), .int (iI y)] (oI (fun r σ' => r = (if okSp x y then perZ (U 20) (32 * x + y) else -1) ∧ σ = σ')) := by
  refine gMet.of (by decide) (Nat.le_of_ble_eq_true rfl) ?_
  intro pp ee ss mm args below meth cd Q H locs ls hargs hx hb hr hlocks hml hown hnm hts hK hG hS hQ hl
  have hown : ss.vm.findClass RX0 = some mm.cls := hown
  have hl : lv_has ls 3 [(0, .ref (b 0)), (1, .int (iI x)), (2, .int (iI y))] := hl
  refine lv_iload_n hx hb dX0_period_0 rfl (lv_at hl 1 rfl) ?_
  refine lv_iload_n hx hb dX0_period_1 rfl (lv_at hl 2 rfl) ?_
  refine g_callS (As := [.int (iI x), .int (iI y)]) (rest := []) 2 hx hb hml hown hts hK hG hS hl.1 (mX0_isSpot l X σ  x y (by omega) (by omega)) q591 q592 q69 q593 (by decide +kernel) rfl ⟨Nat.le_of_ble_eq_true rfl, Nat.le_of_ble_eq_true rfl⟩ ⟨Nat.le_of_ble_eq_true rfl, Nat.le_of_ble_eq_true rfl⟩ (Nat.le_of_ble_eq_true rfl) dX0_period_2 (kI (fun r1 σr1 H locs hp hG hS => ?_))
  obtain ⟨hr1, rfl⟩ := hp
  refine g_if_eq (tgt := 20) hx hb dX0_period_5 (by decide) (by omega) (fun cq2 => ?_) (fun cq2 => ?_)
  · refine g_iconst hx hb dX0_period_20 ?_
    exact g_iret hx hb hr hlocks hQ hG hS (Nat.zero_le _) (Nat.zero_le _) ⟨_, rfl, (by rw [if_neg (by omega)]), rfl⟩ dX0_period_21
  · refine lv_aload_n hx hb dX0_period_8 rfl (lv_at hl 0 rfl) ?_
    refine lv_iload_n hx hb dX0_period_9 rfl (lv_at hl 1 rfl) ?_
    refine lv_iload_n hx hb dX0_period_10 rfl (lv_at hl 2 rfl) ?_
    refine g_callS (As := [.int (iI x), .int (iI y)]) (rest := [.ref (b 0)]) 2 hx hb hml hown hts hK hG hS hl.1 (mX0_codeOf l X σ  x y (by omega) (by omega)) q387 q388 q69 q389 (by decide +kernel) rfl ⟨Nat.le_of_ble_eq_true rfl, Nat.le_of_ble_eq_true rfl⟩ ⟨Nat.le_of_ble_eq_true rfl, Nat.le_of_ble_eq_true rfl⟩ (Nat.le_of_ble_eq_true rfl) dX0_period_11 (kI (fun r3 σr3 H locs hp hG hS => ?_))
    obtain ⟨hr3, rfl⟩ := hp
    refine g_callV (As := [.int (iI r3)]) (rest := []) 1 hx hb hml hown hts hK hG hS hl.1 (mX0_periodOf l X σ b U J R hX hT r3 (by omega)) hX.c0 rfl q639 q641 qs19 q69 q642 (by decide +kernel) rfl ⟨Nat.le_of_ble_eq_true rfl, Nat.le_of_ble_eq_true rfl⟩ ⟨Nat.le_of_ble_eq_true rfl, Nat.le_of_ble_eq_true rfl⟩ (Nat.le_of_ble_eq_true rfl) dX0_period_14 (kI (fun r4 σr4 H locs hp hG hS => ?_))
    obtain ⟨⟨hr4, kr4⟩, rfl⟩ := hp
    refine lv_goto (tgt := 21) hx hb dX0_period_17 (by decide) ?_
    exact g_iret hx hb hr hlocks hQ hG hS (Nat.zero_le _) (Nat.zero_le _) ⟨_, rfl, (by rw [if_pos (by omega), hr4]; simp only [*]), rfl⟩ dX0_period_21

set_option maxHeartbeats 4000000 in
theorem mX0_untilLost_0 (l : Launch) (X : gX) (σ : gS) (b : Nat → Nat) (U : Nat → Int → Int) (J : Nat → Int) (R : Int → Option Nat) (hX : XW X σ b U J R) (hT : okT (U 20)) (sp : Int) (n : Int) (h0 : 0 ≤ sp ∧ sp ≤ 1023) (h1 : 0 ≤ n ∧ n ≤ 9) : gMet l X yX0_untilLost cX0_untilLost 6 (some .int) 7 0 0 169 σ [.ref (b 80), .int (iI sp), .int (iI n)] (oI (fun r σ' => (r = unG (trnZ (U 20) 0) n.toNat sp ∧ (0 ≤ r ∧ r ≤ 1023)) ∧ σ = σ')) := by
  refine gMet.of (by decide) (Nat.le_of_ble_eq_true rfl) ?_
  intro pp ee ss mm args below meth cd Q H locs ls hargs hx hb hr hlocks hml hown hnm hts hK hG hS hQ hl
  have hown : ss.vm.findClass RX0 = some mm.cls := hown
  have hl : lv_has ls 6 [(0, .ref (b 80)), (1, .int (iI sp)), (2, .int (iI n))] := hl
  refine lv_iload_n hx hb dX0_untilLost_0 rfl (lv_at hl 1 rfl) ?_
  refine lv_istore_n (lv' := [(3, .int (iI sp)), (0, .ref (b 80)), (1, .int (iI sp)), (2, .int (iI n))]) hx hb dX0_untilLost_1 rfl hl (by decide) rfl (fun ls hl => ?_)
  refine g_iconst hx hb dX0_untilLost_2 ?_
  refine lv_istore (lv' := [(4, .int (iI 0)), (3, .int (iI sp)), (0, .ref (b 80)), (1, .int (iI sp)), (2, .int (iI n))]) hx hb dX0_untilLost_3 hl (by decide) rfl (fun ls hl => ?_)
  have loop_5 : ∀ (nF : Nat) (a9 : Int) (i9 : Int) (k : Nat), (k : Nat) < nF → (0 ≤ i9 ∧ i9 + (k : Int) = n) → (0 ≤ a9 ∧ a9 ≤ 1023) → (unG (trnZ (U 20) 0) k a9 = unG (trnZ (U 20) 0) n.toNat sp) → ∀ (H : Heap) (locs : List Loc) (ls : Array Slot), gSat X σ H → va_S (gA X) ss.heap H locs → lv_has ls 6 [(4, .int (iI i9)), (3, .int (iI a9)), (0, .ref (b 80)), (1, .int (iI sp)), (2, .int (iI n))] → W pp l ee (gR 7 0 0 169) ss mm args below meth cd H locs 0 0 Q (F0 mm 5 ls []) := by
    intro nF
    induction nF with
    | zero => intro a9 i9 k hm; exact absurd hm (Nat.not_lt_zero _)
    | succ nF ih_5 =>
      intro a9 i9 k hm hi5_0 hi5_1 hi5_2 H locs ls hG hS hl
      refine lv_iload hx hb dX0_untilLost_5 (lv_at hl 0 rfl) ?_
      refine lv_iload_n hx hb dX0_untilLost_7 rfl (lv_at hl 4 rfl) ?_
      refine g_icmp_ge (tgt := 38) hx hb dX0_untilLost_8 (by decide) (by omega) (by omega) (fun cq1 => ?_) (fun cq1 => ?_)
      · refine lv_iload_n hx hb dX0_untilLost_38 rfl (lv_at hl 1 rfl) ?_
        exact g_iret hx hb hr hlocks hQ hG hS (Nat.zero_le _) (Nat.zero_le _) ⟨_, rfl, ⟨(by rw [← hi5_2, show k = 0 by omega]; rfl), (by omega)⟩, rfl⟩ dX0_untilLost_39
      · refine lv_aload_n hx hb dX0_untilLost_11 rfl (lv_at hl 2 rfl) ?_
        refine lv_iload_n hx hb dX0_untilLost_12 rfl (lv_at hl 1 rfl) ?_
        refine g_lc0 (rest := []) hx hb hml hown hts hK hG hS hl.1 (mX0_swapsX l X σ b U J R hX hT a9 (by omega)) hX.c80 hX.c0 q400 (fun v σ' h => by obtain ⟨r, rfl, -⟩ := h; exact ⟨_, rfl⟩) ⟨Nat.le_of_ble_eq_true rfl, Nat.le_of_ble_eq_true rfl⟩ ⟨Nat.le_of_ble_eq_true rfl, Nat.le_of_ble_eq_true rfl⟩ (Nat.le_of_ble_eq_true rfl) dX0_untilLost_13 (kI (fun r2 σr2 H locs hp hG hS => ?_))
        obtain ⟨⟨hr2, kr2⟩, rfl⟩ := hp
        have htr2 : r2 = trnZ (U 20) 0 a9 := hr2
        refine lv_istore (lv' := [(5, .int (iI r2)), (4, .int (iI i9)), (3, .int (iI a9)), (0, .ref (b 80)), (1, .int (iI sp)), (2, .int (iI n))]) hx hb dX0_untilLost_18 hl (by decide) rfl (fun ls hl => ?_)
        refine lv_iload hx hb dX0_untilLost_20 (lv_at hl 0 rfl) ?_
        refine g_bipush hx hb dX0_untilLost_22 (by decide) ?_
        refine g_icmp_ne (tgt := 29) hx hb dX0_untilLost_24 (by decide) (by omega) (by omega) (fun cq3 => ?_) (fun cq3 => ?_)
        · refine lv_iload hx hb dX0_untilLost_29 (lv_at hl 0 rfl) ?_
          refine lv_istore_n (lv' := [(3, .int (iI r2)), (5, .int (iI r2)), (4, .int (iI i9)), (0, .ref (b 80)), (1, .int (iI sp)), (2, .int (iI n))]) hx hb dX0_untilLost_31 rfl hl (by decide) rfl (fun ls hl => ?_)
          refine g_iinc (lv' := [(4, .int (iI (i9 + 1))), (3, .int (iI r2)), (5, .int (iI r2)), (0, .ref (b 80)), (1, .int (iI sp)), (2, .int (iI n))]) hx hb dX0_untilLost_32 hl (k := 2) rfl (by decide) rfl (fun ls hl => ?_)
          refine lv_goto (tgt := 5) hx hb dX0_untilLost_35 (by decide) ?_
          exact ih_5 r2 (i9 + 1) (k - 1) (by omega) (by omega) (by omega) (by rw [← hi5_2, htr2]; exact unG_s (by rw [← htr2]; omega) (by omega))  _ _ _ hG hS (lv_sub hl [0, 1, 3, 4, 5] rfl)
        · refine lv_iload_n hx hb dX0_untilLost_27 rfl (lv_at hl 2 rfl) ?_
          exact g_iret hx hb hr hlocks hQ hG hS (Nat.zero_le _) (Nat.zero_le _) ⟨_, rfl, ⟨(by rw [← hi5_2]; exact (unG_l (by rw [← htr2]; omega)).symm), (by omega)⟩, rfl⟩ dX0_untilLost_28
  exact loop_5 _ sp 0 n.toNat (Nat.lt_succ_self _) (by omega) (by omega) (rfl)  _ _ _ hG hS (lv_sub hl [0, 1, 2, 3, 4] rfl)

set_option maxHeartbeats 4000000 in
theorem mX0_untilLost_1 (l : Launch) (X : gX) (σ : gS) (b : Nat → Nat) (U : Nat → Int → Int) (J : Nat → Int) (R : Int → Option Nat) (hX : XW X σ b U J R) (hT : okT (U 20)) (sp : Int) (n : Int) (h0 : 0 ≤ sp ∧ sp ≤ 1023) (h1 : 0 ≤ n ∧ n ≤ 9) : gMet l X yX0_untilLost cX0_untilLost 6 (some .int) 7 0 0 169 σ [.ref (b 81), .int (iI sp), .int (iI n)] (oI (fun r σ' => (r = unG (trnZ (U 20) 1) n.toNat sp ∧ (0 ≤ r ∧ r ≤ 1023)) ∧ σ = σ')) := by
  refine gMet.of (by decide) (Nat.le_of_ble_eq_true rfl) ?_
  intro pp ee ss mm args below meth cd Q H locs ls hargs hx hb hr hlocks hml hown hnm hts hK hG hS hQ hl
  have hown : ss.vm.findClass RX0 = some mm.cls := hown
  have hl : lv_has ls 6 [(0, .ref (b 81)), (1, .int (iI sp)), (2, .int (iI n))] := hl
  refine lv_iload_n hx hb dX0_untilLost_0 rfl (lv_at hl 1 rfl) ?_
  refine lv_istore_n (lv' := [(3, .int (iI sp)), (0, .ref (b 81)), (1, .int (iI sp)), (2, .int (iI n))]) hx hb dX0_untilLost_1 rfl hl (by decide) rfl (fun ls hl => ?_)
  refine g_iconst hx hb dX0_untilLost_2 ?_
  refine lv_istore (lv' := [(4, .int (iI 0)), (3, .int (iI sp)), (0, .ref (b 81)), (1, .int (iI sp)), (2, .int (iI n))]) hx hb dX0_untilLost_3 hl (by decide) rfl (fun ls hl => ?_)
  have loop_5 : ∀ (nF : Nat) (a9 : Int) (i9 : Int) (k : Nat), (k : Nat) < nF → (0 ≤ i9 ∧ i9 + (k : Int) = n) → (0 ≤ a9 ∧ a9 ≤ 1023) → (unG (trnZ (U 20) 1) k a9 = unG (trnZ (U 20) 1) n.toNat sp) → ∀ (H : Heap) (locs : List Loc) (ls : Array Slot), gSat X σ H → va_S (gA X) ss.heap H locs → lv_has ls 6 [(4, .int (iI i9)), (3, .int (iI a9)), (0, .ref (b 81)), (1, .int (iI sp)), (2, .int (iI n))] → W pp l ee (gR 7 0 0 169) ss mm args below meth cd H locs 0 0 Q (F0 mm 5 ls []) := by
    intro nF
    induction nF with
    | zero => intro a9 i9 k hm; exact absurd hm (Nat.not_lt_zero _)
    | succ nF ih_5 =>
      intro a9 i9 k hm hi5_0 hi5_1 hi5_2 H locs ls hG hS hl
      refine lv_iload hx hb dX0_untilLost_5 (lv_at hl 0 rfl) ?_
      refine lv_iload_n hx hb dX0_untilLost_7 rfl (lv_at hl 4 rfl) ?_
      refine g_icmp_ge (tgt := 38) hx hb dX0_untilLost_8 (by decide) (by omega) (by omega) (fun cq1 => ?_) (fun cq1 => ?_)
      · refine lv_iload_n hx hb dX0_untilLost_38 rfl (lv_at hl 1 rfl) ?_
        exact g_iret hx hb hr hlocks hQ hG hS (Nat.zero_le _) (Nat.zero_le _) ⟨_, rfl, ⟨(by rw [← hi5_2, show k = 0 by omega]; rfl), (by omega)⟩, rfl⟩ dX0_untilLost_39
      · refine lv_aload_n hx hb dX0_untilLost_11 rfl (lv_at hl 2 rfl) ?_
        refine lv_iload_n hx hb dX0_untilLost_12 rfl (lv_at hl 1 rfl) ?_
        refine g_lc1 (rest := []) hx hb hml hown hts hK hG hS hl.1 (mX0_swapsY l X σ b U J R hX hT a9 (by omega)) hX.c81 hX.c0 q400 (fun v σ' h => by obtain ⟨r, rfl, -⟩ := h; exact ⟨_, rfl⟩) ⟨Nat.le_of_ble_eq_true rfl, Nat.le_of_ble_eq_true rfl⟩ ⟨Nat.le_of_ble_eq_true rfl, Nat.le_of_ble_eq_true rfl⟩ (Nat.le_of_ble_eq_true rfl) dX0_untilLost_13 (kI (fun r2 σr2 H locs hp hG hS => ?_))
        obtain ⟨⟨hr2, kr2⟩, rfl⟩ := hp
        have htr2 : r2 = trnZ (U 20) 1 a9 := hr2
        refine lv_istore (lv' := [(5, .int (iI r2)), (4, .int (iI i9)), (3, .int (iI a9)), (0, .ref (b 81)), (1, .int (iI sp)), (2, .int (iI n))]) hx hb dX0_untilLost_18 hl (by decide) rfl (fun ls hl => ?_)
        refine lv_iload hx hb dX0_untilLost_20 (lv_at hl 0 rfl) ?_
        refine g_bipush hx hb dX0_untilLost_22 (by decide) ?_
        refine g_icmp_ne (tgt := 29) hx hb dX0_untilLost_24 (by decide) (by omega) (by omega) (fun cq3 => ?_) (fun cq3 => ?_)
        · refine lv_iload hx hb dX0_untilLost_29 (lv_at hl 0 rfl) ?_
          refine lv_istore_n (lv' := [(3, .int (iI r2)), (5, .int (iI r2)), (4, .int (iI i9)), (0, .ref (b 81)), (1, .int (iI sp)), (2, .int (iI n))]) hx hb dX0_untilLost_31 rfl hl (by decide) rfl (fun ls hl => ?_)
          refine g_iinc (lv' := [(4, .int (iI (i9 + 1))), (3, .int (iI r2)), (5, .int (iI r2)), (0, .ref (b 81)), (1, .int (iI sp)), (2, .int (iI n))]) hx hb dX0_untilLost_32 hl (k := 2) rfl (by decide) rfl (fun ls hl => ?_)
          refine lv_goto (tgt := 5) hx hb dX0_untilLost_35 (by decide) ?_
          exact ih_5 r2 (i9 + 1) (k - 1) (by omega) (by omega) (by omega) (by rw [← hi5_2, htr2]; exact unG_s (by rw [← htr2]; omega) (by omega))  _ _ _ hG hS (lv_sub hl [0, 1, 3, 4, 5] rfl)
        · refine lv_iload_n hx hb dX0_untilLost_27 rfl (lv_at hl 2 rfl) ?_
          exact g_iret hx hb hr hlocks hQ hG hS (Nat.zero_le _) (Nat.zero_le _) ⟨_, rfl, ⟨(by rw [← hi5_2]; exact (unG_l (by rw [← htr2]; omega)).symm), (by omega)⟩, rfl⟩ dX0_untilLost_28
  exact loop_5 _ sp 0 n.toNat (Nat.lt_succ_self _) (by omega) (by omega) (rfl)  _ _ _ hG hS (lv_sub hl [0, 1, 2, 3, 4] rfl)

set_option maxHeartbeats 4000000 in
theorem mX0_untilLost_2 (l : Launch) (X : gX) (σ : gS) (b : Nat → Nat) (U : Nat → Int → Int) (J : Nat → Int) (R : Int → Option Nat) (hX : XW X σ b U J R) (hT : okT (U 20)) (sp : Int) (n : Int) (h0 : 0 ≤ sp ∧ sp ≤ 1023) (h1 : 0 ≤ n ∧ n ≤ 9) : gMet l X yX0_untilLost cX0_untilLost 6 (some .int) 10 0 0 234 σ [.ref (b 82), .int (iI sp), .int (iI n)] (oI (fun r σ' => (r = unG (trnZ (U 20) 2) n.toNat sp ∧ (0 ≤ r ∧ r ≤ 1023)) ∧ σ = σ')) := by
  refine gMet.of (by decide) (Nat.le_of_ble_eq_true rfl) ?_
  intro pp ee ss mm args below meth cd Q H locs ls hargs hx hb hr hlocks hml hown hnm hts hK hG hS hQ hl
  have hown : ss.vm.findClass RX0 = some mm.cls := hown
  have hl : lv_has ls 6 [(0, .ref (b 82)), (1, .int (iI sp)), (2, .int (iI n))] := hl
  refine lv_iload_n hx hb dX0_untilLost_0 rfl (lv_at hl 1 rfl) ?_
  refine lv_istore_n (lv' := [(3, .int (iI sp)), (0, .ref (b 82)), (1, .int (iI sp)), (2, .int (iI n))]) hx hb dX0_untilLost_1 rfl hl (by decide) rfl (fun ls hl => ?_)
  refine g_iconst hx hb dX0_untilLost_2 ?_
  refine lv_istore (lv' := [(4, .int (iI 0)), (3, .int (iI sp)), (0, .ref (b 82)), (1, .int (iI sp)), (2, .int (iI n))]) hx hb dX0_untilLost_3 hl (by decide) rfl (fun ls hl => ?_)
  have loop_5 : ∀ (nF : Nat) (a9 : Int) (i9 : Int) (k : Nat), (k : Nat) < nF → (0 ≤ i9 ∧ i9 + (k : Int) = n) → (0 ≤ a9 ∧ a9 ≤ 1023) → (unG (trnZ (U 20) 2) k a9 = unG (trnZ (U 20) 2) n.toNat sp) → ∀ (H : Heap) (locs : List Loc) (ls : Array Slot), gSat X σ H → va_S (gA X) ss.heap H locs → lv_has ls 6 [(4, .int (iI i9)), (3, .int (iI a9)), (0, .ref (b 82)), (1, .int (iI sp)), (2, .int (iI n))] → W pp l ee (gR 10 0 0 234) ss mm args below meth cd H locs 0 0 Q (F0 mm 5 ls []) := by
    intro nF
    induction nF with
    | zero => intro a9 i9 k hm; exact absurd hm (Nat.not_lt_zero _)
    | succ nF ih_5 =>
      intro a9 i9 k hm hi5_0 hi5_1 hi5_2 H locs ls hG hS hl
      refine lv_iload hx hb dX0_untilLost_5 (lv_at hl 0 rfl) ?_
      refine lv_iload_n hx hb dX0_untilLost_7 rfl (lv_at hl 4 rfl) ?_
      refine g_icmp_ge (tgt := 38) hx hb dX0_untilLost_8 (by decide) (by omega) (by omega) (fun cq1 => ?_) (fun cq1 => ?_)
      · refine lv_iload_n hx hb dX0_untilLost_38 rfl (lv_at hl 1 rfl) ?_
        exact g_iret hx hb hr hlocks hQ hG hS (Nat.zero_le _) (Nat.zero_le _) ⟨_, rfl, ⟨(by rw [← hi5_2, show k = 0 by omega]; rfl), (by omega)⟩, rfl⟩ dX0_untilLost_39
      · refine lv_aload_n hx hb dX0_untilLost_11 rfl (lv_at hl 2 rfl) ?_
        refine lv_iload_n hx hb dX0_untilLost_12 rfl (lv_at hl 1 rfl) ?_
        refine g_lc2 (rest := []) hx hb hml hown hts hK hG hS hl.1 (mX0_steps l X σ b U J R hX hT a9 (by omega)) hX.c82 hX.c0 q400 (fun v σ' h => by obtain ⟨r, rfl, -⟩ := h; exact ⟨_, rfl⟩) ⟨Nat.le_of_ble_eq_true rfl, Nat.le_of_ble_eq_true rfl⟩ ⟨Nat.le_of_ble_eq_true rfl, Nat.le_of_ble_eq_true rfl⟩ (Nat.le_of_ble_eq_true rfl) dX0_untilLost_13 (kI (fun r2 σr2 H locs hp hG hS => ?_))
        obtain ⟨⟨hr2, kr2⟩, rfl⟩ := hp
        have htr2 : r2 = trnZ (U 20) 2 a9 := hr2
        refine lv_istore (lv' := [(5, .int (iI r2)), (4, .int (iI i9)), (3, .int (iI a9)), (0, .ref (b 82)), (1, .int (iI sp)), (2, .int (iI n))]) hx hb dX0_untilLost_18 hl (by decide) rfl (fun ls hl => ?_)
        refine lv_iload hx hb dX0_untilLost_20 (lv_at hl 0 rfl) ?_
        refine g_bipush hx hb dX0_untilLost_22 (by decide) ?_
        refine g_icmp_ne (tgt := 29) hx hb dX0_untilLost_24 (by decide) (by omega) (by omega) (fun cq3 => ?_) (fun cq3 => ?_)
        · refine lv_iload hx hb dX0_untilLost_29 (lv_at hl 0 rfl) ?_
          refine lv_istore_n (lv' := [(3, .int (iI r2)), (5, .int (iI r2)), (4, .int (iI i9)), (0, .ref (b 82)), (1, .int (iI sp)), (2, .int (iI n))]) hx hb dX0_untilLost_31 rfl hl (by decide) rfl (fun ls hl => ?_)
          refine g_iinc (lv' := [(4, .int (iI (i9 + 1))), (3, .int (iI r2)), (5, .int (iI r2)), (0, .ref (b 82)), (1, .int (iI sp)), (2, .int (iI n))]) hx hb dX0_untilLost_32 hl (k := 2) rfl (by decide) rfl (fun ls hl => ?_)
          refine lv_goto (tgt := 5) hx hb dX0_untilLost_35 (by decide) ?_
          exact ih_5 r2 (i9 + 1) (k - 1) (by omega) (by omega) (by omega) (by rw [← hi5_2, htr2]; exact unG_s (by rw [← htr2]; omega) (by omega))  _ _ _ hG hS (lv_sub hl [0, 1, 3, 4, 5] rfl)
        · refine lv_iload_n hx hb dX0_untilLost_27 rfl (lv_at hl 2 rfl) ?_
          exact g_iret hx hb hr hlocks hQ hG hS (Nat.zero_le _) (Nat.zero_le _) ⟨_, rfl, ⟨(by rw [← hi5_2]; exact (unG_l (by rw [← htr2]; omega)).symm), (by omega)⟩, rfl⟩ dX0_untilLost_28
  exact loop_5 _ sp 0 n.toNat (Nat.lt_succ_self _) (by omega) (by omega) (rfl)  _ _ _ hG hS (lv_sub hl [0, 1, 2, 3, 4] rfl)

set_option maxHeartbeats 4000000 in
theorem mX0_untilLost_3 (l : Launch) (X : gX) (σ : gS) (b : Nat → Nat) (U : Nat → Int → Int) (J : Nat → Int) (R : Int → Option Nat) (hX : XW X σ b U J R) (hT : okT (U 20)) (sp : Int) (n : Int) (h0 : 0 ≤ sp ∧ sp ≤ 1023) (h1 : 0 ≤ n ∧ n ≤ 9) : gMet l X yX0_untilLost cX0_untilLost 6 (some .int) 10 0 0 234 σ [.ref (b 83), .int (iI sp), .int (iI n)] (oI (fun r σ' => (r = unG (trnZ (U 20) 3) n.toNat sp ∧ (0 ≤ r ∧ r ≤ 1023)) ∧ σ = σ')) := by
  refine gMet.of (by decide) (Nat.le_of_ble_eq_true rfl) ?_
  intro pp ee ss mm args below meth cd Q H locs ls hargs hx hb hr hlocks hml hown hnm hts hK hG hS hQ hl
  have hown : ss.vm.findClass RX0 = some mm.cls := hown
  have hl : lv_has ls 6 [(0, .ref (b 83)), (1, .int (iI sp)), (2, .int (iI n))] := hl
  refine lv_iload_n hx hb dX0_untilLost_0 rfl (lv_at hl 1 rfl) ?_
  refine lv_istore_n (lv' := [(3, .int (iI sp)), (0, .ref (b 83)), (1, .int (iI sp)), (2, .int (iI n))]) hx hb dX0_untilLost_1 rfl hl (by decide) rfl (fun ls hl => ?_)
  refine g_iconst hx hb dX0_untilLost_2 ?_
  refine lv_istore (lv' := [(4, .int (iI 0)), (3, .int (iI sp)), (0, .ref (b 83)), (1, .int (iI sp)), (2, .int (iI n))]) hx hb dX0_untilLost_3 hl (by decide) rfl (fun ls hl => ?_)
  have loop_5 : ∀ (nF : Nat) (a9 : Int) (i9 : Int) (k : Nat), (k : Nat) < nF → (0 ≤ i9 ∧ i9 + (k : Int) = n) → (0 ≤ a9 ∧ a9 ≤ 1023) → (unG (trnZ (U 20) 3) k a9 = unG (trnZ (U 20) 3) n.toNat sp) → ∀ (H : Heap) (locs : List Loc) (ls : Array Slot), gSat X σ H → va_S (gA X) ss.heap H locs → lv_has ls 6 [(4, .int (iI i9)), (3, .int (iI a9)), (0, .ref (b 83)), (1, .int (iI sp)), (2, .int (iI n))] → W pp l ee (gR 10 0 0 234) ss mm args below meth cd H locs 0 0 Q (F0 mm 5 ls []) := by
    intro nF
    induction nF with
    | zero => intro a9 i9 k hm; exact absurd hm (Nat.not_lt_zero _)
    | succ nF ih_5 =>
      intro a9 i9 k hm hi5_0 hi5_1 hi5_2 H locs ls hG hS hl
      refine lv_iload hx hb dX0_untilLost_5 (lv_at hl 0 rfl) ?_
      refine lv_iload_n hx hb dX0_untilLost_7 rfl (lv_at hl 4 rfl) ?_
      refine g_icmp_ge (tgt := 38) hx hb dX0_untilLost_8 (by decide) (by omega) (by omega) (fun cq1 => ?_) (fun cq1 => ?_)
      · refine lv_iload_n hx hb dX0_untilLost_38 rfl (lv_at hl 1 rfl) ?_
        exact g_iret hx hb hr hlocks hQ hG hS (Nat.zero_le _) (Nat.zero_le _) ⟨_, rfl, ⟨(by rw [← hi5_2, show k = 0 by omega]; rfl), (by omega)⟩, rfl⟩ dX0_untilLost_39
      · refine lv_aload_n hx hb dX0_untilLost_11 rfl (lv_at hl 2 rfl) ?_
        refine lv_iload_n hx hb dX0_untilLost_12 rfl (lv_at hl 1 rfl) ?_
        refine g_lc3 (rest := []) hx hb hml hown hts hK hG hS hl.1 (mX0_stepsBack l X σ b U J R hX hT a9 (by omega)) hX.c83 hX.c0 q400 (fun v σ' h => by obtain ⟨r, rfl, -⟩ := h; exact ⟨_, rfl⟩) ⟨Nat.le_of_ble_eq_true rfl, Nat.le_of_ble_eq_true rfl⟩ ⟨Nat.le_of_ble_eq_true rfl, Nat.le_of_ble_eq_true rfl⟩ (Nat.le_of_ble_eq_true rfl) dX0_untilLost_13 (kI (fun r2 σr2 H locs hp hG hS => ?_))
        obtain ⟨⟨hr2, kr2⟩, rfl⟩ := hp
        have htr2 : r2 = trnZ (U 20) 3 a9 := hr2
        refine lv_istore (lv' := [(5, .int (iI r2)), (4, .int (iI i9)), (3, .int (iI a9)), (0, .ref (b 83)), (1, .int (iI sp)), (2, .int (iI n))]) hx hb dX0_untilLost_18 hl (by decide) rfl (fun ls hl => ?_)
        refine lv_iload hx hb dX0_untilLost_20 (lv_at hl 0 rfl) ?_
        refine g_bipush hx hb dX0_untilLost_22 (by decide) ?_
        refine g_icmp_ne (tgt := 29) hx hb dX0_untilLost_24 (by decide) (by omega) (by omega) (fun cq3 => ?_) (fun cq3 => ?_)
        · refine lv_iload hx hb dX0_untilLost_29 (lv_at hl 0 rfl) ?_
          refine lv_istore_n (lv' := [(3, .int (iI r2)), (5, .int (iI r2)), (4, .int (iI i9)), (0, .ref (b 83)), (1, .int (iI sp)), (2, .int (iI n))]) hx hb dX0_untilLost_31 rfl hl (by decide) rfl (fun ls hl => ?_)
          refine g_iinc (lv' := [(4, .int (iI (i9 + 1))), (3, .int (iI r2)), (5, .int (iI r2)), (0, .ref (b 83)), (1, .int (iI sp)), (2, .int (iI n))]) hx hb dX0_untilLost_32 hl (k := 2) rfl (by decide) rfl (fun ls hl => ?_)
          refine lv_goto (tgt := 5) hx hb dX0_untilLost_35 (by decide) ?_
          exact ih_5 r2 (i9 + 1) (k - 1) (by omega) (by omega) (by omega) (by rw [← hi5_2, htr2]; exact unG_s (by rw [← htr2]; omega) (by omega))  _ _ _ hG hS (lv_sub hl [0, 1, 3, 4, 5] rfl)
        · refine lv_iload_n hx hb dX0_untilLost_27 rfl (lv_at hl 2 rfl) ?_
          exact g_iret hx hb hr hlocks hQ hG hS (Nat.zero_le _) (Nat.zero_le _) ⟨_, rfl, ⟨(by rw [← hi5_2]; exact (unG_l (by rw [← htr2]; omega)).symm), (by omega)⟩, rfl⟩ dX0_untilLost_28
  exact loop_5 _ sp 0 n.toNat (Nat.lt_succ_self _) (by omega) (by omega) (rfl)  _ _ _ hG hS (lv_sub hl [0, 1, 2, 3, 4] rfl)

set_option maxHeartbeats 4000000 in
theorem mX0_swapsOne (l : Launch) (X : gX) (σ : gS) (b : Nat → Nat) (U : Nat → Int → Int) (J : Nat → Int) (R : Int → Option Nat) (hX : XW X σ b U J R) (hT : okT (U 20)) (sp : Int) (v : Int) (h0 : 0 ≤ sp ∧ sp ≤ 1023) (h1 : 0 ≤ v ∧ v ≤ 1) : gMet l X yX0_swapsOne cX0_swapsOne 3 (some .int) 11 0 0 259 σ [.ref (b 0), .int (iI sp), .int (iI v)] (oI (fun r σ' => (r = actZ (U 20) 2 v sp ∧ (0 ≤ r ∧ r ≤ 1023)) ∧ σ = σ')) := by
  refine gMet.of (by decide) (Nat.le_of_ble_eq_true rfl) ?_
  intro pp ee ss mm args below meth cd Q H locs ls hargs hx hb hr hlocks hml hown hnm hts hK hG hS hQ hl
  have hown : ss.vm.findClass RX0 = some mm.cls := hown
  have hl : lv_has ls 3 [(0, .ref (b 0)), (1, .int (iI sp)), (2, .int (iI v))] := hl
  refine lv_aload_n hx hb dX0_swapsOne_0 rfl (lv_at hl 0 rfl) ?_
  refine g_get (C := RX0) (T := TX0) (N := 20) (v := .ref (b 4)) hx hb hts hown hK hG hX.c0 rfl in_X0 4 (by decide) q424 rfl rfl dX0_swapsOne_1 ?_
  refine lv_iload_n hx hb dX0_swapsOne_4 rfl (lv_at hl 2 rfl) ?_
  rcases (show v = 0 ∨ v = 1 by omega) with rfl | rfl
  · refine g_aald (v := .ref (b 80)) hx hb 4 hK hG hX.c4 rfl dX0_swapsOne_5 (by omega) (rfl) ?_
    refine lv_iload_n hx hb dX0_swapsOne_6 rfl (lv_at hl 1 rfl) ?_
    refine g_iconst hx hb dX0_swapsOne_7 ?_
    refine g_callS (As := [.ref (b 80), .int (iI sp), .int (iI 1)]) (rest := []) 3 hx hb hml hown hts hK hG hS hl.1 (mX0_untilLost_0 l X σ b U J R hX hT sp 1 (by omega) (by omega)) q409 q410 q69 q411 (by decide +kernel) rfl ⟨Nat.le_of_ble_eq_true rfl, Nat.le_of_ble_eq_true rfl⟩ ⟨Nat.le_of_ble_eq_true rfl, Nat.le_of_ble_eq_true rfl⟩ (Nat.le_of_ble_eq_true rfl) dX0_swapsOne_8 (kI (fun r1 σr1 H locs hp hG hS => ?_))
    obtain ⟨⟨hr1, kr1⟩, rfl⟩ := hp
    exact g_iret hx hb hr hlocks hQ hG hS (Nat.zero_le _) (Nat.zero_le _) ⟨_, rfl, ⟨(by rw [actZ_2 _ (by omega), hr1]; rfl), (by omega)⟩, rfl⟩ dX0_swapsOne_11
  · refine g_aald (v := .ref (b 81)) hx hb 4 hK hG hX.c4 rfl dX0_swapsOne_5 (by omega) (rfl) ?_
    refine lv_iload_n hx hb dX0_swapsOne_6 rfl (lv_at hl 1 rfl) ?_
    refine g_iconst hx hb dX0_swapsOne_7 ?_
    refine g_callS (As := [.ref (b 81), .int (iI sp), .int (iI 1)]) (rest := []) 3 hx hb hml hown hts hK hG hS hl.1 (mX0_untilLost_1 l X σ b U J R hX hT sp 1 (by omega) (by omega)) q409 q410 q69 q411 (by decide +kernel) rfl ⟨Nat.le_of_ble_eq_true rfl, Nat.le_of_ble_eq_true rfl⟩ ⟨Nat.le_of_ble_eq_true rfl, Nat.le_of_ble_eq_true rfl⟩ (Nat.le_of_ble_eq_true rfl) dX0_swapsOne_8 (kI (fun r2 σr2 H locs hp hG hS => ?_))
    obtain ⟨⟨hr2, kr2⟩, rfl⟩ := hp
    exact g_iret hx hb hr hlocks hQ hG hS (Nat.zero_le _) (Nat.zero_le _) ⟨_, rfl, ⟨(by rw [actZ_2 _ (by omega), hr2]; rfl), (by omega)⟩, rfl⟩ dX0_swapsOne_11

set_option maxHeartbeats 4000000 in
theorem mX0_lambda_new_0 (l : Launch) (X : gX) (σ : gS) (b : Nat → Nat) (U : Nat → Int → Int) (J : Nat → Int) (R : Int → Option Nat) (hX : XW X σ b U J R) (hT : okT (U 20)) (sp : Int) (v : Int) (h0 : 0 ≤ sp ∧ sp ≤ 1023) (h1 : 1 ≤ v ∧ v ≤ 9) : gMet l X yX0_lambda_new_0 cX0_lambda_new_0 3 (some .int) 11 0 0 259 σ [.ref (b 0), .int (iI sp), .int (iI v)] (oI (fun r σ' => (r = actZ (U 20) 0 v sp ∧ (0 ≤ r ∧ r ≤ 1023)) ∧ σ = σ')) := by
  refine gMet.of (by decide) (Nat.le_of_ble_eq_true rfl) ?_
  intro pp ee ss mm args below meth cd Q H locs ls hargs hx hb hr hlocks hml hown hnm hts hK hG hS hQ hl
  have hown : ss.vm.findClass RX0 = some mm.cls := hown
  have hl : lv_has ls 3 [(0, .ref (b 0)), (1, .int (iI sp)), (2, .int (iI v))] := hl
  refine lv_aload_n hx hb dX0_lambda_new_0_0 rfl (lv_at hl 0 rfl) ?_
  refine g_get (C := RX0) (T := TX0) (N := 20) (v := .ref (b 4)) hx hb hts hown hK hG hX.c0 rfl in_X0 4 (by decide) q424 rfl rfl dX0_lambda_new_0_1 ?_
  refine g_iconst hx hb dX0_lambda_new_0_4 ?_
  refine g_aald (v := .ref (b 82)) hx hb 4 hK hG hX.c4 rfl dX0_lambda_new_0_5 (by omega) (rfl) ?_
  refine lv_iload_n hx hb dX0_lambda_new_0_6 rfl (lv_at hl 1 rfl) ?_
  refine lv_iload_n hx hb dX0_lambda_new_0_7 rfl (lv_at hl 2 rfl) ?_
  refine g_callS (As := [.ref (b 82), .int (iI sp), .int (iI v)]) (rest := []) 3 hx hb hml hown hts hK hG hS hl.1 (mX0_untilLost_2 l X σ b U J R hX hT sp v (by omega) (by omega)) q409 q410 q69 q411 (by decide +kernel) rfl ⟨Nat.le_of_ble_eq_true rfl, Nat.le_of_ble_eq_true rfl⟩ ⟨Nat.le_of_ble_eq_true rfl, Nat.le_of_ble_eq_true rfl⟩ (Nat.le_of_ble_eq_true rfl) dX0_lambda_new_0_8 (kI (fun r1 σr1 H locs hp hG hS => ?_))
  obtain ⟨⟨hr1, kr1⟩, rfl⟩ := hp
  exact g_iret hx hb hr hlocks hQ hG hS (Nat.zero_le _) (Nat.zero_le _) ⟨_, rfl, ⟨(by rw [actZ_0, hr1]), (by omega)⟩, rfl⟩ dX0_lambda_new_0_11

set_option maxHeartbeats 4000000 in
theorem mX0_lambda_new_1 (l : Launch) (X : gX) (σ : gS) (b : Nat → Nat) (U : Nat → Int → Int) (J : Nat → Int) (R : Int → Option Nat) (hX : XW X σ b U J R) (hT : okT (U 20)) (sp : Int) (v : Int) (h0 : 0 ≤ sp ∧ sp ≤ 1023) (h1 : 1 ≤ v ∧ v ≤ 9) : gMet l X yX0_lambda_new_1 cX0_lambda_new_1 3 (some .int) 11 0 0 259 σ [.ref (b 0), .int (iI sp), .int (iI v)] (oI (fun r σ' => (r = actZ (U 20) 1 v sp ∧ (0 ≤ r ∧ r ≤ 1023)) ∧ σ = σ')) := by
  refine gMet.of (by decide) (Nat.le_of_ble_eq_true rfl) ?_
  intro pp ee ss mm args below meth cd Q H locs ls hargs hx hb hr hlocks hml hown hnm hts hK hG hS hQ hl
  have hown : ss.vm.findClass RX0 = some mm.cls := hown
  have hl : lv_has ls 3 [(0, .ref (b 0)), (1, .int (iI sp)), (2, .int (iI v))] := hl
  refine lv_aload_n hx hb dX0_lambda_new_1_0 rfl (lv_at hl 0 rfl) ?_
  refine g_get (C := RX0) (T := TX0) (N := 20) (v := .ref (b 4)) hx hb hts hown hK hG hX.c0 rfl in_X0 4 (by decide) q424 rfl rfl dX0_lambda_new_1_1 ?_
  refine g_iconst hx hb dX0_lambda_new_1_4 ?_
  refine g_aald (v := .ref (b 83)) hx hb 4 hK hG hX.c4 rfl dX0_lambda_new_1_5 (by omega) (rfl) ?_
  refine lv_iload_n hx hb dX0_lambda_new_1_6 rfl (lv_at hl 1 rfl) ?_
  refine lv_iload_n hx hb dX0_lambda_new_1_7 rfl (lv_at hl 2 rfl) ?_
  refine g_callS (As := [.ref (b 83), .int (iI sp), .int (iI v)]) (rest := []) 3 hx hb hml hown hts hK hG hS hl.1 (mX0_untilLost_3 l X σ b U J R hX hT sp v (by omega) (by omega)) q409 q410 q69 q411 (by decide +kernel) rfl ⟨Nat.le_of_ble_eq_true rfl, Nat.le_of_ble_eq_true rfl⟩ ⟨Nat.le_of_ble_eq_true rfl, Nat.le_of_ble_eq_true rfl⟩ (Nat.le_of_ble_eq_true rfl) dX0_lambda_new_1_8 (kI (fun r1 σr1 H locs hp hG hS => ?_))
  obtain ⟨⟨hr1, kr1⟩, rfl⟩ := hp
  exact g_iret hx hb hr hlocks hQ hG hS (Nat.zero_le _) (Nat.zero_le _) ⟨_, rfl, ⟨(by rw [actZ_1, hr1]), (by omega)⟩, rfl⟩ dX0_lambda_new_1_11

set_option maxHeartbeats 4000000 in
theorem mX0_turnedOver (l : Launch) (X : gX) (σ : gS) (b : Nat → Nat) (U : Nat → Int → Int) (J : Nat → Int) (R : Int → Option Nat) (hX : XW X σ b U J R) (hT : okT (U 20)) (sp : Int) (v : Int) (h0 : 0 ≤ sp ∧ sp ≤ 1023) : gMet l X yX0_turnedOver cX0_turnedOver 2 (some .int) 1 0 0 21 σ [.int (iI sp), .int (iI v)] (oI (fun r σ' => (r = actZ (U 20) 3 v sp ∧ (0 ≤ r ∧ r ≤ 1023)) ∧ σ = σ')) := by
  refine gMet.of (by decide) (Nat.le_of_ble_eq_true rfl) ?_
  intro pp ee ss mm args below meth cd Q H locs ls hargs hx hb hr hlocks hml hown hnm hts hK hG hS hQ hl
  have hown : ss.vm.findClass RX0 = some mm.cls := hown
  have hl : lv_has ls 2 [(0, .int (iI sp)), (1, .int (iI v))] := hl
  refine lv_iload_n hx hb dX0_turnedOver_0 rfl (lv_at hl 0 rfl) ?_
  refine g_bipush hx hb dX0_turnedOver_1 (by decide) ?_
  refine g_irem hx hb dX0_turnedOver_3 (by omega) (by omega) ?_
  refine lv_iload_n hx hb dX0_turnedOver_4 rfl (lv_at hl 0 rfl) ?_
  refine g_bipush hx hb dX0_turnedOver_5 (by decide) ?_
  refine g_idiv hx hb dX0_turnedOver_7 (by omega) (by omega) ?_
  refine g_callS (As := [.int (iI (sp % 32)), .int (iI (sp / 32))]) (rest := []) 2 hx hb hml hown hts hK hG hS hl.1 (mX0_codeOf l X σ  (sp % 32) (sp / 32) (by omega) (by omega)) q387 q388 q69 q389 (by decide +kernel) rfl ⟨Nat.le_of_ble_eq_true rfl, Nat.le_of_ble_eq_true rfl⟩ ⟨Nat.le_of_ble_eq_true rfl, Nat.le_of_ble_eq_true rfl⟩ (Nat.le_of_ble_eq_true rfl) dX0_turnedOver_8 (kI (fun r1 σr1 H locs hp hG hS => ?_))
  obtain ⟨hr1, rfl⟩ := hp
  exact g_iret hx hb hr hlocks hQ hG hS (Nat.zero_le _) (Nat.zero_le _) ⟨_, rfl, ⟨(by rw [actZ_3 _ _ _ (by omega), hr1]), (by omega)⟩, rfl⟩ dX0_turnedOver_11

set_option maxHeartbeats 4000000 in
theorem mX0_ends (l : Launch) (X : gX) (σ : gS) (b : Nat → Nat) (U : Nat → Int → Int) (J : Nat → Int) (R : Int → Option Nat) (hX : XW X σ b U J R) (hT : okT (U 20)) (x : Int) (y : Int) (h0 : ((0 ≤ J 30 ∧ J 30 ≤ 8) ∧ ∀ k : Int, 0 ≤ k → k < J 30 → (0 ≤ U 22 (2 * k) ∧ U 22 (2 * k) ≤ 3) ∧ (U 22 (2 * k) < 2 → 1 ≤ U 22 (2 * k + 1) ∧ U 22 (2 * k + 1) ≤ 9) ∧ (U 22 (2 * k) = 2 → 0 ≤ U 22 (2 * k + 1) ∧ U 22 (2 * k + 1) ≤ 1))) (h1 : -2147483648 ≤ x ∧ x ≤ 2147483647) (h2 : -2147483648 ≤ y ∧ y ≤ 2147483647) : gMet l X yX0_ends cX0_ends 5 (some .int) 13 0 0 303 σ [.ref (b 0), .int (iI x), .int (iI y)] (oI (fun r σ' => r = (if okSp x y then endA (U 20) (fun q => U 22 (2 * q)) (fun q => U 22 (2 * q + 1)) (J 30).toNat 0 (32 * x + y) else -1) ∧ σ = σ')) := by
  refine gMet.of (by decide) (Nat.le_of_ble_eq_true rfl) ?_
  intro pp ee ss mm args below meth cd Q H locs ls hargs hx hb hr hlocks hml hown hnm hts hK hG hS hQ hl
  have hown : ss.vm.findClass RX0 = some mm.cls := hown
  have hl : lv_has ls 5 [(0, .ref (b 0)), (1, .int (iI x)), (2, .int (iI y))] := hl
  have hPl := h0
  have hpl := hPl.1
  refine lv_iload_n hx hb dX0_ends_0 rfl (lv_at hl 1 rfl) ?_
  refine lv_iload_n hx hb dX0_ends_1 rfl (lv_at hl 2 rfl) ?_
  refine g_callS (As := [.int (iI x), .int (iI y)]) (rest := []) 2 hx hb hml hown hts hK hG hS hl.1 (mX0_isSpot l X σ  x y (by omega) (by omega)) q591 q592 q69 q593 (by decide +kernel) rfl ⟨Nat.le_of_ble_eq_true rfl, Nat.le_of_ble_eq_true rfl⟩ ⟨Nat.le_of_ble_eq_true rfl, Nat.le_of_ble_eq_true rfl⟩ (Nat.le_of_ble_eq_true rfl) dX0_ends_2 (kI (fun r1 σr1 H locs hp hG hS => ?_))
  obtain ⟨hr1, rfl⟩ := hp
  refine g_if_ne (tgt := 10) hx hb dX0_ends_5 (by decide) (by omega) (fun cq2 => ?_) (fun cq2 => ?_)
  · refine lv_iload_n hx hb dX0_ends_10 rfl (lv_at hl 1 rfl) ?_
    refine lv_iload_n hx hb dX0_ends_11 rfl (lv_at hl 2 rfl) ?_
    refine g_callS (As := [.int (iI x), .int (iI y)]) (rest := []) 2 hx hb hml hown hts hK hG hS hl.1 (mX0_codeOf l X σ  x y (by omega) (by omega)) q387 q388 q69 q389 (by decide +kernel) rfl ⟨Nat.le_of_ble_eq_true rfl, Nat.le_of_ble_eq_true rfl⟩ ⟨Nat.le_of_ble_eq_true rfl, Nat.le_of_ble_eq_true rfl⟩ (Nat.le_of_ble_eq_true rfl) dX0_ends_12 (kI (fun r3 σr3 H locs hp hG hS => ?_))
    obtain ⟨hr3, rfl⟩ := hp
    refine lv_istore_n (lv' := [(3, .int (iI r3)), (0, .ref (b 0)), (1, .int (iI x)), (2, .int (iI y))]) hx hb dX0_ends_15 rfl hl (by decide) rfl (fun ls hl => ?_)
    refine g_iconst hx hb dX0_ends_16 ?_
    refine lv_istore (lv' := [(4, .int (iI 0)), (3, .int (iI r3)), (0, .ref (b 0)), (1, .int (iI x)), (2, .int (iI y))]) hx hb dX0_ends_17 hl (by decide) rfl (fun ls hl => ?_)
    have loop_19 : ∀ (nF : Nat) (sp : Int) (k9 : Int) (f : Nat), (f : Nat) < nF → (0 ≤ sp ∧ sp ≤ 1023) → (0 ≤ k9 ∧ k9 + (f : Int) = J 30) → (endA (U 20) (fun q => U 22 (2 * q)) (fun q => U 22 (2 * q + 1)) f k9 sp = endA (U 20) (fun q => U 22 (2 * q)) (fun q => U 22 (2 * q + 1)) (J 30).toNat 0 (32 * x + y)) → ∀ (H : Heap) (locs : List Loc) (ls : Array Slot), gSat X σ H → va_S (gA X) ss.heap H locs → lv_has ls 5 [(4, .int (iI k9)), (3, .int (iI sp)), (0, .ref (b 0)), (1, .int (iI x)), (2, .int (iI y))] → W pp l ee (gR 13 0 0 303) ss mm args below meth cd H locs 0 0 Q (F0 mm 19 ls []) := by
      intro nF
      induction nF with
      | zero => intro sp k9 f hm; exact absurd hm (Nat.not_lt_zero _)
      | succ nF ih_19 =>
        intro sp k9 f hm hi19_0 hi19_1 hi19_2 H locs ls hG hS hl
        refine lv_iload hx hb dX0_ends_19 (lv_at hl 0 rfl) ?_
        refine lv_aload_n hx hb dX0_ends_21 rfl (lv_at hl 2 rfl) ?_
        refine g_get (C := RX0) (T := TX0) (N := 20) (v := .ref (b 1)) hx hb hts hown hK hG hX.c0 rfl in_X0 0 (by decide) q420 rfl rfl dX0_ends_22 ?_
        refine g_getN (C := RX1) (T := TX1) (N := 4) (v := .int (iI (J 30))) hx hb hts hown hK hG hX.c1 rfl in_X1 3 (by decide) q193 rfl rfl dX0_ends_25 ?_
        refine g_icmp_ge (tgt := 75) hx hb dX0_ends_28 (by decide) (by omega) (by omega) (fun cq4 => ?_) (fun cq4 => ?_)
        · refine lv_iload_n hx hb dX0_ends_75 rfl (lv_at hl 1 rfl) ?_
          exact g_iret hx hb hr hlocks hQ hG hS (Nat.zero_le _) (Nat.zero_le _) ⟨_, rfl, (by rw [if_pos (by omega), ← hi19_2]; exact (endA_0 (by omega)).symm), rfl⟩ dX0_ends_76
        · refine lv_aload_n hx hb dX0_ends_31 rfl (lv_at hl 2 rfl) ?_
          refine g_get (C := RX0) (T := TX0) (N := 20) (v := .ref (b 3)) hx hb hts hown hK hG hX.c0 rfl in_X0 3 (by decide) q423 rfl rfl dX0_ends_32 ?_
          refine lv_aload_n hx hb dX0_ends_35 rfl (lv_at hl 2 rfl) ?_
          refine g_get (C := RX0) (T := TX0) (N := 20) (v := .ref (b 1)) hx hb hts hown hK hG hX.c0 rfl in_X0 0 (by decide) q420 rfl rfl dX0_ends_36 ?_
          refine g_getN (C := RX1) (T := TX1) (N := 4) (v := .ref (b 22)) hx hb hts hown hK hG hX.c1 rfl in_X1 2 (by decide) q191 rfl rfl dX0_ends_39 ?_
          refine g_iconst hx hb dX0_ends_42 ?_
          refine lv_iload hx hb dX0_ends_43 (lv_at hl 0 rfl) ?_
          refine g_imul hx hb dX0_ends_45 ?_
          refine g_iald hx hb hK hG hX.c22 dX0_ends_46 (by omega) ?_
          refine g_name (fun w9 ew9 => ?_)
          have hpr := hPl.2 k9 (by omega) (by omega)
          rw [← ew9] at hpr
          rcases (show w9 = 0 ∨ w9 = 1 ∨ w9 = 2 ∨ w9 = 3 by omega) with rfl | rfl | rfl | rfl
          · refine g_aald (v := .ref (b 84)) hx hb 3 hK hG hX.c3 rfl dX0_ends_47 (by omega) (rfl) ?_
            refine lv_iload_n hx hb dX0_ends_48 rfl (lv_at hl 1 rfl) ?_
            refine lv_aload_n hx hb dX0_ends_49 rfl (lv_at hl 2 rfl) ?_
            refine g_get (C := RX0) (T := TX0) (N := 20) (v := .ref (b 1)) hx hb hts hown hK hG hX.c0 rfl in_X0 0 (by decide) q420 rfl rfl dX0_ends_50 ?_
            refine g_getN (C := RX1) (T := TX1) (N := 4) (v := .ref (b 22)) hx hb hts hown hK hG hX.c1 rfl in_X1 2 (by decide) q191 rfl rfl dX0_ends_53 ?_
            refine g_iconst hx hb dX0_ends_56 ?_
            refine lv_iload hx hb dX0_ends_57 (lv_at hl 0 rfl) ?_
            refine g_imul hx hb dX0_ends_59 ?_
            refine g_iconst hx hb dX0_ends_60 ?_
            refine g_iadd hx hb dX0_ends_61 ?_
            refine g_iald hx hb hK hG hX.c22 dX0_ends_62 (by omega) ?_
            refine g_lc4 (rest := []) hx hb hml hown hts hK hG hS hl.1 (mX0_lambda_new_0 l X σ b U J R hX hT sp ((U 22) ((2 * k9) + 1)) (by omega) (by omega)) hX.c84 hX.c0 q1634 (fun v σ' h => by obtain ⟨r, rfl, -⟩ := h; exact ⟨_, rfl⟩) ⟨Nat.le_of_ble_eq_true rfl, Nat.le_of_ble_eq_true rfl⟩ ⟨Nat.le_of_ble_eq_true rfl, Nat.le_of_ble_eq_true rfl⟩ (Nat.le_of_ble_eq_true rfl) dX0_ends_63 (kI (fun r5 σr5 H locs hp hG hS => ?_))
            obtain ⟨⟨hr5, kr5⟩, rfl⟩ := hp
            refine lv_istore_n (lv' := [(3, .int (iI r5)), (4, .int (iI k9)), (0, .ref (b 0)), (1, .int (iI x)), (2, .int (iI y))]) hx hb dX0_ends_68 rfl hl (by decide) rfl (fun ls hl => ?_)
            refine g_iinc (lv' := [(4, .int (iI (k9 + 1))), (3, .int (iI r5)), (0, .ref (b 0)), (1, .int (iI x)), (2, .int (iI y))]) hx hb dX0_ends_69 hl (k := 1) rfl (by decide) rfl (fun ls hl => ?_)
            refine lv_goto (tgt := 19) hx hb dX0_ends_72 (by decide) ?_
            exact ih_19 r5 (k9 + 1) (f - 1) (by omega) (by omega) (by omega) (by rw [← hi19_2, ← endA_s (show 0 < f by omega)]; show _ = endA _ _ _ _ _ (actZ (U 20) (U 22 (2 * k9)) (U 22 (2 * k9 + 1)) sp); rw [← ew9, hr5])  _ _ _ hG hS (lv_sub hl [0, 1, 2, 3, 4] rfl)
          · refine g_aald (v := .ref (b 85)) hx hb 3 hK hG hX.c3 rfl dX0_ends_47 (by omega) (rfl) ?_
            refine lv_iload_n hx hb dX0_ends_48 rfl (lv_at hl 1 rfl) ?_
            refine lv_aload_n hx hb dX0_ends_49 rfl (lv_at hl 2 rfl) ?_
            refine g_get (C := RX0) (T := TX0) (N := 20) (v := .ref (b 1)) hx hb hts hown hK hG hX.c0 rfl in_X0 0 (by decide) q420 rfl rfl dX0_ends_50 ?_
            refine g_getN (C := RX1) (T := TX1) (N := 4) (v := .ref (b 22)) hx hb hts hown hK hG hX.c1 rfl in_X1 2 (by decide) q191 rfl rfl dX0_ends_53 ?_
            refine g_iconst hx hb dX0_ends_56 ?_
            refine lv_iload hx hb dX0_ends_57 (lv_at hl 0 rfl) ?_
            refine g_imul hx hb dX0_ends_59 ?_
            refine g_iconst hx hb dX0_ends_60 ?_
            refine g_iadd hx hb dX0_ends_61 ?_
            refine g_iald hx hb hK hG hX.c22 dX0_ends_62 (by omega) ?_
            refine g_lc5 (rest := []) hx hb hml hown hts hK hG hS hl.1 (mX0_lambda_new_1 l X σ b U J R hX hT sp ((U 22) ((2 * k9) + 1)) (by omega) (by omega)) hX.c85 hX.c0 q1634 (fun v σ' h => by obtain ⟨r, rfl, -⟩ := h; exact ⟨_, rfl⟩) ⟨Nat.le_of_ble_eq_true rfl, Nat.le_of_ble_eq_true rfl⟩ ⟨Nat.le_of_ble_eq_true rfl, Nat.le_of_ble_eq_true rfl⟩ (Nat.le_of_ble_eq_true rfl) dX0_ends_63 (kI (fun r6 σr6 H locs hp hG hS => ?_))
            obtain ⟨⟨hr6, kr6⟩, rfl⟩ := hp
            refine lv_istore_n (lv' := [(3, .int (iI r6)), (4, .int (iI k9)), (0, .ref (b 0)), (1, .int (iI x)), (2, .int (iI y))]) hx hb dX0_ends_68 rfl hl (by decide) rfl (fun ls hl => ?_)
            refine g_iinc (lv' := [(4, .int (iI (k9 + 1))), (3, .int (iI r6)), (0, .ref (b 0)), (1, .int (iI x)), (2, .int (iI y))]) hx hb dX0_ends_69 hl (k := 1) rfl (by decide) rfl (fun ls hl => ?_)
            refine lv_goto (tgt := 19) hx hb dX0_ends_72 (by decide) ?_
            exact ih_19 r6 (k9 + 1) (f - 1) (by omega) (by omega) (by omega) (by rw [← hi19_2, ← endA_s (show 0 < f by omega)]; show _ = endA _ _ _ _ _ (actZ (U 20) (U 22 (2 * k9)) (U 22 (2 * k9 + 1)) sp); rw [← ew9, hr6])  _ _ _ hG hS (lv_sub hl [0, 1, 2, 3, 4] rfl)
          · refine g_aald (v := .ref (b 86)) hx hb 3 hK hG hX.c3 rfl dX0_ends_47 (by omega) (rfl) ?_
            refine lv_iload_n hx hb dX0_ends_48 rfl (lv_at hl 1 rfl) ?_
            refine lv_aload_n hx hb dX0_ends_49 rfl (lv_at hl 2 rfl) ?_
            refine g_get (C := RX0) (T := TX0) (N := 20) (v := .ref (b 1)) hx hb hts hown hK hG hX.c0 rfl in_X0 0 (by decide) q420 rfl rfl dX0_ends_50 ?_
            refine g_getN (C := RX1) (T := TX1) (N := 4) (v := .ref (b 22)) hx hb hts hown hK hG hX.c1 rfl in_X1 2 (by decide) q191 rfl rfl dX0_ends_53 ?_
            refine g_iconst hx hb dX0_ends_56 ?_
            refine lv_iload hx hb dX0_ends_57 (lv_at hl 0 rfl) ?_
            refine g_imul hx hb dX0_ends_59 ?_
            refine g_iconst hx hb dX0_ends_60 ?_
            refine g_iadd hx hb dX0_ends_61 ?_
            refine g_iald hx hb hK hG hX.c22 dX0_ends_62 (by omega) ?_
            refine g_lc6 (rest := []) hx hb hml hown hts hK hG hS hl.1 (mX0_swapsOne l X σ b U J R hX hT sp ((U 22) ((2 * k9) + 1)) (by omega) (by omega)) hX.c86 hX.c0 q1634 (fun v σ' h => by obtain ⟨r, rfl, -⟩ := h; exact ⟨_, rfl⟩) ⟨Nat.le_of_ble_eq_true rfl, Nat.le_of_ble_eq_true rfl⟩ ⟨Nat.le_of_ble_eq_true rfl, Nat.le_of_ble_eq_true rfl⟩ (Nat.le_of_ble_eq_true rfl) dX0_ends_63 (kI (fun r7 σr7 H locs hp hG hS => ?_))
            obtain ⟨⟨hr7, kr7⟩, rfl⟩ := hp
            refine lv_istore_n (lv' := [(3, .int (iI r7)), (4, .int (iI k9)), (0, .ref (b 0)), (1, .int (iI x)), (2, .int (iI y))]) hx hb dX0_ends_68 rfl hl (by decide) rfl (fun ls hl => ?_)
            refine g_iinc (lv' := [(4, .int (iI (k9 + 1))), (3, .int (iI r7)), (0, .ref (b 0)), (1, .int (iI x)), (2, .int (iI y))]) hx hb dX0_ends_69 hl (k := 1) rfl (by decide) rfl (fun ls hl => ?_)
            refine lv_goto (tgt := 19) hx hb dX0_ends_72 (by decide) ?_
            exact ih_19 r7 (k9 + 1) (f - 1) (by omega) (by omega) (by omega) (by rw [← hi19_2, ← endA_s (show 0 < f by omega)]; show _ = endA _ _ _ _ _ (actZ (U 20) (U 22 (2 * k9)) (U 22 (2 * k9 + 1)) sp); rw [← ew9, hr7])  _ _ _ hG hS (lv_sub hl [0, 1, 2, 3, 4] rfl)
          · refine g_aald (v := .ref (b 87)) hx hb 3 hK hG hX.c3 rfl dX0_ends_47 (by omega) (rfl) ?_
            refine lv_iload_n hx hb dX0_ends_48 rfl (lv_at hl 1 rfl) ?_
            refine lv_aload_n hx hb dX0_ends_49 rfl (lv_at hl 2 rfl) ?_
            refine g_get (C := RX0) (T := TX0) (N := 20) (v := .ref (b 1)) hx hb hts hown hK hG hX.c0 rfl in_X0 0 (by decide) q420 rfl rfl dX0_ends_50 ?_
            refine g_getN (C := RX1) (T := TX1) (N := 4) (v := .ref (b 22)) hx hb hts hown hK hG hX.c1 rfl in_X1 2 (by decide) q191 rfl rfl dX0_ends_53 ?_
            refine g_iconst hx hb dX0_ends_56 ?_
            refine lv_iload hx hb dX0_ends_57 (lv_at hl 0 rfl) ?_
            refine g_imul hx hb dX0_ends_59 ?_
            refine g_iconst hx hb dX0_ends_60 ?_
            refine g_iadd hx hb dX0_ends_61 ?_
            refine g_iald hx hb hK hG hX.c22 dX0_ends_62 (by omega) ?_
            refine g_lc7 (t := 0) (rest := []) hx hb hml hown hts hK hG hS hl.1 (mX0_turnedOver l X σ b U J R hX hT sp ((U 22) ((2 * k9) + 1)) (by omega)) (lam7_cell hX.2.2 hK hS)  q1634 (fun v σ' h => by obtain ⟨r, rfl, -⟩ := h; exact ⟨_, rfl⟩) ⟨Nat.le_of_ble_eq_true rfl, Nat.le_of_ble_eq_true rfl⟩ ⟨Nat.le_of_ble_eq_true rfl, Nat.le_of_ble_eq_true rfl⟩ (Nat.le_of_ble_eq_true rfl) dX0_ends_63 (kI (fun r8 σr8 H locs hp hG hS => ?_))
            obtain ⟨⟨hr8, kr8⟩, rfl⟩ := hp
            refine lv_istore_n (lv' := [(3, .int (iI r8)), (4, .int (iI k9)), (0, .ref (b 0)), (1, .int (iI x)), (2, .int (iI y))]) hx hb dX0_ends_68 rfl hl (by decide) rfl (fun ls hl => ?_)
            refine g_iinc (lv' := [(4, .int (iI (k9 + 1))), (3, .int (iI r8)), (0, .ref (b 0)), (1, .int (iI x)), (2, .int (iI y))]) hx hb dX0_ends_69 hl (k := 1) rfl (by decide) rfl (fun ls hl => ?_)
            refine lv_goto (tgt := 19) hx hb dX0_ends_72 (by decide) ?_
            exact ih_19 r8 (k9 + 1) (f - 1) (by omega) (by omega) (by omega) (by rw [← hi19_2, ← endA_s (show 0 < f by omega)]; show _ = endA _ _ _ _ _ (actZ (U 20) (U 22 (2 * k9)) (U 22 (2 * k9 + 1)) sp); rw [← ew9, hr8])  _ _ _ hG hS (lv_sub hl [0, 1, 2, 3, 4] rfl)
    exact loop_19 _ r3 0 ((J 30).toNat) (Nat.lt_succ_self _) (by omega) (by omega) (by simp only [*])  _ _ _ hG hS (lv_sub hl [0, 1, 2, 3, 4] rfl)
  · refine g_iconst hx hb dX0_ends_8 ?_
    exact g_iret hx hb hr hlocks hQ hG hS (Nat.zero_le _) (Nat.zero_le _) ⟨_, rfl, (by rw [if_neg (by omega)]), rfl⟩ dX0_ends_9
