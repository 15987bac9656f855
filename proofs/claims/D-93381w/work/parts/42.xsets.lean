theorem mX11_init (l : Launch) (X : gX) (σ : gS) (z tz : Nat) (x : Int) (hz : σ z = some (tz, gO 11 [.int (iI 0)])) : gMet l X yX11_init cX11_init 2 none 1 0 0 20 σ [.ref z, .int (iI x)] (oV (fun σ' => σ' = gup σ z (tz, gO 11 [.int (iI x)]))) := by
  refine gMet.of (by decide) (Nat.le_of_ble_eq_true rfl) ?_
  intro pp ee ss mm args below meth cd Q H locs ls hargs hx hb hr hlocks hml hown hnm hts hK hG hS hQ hl
  have hown : ss.vm.findClass RX11 = some mm.cls := hown
  have hl : lv_has ls 2 [(0, .ref z), (1, .int (iI x))] := hl
  refine lv_aload_n hx hb dX11_init_0 rfl (lv_at hl 0 rfl) ?_
  refine W.objInit hx hb hown (hts _ q1490) (hts _ q123) (hts _ q124) rfl (by rw [hml]; exact hl.1) rfl dX11_init_1 (Nat.le_of_ble_eq_true rfl) (Nat.le_of_ble_eq_true rfl) ?_
  refine W.eq (g2 := F0 mm 4 ls []) rfl ?_
  refine lv_aload_n hx hb dX11_init_4 rfl (lv_at hl 0 rfl) ?_
  refine lv_iload_n hx hb dX11_init_5 rfl (lv_at hl 1 rfl) ?_
  refine g_putF (C := RX11) (T := TX11) (N := 1) (ty0 := tyX11) (v := .int (iI x)) hx hb hts hown hK hG hS hz rfl in_X11 tyX11_ok nmX11 0 (by decide) q1491 rfl (by decide) hnm rfl rfl rfl (Nat.le_of_ble_eq_true rfl) dX11_init_6 (fun H locs hG hS => ?_)
  have hs1 : (gup σ z (tz, gO 11 ([.int (iI 0)].set 0 (.int (iI x))))) = gup σ z (tz, gO 11 [.int (iI x)]) := by rfl
  have hL1 : (gup σ z (tz, gO 11 ([.int (iI 0)].set 0 (.int (iI x))))) z = some (tz, gO 11 [.int (iI x)]) := gup_s
  generalize (gup σ z (tz, gO 11 ([.int (iI 0)].set 0 (.int (iI x))))) = σ1 at hG hs1 hL1
  exact g_vret hx hb hr hlocks hQ hG hS (Nat.zero_le _) (Nat.zero_le _) ⟨rfl, hs1⟩ dX11_init_9

set_option maxHeartbeats 8000000 in
theorem mX0_tell (l : Launch) (X : gX) (σ : gS) (b : Nat → Nat) (U : Nat → Int → Int) (J : Nat → Int) (R : Int → Option Nat) (hX : XW X σ b U J R) (hT : okT (U 20)) (n2 : Nat) (cd2 : Nat → Int) (hS2 : SetW X σ 2 (b 21) n2 cd2) (x : Int) (y : Int)  (h0 : (-2147483648 ≤ x ∧ x ≤ 2147483647)) (h1 : (-2147483648 ≤ y ∧ y ≤ 2147483647)) (h2 : n2 ≤ 12) : gMet l X yX0_tell cX0_tell 4 (some .int) 8 2 7 179 σ [.ref (b 0), .int (iI x), .int (iI y)] (oI (fun r σ' => gKeep (fun t => t = 2) σ σ' ∧ ((¬ okSp x y ∧ r = -1 ∧ SetW X σ' 2 (b 21) n2 cd2) ∨ okSp x y ∧ ((inQ n2 cd2 (32 * x + y) ∧ r = -3 ∧ SetW X σ' 2 (b 21) n2 cd2) ∨ ¬ inQ n2 cd2 (32 * x + y) ∧ (n2 = 12 ∧ r = -4 ∧ SetW X σ' 2 (b 21) n2 cd2 ∨ ¬ n2 = 12 ∧ r = (n2 : Int) + 1 ∧ ∃ cd', SetW X σ' 2 (b 21) (n2 + 1) cd' ∧ ∀ v, inQ (n2 + 1) cd' v ↔ inQ n2 cd2 v ∨ v = 32 * x + y))))) := by
  refine gMet.of (by decide) (Nat.le_of_ble_eq_true rfl) ?_
  intro pp ee ss mm args below meth cd Q H locs ls hargs hx hb hr hlocks hml hown hnm hts hK hG hS hQ hl
  have hown : ss.vm.findClass RX0 = some mm.cls := hown
  have hl : lv_has ls 4 [(0, .ref (b 0)), (1, .int (iI x)), (2, .int (iI y))] := hl
  have hkp : gKeep (fun t => t = 2) σ σ := gKeep.rf
  refine lv_iload_n hx hb dX0_tell_0 rfl (lv_at hl 1 rfl) ?_
  refine lv_iload_n hx hb dX0_tell_1 rfl (lv_at hl 2 rfl) ?_
  refine g_callS (As := [.int (iI x), .int (iI y)]) (rest := []) 2 hx hb hml hown hts hK hG hS hl.1 (mX0_isSpot l X σ  x y (by omega) (by omega)) q591 q592 q69 q593 (by decide +kernel) rfl ⟨Nat.le_of_ble_eq_true rfl, Nat.le_of_ble_eq_true rfl⟩ ⟨Nat.le_of_ble_eq_true rfl, Nat.le_of_ble_eq_true rfl⟩ (Nat.le_of_ble_eq_true rfl) dX0_tell_2 (kI (fun r1 σr1 H locs hp hG hS => ?_))
  obtain ⟨hr1, rfl⟩ := hp
  refine g_if_ne (tgt := 10) hx hb dX0_tell_5 (by decide) (by omega) (fun cq2 => ?_) (fun cq2 => ?_)
  · refine g_new (ci := 11) (C := RX11) (T := TX11) (N := 1) (ty := tyX11) (fs := [.int (iI 0)]) hx hb 5 hts hown hK hG hS rfl in_X11 tyX11_ok q1485 q1486 q114 (fun j hj => match j, hj with | 0, _ => rfl | k9 + 1, h => absurd h (by omega)) (Nat.le_of_ble_eq_true rfl) (Nat.le_of_ble_eq_true rfl) dX0_tell_10 (fun nw3 H hznw3 hG hS => ?_)
    have hLnw3 : (gup σ nw3 (5, gO 11 [.int (iI 0)])) nw3 = some (5, gO 11 [.int (iI 0)]) := gup_s
    generalize hgen4 : (gup σ nw3 (5, gO 11 [.int (iI 0)])) = σ4 at hG hLnw3 
    refine lv_dup hx hb dX0_tell_13 rfl ?_
    refine lv_iload_n hx hb dX0_tell_14 rfl (lv_at hl 1 rfl) ?_
    refine lv_iload_n hx hb dX0_tell_15 rfl (lv_at hl 2 rfl) ?_
    refine g_callS (As := [.int (iI x), .int (iI y)]) (rest := [.ref nw3, .ref nw3]) 2 hx hb hml hown hts hK hG hS hl.1 (mX0_codeOf l X σ4  x y (by omega) (by omega)) q387 q388 q69 q389 (by decide +kernel) rfl ⟨Nat.le_of_ble_eq_true rfl, Nat.le_of_ble_eq_true rfl⟩ ⟨Nat.le_of_ble_eq_true rfl, Nat.le_of_ble_eq_true rfl⟩ (Nat.le_of_ble_eq_true rfl) dX0_tell_16 (kI (fun r5 σr5 H locs hp hG hS => ?_))
    obtain ⟨hr5, rfl⟩ := hp
    refine g_callI (As := [.int (iI r5)]) (rest := [.ref nw3]) 1 hx hb hml hown hts hK hG hS hl.1 (mX11_init l X σ4 nw3 _ r5 hLnw3) q1487 q1488 q114 q1489 rfl (by decide +kernel) rfl ⟨Nat.le_of_ble_eq_true rfl, Nat.le_of_ble_eq_true rfl⟩ ⟨Nat.le_of_ble_eq_true rfl, Nat.le_of_ble_eq_true rfl⟩ (Nat.le_of_ble_eq_true rfl) dX0_tell_19 (kV (fun σr6 H locs hp hG hS => ?_))
    have hp : σr6 = (gup σ4 nw3 (5, gO 11 [.int (iI r5)])) := hp
    have hL7 : σr6 nw3 = some (5, gO 11 [.int (iI r5)]) := by rw [hp]; exact gup_s
    have hp7 : σr6 = (gup σ nw3 (5, gO 11 [.int (iI r5)])) := by rw [hp, ← hgen4, gup_gup]
    have hX_f7 : XW X σr6 b U J R := by rw [hp7]; exact hX.keep (gKeep.new hznw3 : gKeep (fun _ => False) _ _) (fun h => h)
    have hS2_f7 : SetW X σr6 2 (b 21) n2 cd2 := by rw [hp7]; exact hS2.keep (gKeep.new hznw3 : gKeep (fun _ => False) _ _) (fun h => h) (fun h => h) (fun h => h) (fun h => h)
    have hkp_f7 : gKeep (fun t => t = 2) σ σr6 := by rw [hp7]; exact hkp.tr (gKeep.new hznw3)
    refine lv_astore_n (lv' := [(3, .ref nw3), (0, .ref (b 0)), (1, .int (iI x)), (2, .int (iI y))]) hx hb dX0_tell_22 rfl hl (by decide) rfl (fun ls hl => ?_)
    refine lv_aload_n hx hb dX0_tell_23 rfl (lv_at hl 1 rfl) ?_
    refine g_get (C := RX0) (T := TX0) (N := 20) (v := .ref (b 1)) hx hb hts hown hK hG hX_f7.c0 rfl in_X0 0 (by decide) q420 rfl rfl dX0_tell_24 ?_
    refine g_getN (C := RX1) (T := TX1) (N := 4) (v := .ref (b 21)) hx hb hts hown hK hG hX_f7.c1 rfl in_X1 1 (by decide) q189 rfl rfl dX0_tell_27 ?_
    refine lv_aload_n hx hb dX0_tell_30 rfl (lv_at hl 0 rfl) ?_
    obtain ⟨mq8, hq8⟩ := hS2_f7.hsa
    obtain ⟨mq10, hq10⟩ := hS2_f7.hsa
    refine g_callV (As := [.ref nw3]) (rest := []) 1 hx hb hml hown hts hK hG hS hl.1 (mT_contains hS2_f7 (c9 := r5) hL7 (by omega)) hq10 rfl q1496 q1497 q1498 q73 q1499 (by decide +kernel) rfl ⟨Nat.le_of_ble_eq_true rfl, Nat.le_of_ble_eq_true rfl⟩ ⟨Nat.le_of_ble_eq_true rfl, Nat.le_of_ble_eq_true rfl⟩ (Nat.le_of_ble_eq_true rfl) dX0_tell_31 (kI (fun r9 σr9 H locs hp hG hS => ?_))
    obtain ⟨hr9, rfl⟩ := hp
    have kr9 : r9 = 0 ∨ r9 = 1 := by rcases hr9 with ⟨h, -⟩ | ⟨h, -⟩ <;> omega
    have hc9 := hr9
    rw [hr5] at hc9
    refine g_if_eq (tgt := 40) hx hb dX0_tell_34 (by decide) (by omega) (fun cq11 => ?_) (fun cq11 => ?_)
    · refine lv_aload_n hx hb dX0_tell_40 rfl (lv_at hl 1 rfl) ?_
      refine g_get (C := RX0) (T := TX0) (N := 20) (v := .ref (b 1)) hx hb hts hown hK hG hX_f7.c0 rfl in_X0 0 (by decide) q420 rfl rfl dX0_tell_41 ?_
      refine g_getN (C := RX1) (T := TX1) (N := 4) (v := .ref (b 21)) hx hb hts hown hK hG hX_f7.c1 rfl in_X1 1 (by decide) q189 rfl rfl dX0_tell_44 ?_
      obtain ⟨mq12, hq12⟩ := hS2_f7.hsa
      obtain ⟨mq14, hq14⟩ := hS2_f7.hsa
      refine g_callV (As := []) (rest := []) 0 hx hb hml hown hts hK hG hS hl.1 (mS_size hS2_f7) hq14 rfl q1508 q1509 q1510 q73 q1511 (by decide +kernel) rfl ⟨Nat.le_of_ble_eq_true rfl, Nat.le_of_ble_eq_true rfl⟩ ⟨Nat.le_of_ble_eq_true rfl, Nat.le_of_ble_eq_true rfl⟩ (Nat.le_of_ble_eq_true rfl) dX0_tell_47 (kI (fun r13 σr13 H locs hp hG hS => ?_))
      obtain ⟨rfl, rfl⟩ := hp
      refine g_bipush hx hb dX0_tell_50 (by decide) ?_
      refine g_icmp_ne (tgt := 58) hx hb dX0_tell_52 (by decide) (by omega) (by omega) (fun cq15 => ?_) (fun cq15 => ?_)
      · refine lv_aload_n hx hb dX0_tell_58 rfl (lv_at hl 1 rfl) ?_
        refine g_get (C := RX0) (T := TX0) (N := 20) (v := .ref (b 1)) hx hb hts hown hK hG hX_f7.c0 rfl in_X0 0 (by decide) q420 rfl rfl dX0_tell_59 ?_
        refine g_getN (C := RX1) (T := TX1) (N := 4) (v := .ref (b 21)) hx hb hts hown hK hG hX_f7.c1 rfl in_X1 1 (by decide) q189 rfl rfl dX0_tell_62 ?_
        refine lv_aload_n hx hb dX0_tell_65 rfl (lv_at hl 0 rfl) ?_
        obtain ⟨mq16, hq16⟩ := hS2_f7.hsa
        obtain ⟨mq18, hq18⟩ := hS2_f7.hsa
        refine g_callV (As := [.ref nw3]) (rest := []) 1 hx hb hml hown hts hK hG hS hl.1 (mT_add hS2_f7 (c9 := r5) hL7 (by omega)) hq18 rfl q1518 q1519 q1520 q73 q1521 (by decide +kernel) rfl ⟨Nat.le_of_ble_eq_true rfl, Nat.le_of_ble_eq_true rfl⟩ ⟨Nat.le_of_ble_eq_true rfl, Nat.le_of_ble_eq_true rfl⟩ (Nat.le_of_ble_eq_true rfl) dX0_tell_66 (kI (fun r17 σr17 H locs hp hG hS => ?_))
        obtain ⟨kq19, n_19, cd_19, hS_19, hin19, hnn19⟩ := hp
        have hX_20 : XW X σr17 b U J R := hX_f7.keep kq19 (by first | decide | omega | (intro q9; dsimp only at q9; omega))
        have hLc20_0 := kq19 _ _ _ hL7 (by first | decide | omega | (intro q9; dsimp only at q9; omega))
        have hkp20 : gKeep (fun t => t = 2) σ σr17 := hkp_f7.tr (kq19.mono (fun t (h : t = 2) => (by show t = 2; omega)))
        have hnE : n_19 = n2 + 1 := by
          rcases hnn19 with ⟨-, q⟩ | ⟨q, -⟩
          · exfalso; rcases hc9 with ⟨q2, -⟩ | ⟨-, q2⟩
            · omega
            · rw [hr5] at q; exact q2 q
          · exact q
        rw [hr5] at hin19
        refine lv_pop hx hb dX0_tell_69 rfl ?_
        refine lv_aload_n hx hb dX0_tell_70 rfl (lv_at hl 1 rfl) ?_
        refine g_get (C := RX0) (T := TX0) (N := 20) (v := .ref (b 1)) hx hb hts hown hK hG hX_20.c0 rfl in_X0 0 (by decide) q420 rfl rfl dX0_tell_71 ?_
        refine g_getN (C := RX1) (T := TX1) (N := 4) (v := .ref (b 21)) hx hb hts hown hK hG hX_20.c1 rfl in_X1 1 (by decide) q189 rfl rfl dX0_tell_74 ?_
        obtain ⟨mq21, hq21⟩ := hS_19.hsa
        obtain ⟨mq23, hq23⟩ := hS_19.hsa
        refine g_callV (As := []) (rest := []) 0 hx hb hml hown hts hK hG hS hl.1 (mS_size hS_19) hq23 rfl q1508 q1509 q1510 q73 q1511 (by decide +kernel) rfl ⟨Nat.le_of_ble_eq_true rfl, Nat.le_of_ble_eq_true rfl⟩ ⟨Nat.le_of_ble_eq_true rfl, Nat.le_of_ble_eq_true rfl⟩ (Nat.le_of_ble_eq_true rfl) dX0_tell_77 (kI (fun r22 σr22 H locs hp hG hS => ?_))
        obtain ⟨rfl, rfl⟩ := hp
        exact g_iret hx hb hr hlocks hQ hG hS (Nat.le_of_ble_eq_true rfl) (Nat.le_of_ble_eq_true rfl) ⟨_, rfl, hkp20, (Or.inr ⟨by omega, Or.inr ⟨by rcases hc9 with ⟨q, -⟩ | ⟨-, q⟩; omega; exact q, Or.inr ⟨by omega, by rw [hnE]; omega, cd_19, (by rw [← hnE]; exact hS_19), (by rw [← hnE]; exact hin19)⟩⟩⟩)⟩ dX0_tell_80
      · refine g_bipush hx hb dX0_tell_55 (by decide) ?_
        exact g_iret hx hb hr hlocks hQ hG hS (Nat.le_of_ble_eq_true rfl) (Nat.le_of_ble_eq_true rfl) ⟨_, rfl, hkp_f7, (Or.inr ⟨by omega, Or.inr ⟨by rcases hc9 with ⟨q, -⟩ | ⟨-, q⟩; omega; exact q, Or.inl ⟨by omega, rfl, hS2_f7⟩⟩⟩)⟩ dX0_tell_57
    · refine g_bipush hx hb dX0_tell_37 (by decide) ?_
      exact g_iret hx hb hr hlocks hQ hG hS (Nat.le_of_ble_eq_true rfl) (Nat.le_of_ble_eq_true rfl) ⟨_, rfl, hkp_f7, (Or.inr ⟨by omega, Or.inl ⟨by rcases hc9 with ⟨-, q⟩ | ⟨q, -⟩; exact q; omega, rfl, hS2_f7⟩⟩)⟩ dX0_tell_39
  · refine g_iconst hx hb dX0_tell_8 ?_
    exact g_iret hx hb hr hlocks hQ hG hS (Nat.zero_le _) (Nat.zero_le _) ⟨_, rfl, hkp, (Or.inl ⟨by omega, rfl, hS2⟩)⟩ dX0_tell_9

set_option maxHeartbeats 8000000 in
theorem mX0_forget (l : Launch) (X : gX) (σ : gS) (b : Nat → Nat) (U : Nat → Int → Int) (J : Nat → Int) (R : Int → Option Nat) (hX : XW X σ b U J R) (hT : okT (U 20)) (n2 : Nat) (cd2 : Nat → Int) (hS2 : SetW X σ 2 (b 21) n2 cd2) (x : Int) (y : Int)  (h0 : (-2147483648 ≤ x ∧ x ≤ 2147483647)) (h1 : (-2147483648 ≤ y ∧ y ≤ 2147483647)) (h2 : n2 ≤ 12) : gMet l X yX0_forget cX0_forget 3 (some .int) 6 1 1 131 σ [.ref (b 0), .int (iI x), .int (iI y)] (oI (fun r σ' => gKeep (fun t => t = 2) σ σ' ∧ ((¬ okSp x y ∧ r = -1 ∧ SetW X σ' 2 (b 21) n2 cd2) ∨ okSp x y ∧ ∃ n' cd', SetW X σ' 2 (b 21) n' cd' ∧ (∀ v, inQ n' cd' v ↔ inQ n2 cd2 v ∧ v ≠ 32 * x + y) ∧ (¬ inQ n2 cd2 (32 * x + y) ∧ r = -3 ∧ n' = n2 ∨ inQ n2 cd2 (32 * x + y) ∧ r = (n' : Int) ∧ n' + 1 = n2)))) := by
  refine gMet.of (by decide) (Nat.le_of_ble_eq_true rfl) ?_
  intro pp ee ss mm args below meth cd Q H locs ls hargs hx hb hr hlocks hml hown hnm hts hK hG hS hQ hl
  have hown : ss.vm.findClass RX0 = some mm.cls := hown
  have hl : lv_has ls 3 [(0, .ref (b 0)), (1, .int (iI x)), (2, .int (iI y))] := hl
  have hkp : gKeep (fun t => t = 2) σ σ := gKeep.rf
  refine lv_iload_n hx hb dX0_forget_0 rfl (lv_at hl 1 rfl) ?_
  refine lv_iload_n hx hb dX0_forget_1 rfl (lv_at hl 2 rfl) ?_
  refine g_callS (As := [.int (iI x), .int (iI y)]) (rest := []) 2 hx hb hml hown hts hK hG hS hl.1 (mX0_isSpot l X σ  x y (by omega) (by omega)) q591 q592 q69 q593 (by decide +kernel) rfl ⟨Nat.le_of_ble_eq_true rfl, Nat.le_of_ble_eq_true rfl⟩ ⟨Nat.le_of_ble_eq_true rfl, Nat.le_of_ble_eq_true rfl⟩ (Nat.le_of_ble_eq_true rfl) dX0_forget_2 (kI (fun r1 σr1 H locs hp hG hS => ?_))
  obtain ⟨hr1, rfl⟩ := hp
  refine g_if_ne (tgt := 10) hx hb dX0_forget_5 (by decide) (by omega) (fun cq2 => ?_) (fun cq2 => ?_)
  · refine lv_aload_n hx hb dX0_forget_10 rfl (lv_at hl 0 rfl) ?_
    refine g_get (C := RX0) (T := TX0) (N := 20) (v := .ref (b 1)) hx hb hts hown hK hG hX.c0 rfl in_X0 0 (by decide) q420 rfl rfl dX0_forget_11 ?_
    refine g_getN (C := RX1) (T := TX1) (N := 4) (v := .ref (b 21)) hx hb hts hown hK hG hX.c1 rfl in_X1 1 (by decide) q189 rfl rfl dX0_forget_14 ?_
    refine g_new (ci := 11) (C := RX11) (T := TX11) (N := 1) (ty := tyX11) (fs := [.int (iI 0)]) hx hb 5 hts hown hK hG hS rfl in_X11 tyX11_ok q1485 q1486 q114 (fun j hj => match j, hj with | 0, _ => rfl | k9 + 1, h => absurd h (by omega)) (Nat.le_of_ble_eq_true rfl) (Nat.le_of_ble_eq_true rfl) dX0_forget_17 (fun nw3 H hznw3 hG hS => ?_)
    have hLnw3 : (gup σ nw3 (5, gO 11 [.int (iI 0)])) nw3 = some (5, gO 11 [.int (iI 0)]) := gup_s
    generalize hgen4 : (gup σ nw3 (5, gO 11 [.int (iI 0)])) = σ4 at hG hLnw3 
    refine lv_dup hx hb dX0_forget_20 rfl ?_
    refine lv_iload_n hx hb dX0_forget_21 rfl (lv_at hl 1 rfl) ?_
    refine lv_iload_n hx hb dX0_forget_22 rfl (lv_at hl 2 rfl) ?_
    refine g_callS (As := [.int (iI x), .int (iI y)]) (rest := [.ref nw3, .ref nw3, .ref (b 21)]) 2 hx hb hml hown hts hK hG hS hl.1 (mX0_codeOf l X σ4  x y (by omega) (by omega)) q387 q388 q69 q389 (by decide +kernel) rfl ⟨Nat.le_of_ble_eq_true rfl, Nat.le_of_ble_eq_true rfl⟩ ⟨Nat.le_of_ble_eq_true rfl, Nat.le_of_ble_eq_true rfl⟩ (Nat.le_of_ble_eq_true rfl) dX0_forget_23 (kI (fun r5 σr5 H locs hp hG hS => ?_))
    obtain ⟨hr5, rfl⟩ := hp
    refine g_callI (As := [.int (iI r5)]) (rest := [.ref nw3, .ref (b 21)]) 1 hx hb hml hown hts hK hG hS hl.1 (mX11_init l X σ4 nw3 _ r5 hLnw3) q1487 q1488 q114 q1489 rfl (by decide +kernel) rfl ⟨Nat.le_of_ble_eq_true rfl, Nat.le_of_ble_eq_true rfl⟩ ⟨Nat.le_of_ble_eq_true rfl, Nat.le_of_ble_eq_true rfl⟩ (Nat.le_of_ble_eq_true rfl) dX0_forget_26 (kV (fun σr6 H locs hp hG hS => ?_))
    have hp : σr6 = (gup σ4 nw3 (5, gO 11 [.int (iI r5)])) := hp
    have hL7 : σr6 nw3 = some (5, gO 11 [.int (iI r5)]) := by rw [hp]; exact gup_s
    have hp7 : σr6 = (gup σ nw3 (5, gO 11 [.int (iI r5)])) := by rw [hp, ← hgen4, gup_gup]
    have hX_f7 : XW X σr6 b U J R := by rw [hp7]; exact hX.keep (gKeep.new hznw3 : gKeep (fun _ => False) _ _) (fun h => h)
    have hS2_f7 : SetW X σr6 2 (b 21) n2 cd2 := by rw [hp7]; exact hS2.keep (gKeep.new hznw3 : gKeep (fun _ => False) _ _) (fun h => h) (fun h => h) (fun h => h) (fun h => h)
    have hkp_f7 : gKeep (fun t => t = 2) σ σr6 := by rw [hp7]; exact hkp.tr (gKeep.new hznw3)
    obtain ⟨mq8, hq8⟩ := hS2_f7.hsa
    obtain ⟨mq10, hq10⟩ := hS2_f7.hsa
    refine g_callV (As := [.ref nw3]) (rest := []) 1 hx hb hml hown hts hK hG hS hl.1 (mT_remove hS2_f7 (c9 := r5) hL7 (by omega)) hq10 rfl q1534 q1535 q1536 q73 q1537 (by decide +kernel) rfl ⟨Nat.le_of_ble_eq_true rfl, Nat.le_of_ble_eq_true rfl⟩ ⟨Nat.le_of_ble_eq_true rfl, Nat.le_of_ble_eq_true rfl⟩ (Nat.le_of_ble_eq_true rfl) dX0_forget_29 (kI (fun r9 σr9 H locs hp hG hS => ?_))
    obtain ⟨kq11, n_11, cd_11, hS_11, hin11, hnn11⟩ := hp
    have hX_12 : XW X σr9 b U J R := hX_f7.keep kq11 (by first | decide | omega | (intro q9; dsimp only at q9; omega))
    have hLc12_0 := kq11 _ _ _ hL7 (by first | decide | omega | (intro q9; dsimp only at q9; omega))
    have hkp12 : gKeep (fun t => t = 2) σ σr9 := hkp_f7.tr (kq11.mono (fun t (h : t = 2) => (by show t = 2; omega)))
    rw [hr5] at hin11 hnn11
    have kr9 : r9 = 0 ∨ r9 = 1 := by rcases hnn11 with ⟨h, -⟩ | ⟨h, -⟩ <;> omega
    refine g_if_eq (tgt := 48) hx hb dX0_forget_32 (by decide) (by omega) (fun cq13 => ?_) (fun cq13 => ?_)
    · refine g_bipush hx hb dX0_forget_48 (by decide) ?_
      exact g_iret hx hb hr hlocks hQ hG hS (Nat.le_of_ble_eq_true rfl) (Nat.le_of_ble_eq_true rfl) ⟨_, rfl, hkp12, (Or.inr ⟨by omega, n_11, cd_11, hS_11, hin11, Or.inl (by rcases hnn11 with ⟨-, q1, q2⟩ | ⟨q, -⟩; exact ⟨q2, rfl, q1⟩; omega)⟩)⟩ dX0_forget_50
    · refine lv_aload_n hx hb dX0_forget_35 rfl (lv_at hl 0 rfl) ?_
      refine g_get (C := RX0) (T := TX0) (N := 20) (v := .ref (b 1)) hx hb hts hown hK hG hX_12.c0 rfl in_X0 0 (by decide) q420 rfl rfl dX0_forget_36 ?_
      refine g_getN (C := RX1) (T := TX1) (N := 4) (v := .ref (b 21)) hx hb hts hown hK hG hX_12.c1 rfl in_X1 1 (by decide) q189 rfl rfl dX0_forget_39 ?_
      obtain ⟨mq14, hq14⟩ := hS_11.hsa
      obtain ⟨mq16, hq16⟩ := hS_11.hsa
      refine g_callV (As := []) (rest := []) 0 hx hb hml hown hts hK hG hS hl.1 (mS_size hS_11) hq16 rfl q1508 q1509 q1510 q73 q1511 (by decide +kernel) rfl ⟨Nat.le_of_ble_eq_true rfl, Nat.le_of_ble_eq_true rfl⟩ ⟨Nat.le_of_ble_eq_true rfl, Nat.le_of_ble_eq_true rfl⟩ (Nat.le_of_ble_eq_true rfl) dX0_forget_42 (kI (fun r15 σr15 H locs hp hG hS => ?_))
      obtain ⟨rfl, rfl⟩ := hp
      refine lv_goto (tgt := 50) hx hb dX0_forget_45 (by decide) ?_
      exact g_iret hx hb hr hlocks hQ hG hS (Nat.le_of_ble_eq_true rfl) (Nat.le_of_ble_eq_true rfl) ⟨_, rfl, hkp12, (Or.inr ⟨by omega, n_11, cd_11, hS_11, hin11, Or.inr (by rcases hnn11 with ⟨q, -⟩ | ⟨-, q1, q2⟩; omega; exact ⟨q2, rfl, q1⟩)⟩)⟩ dX0_forget_50
  · refine g_iconst hx hb dX0_forget_8 ?_
    exact g_iret hx hb hr hlocks hQ hG hS (Nat.zero_le _) (Nat.zero_le _) ⟨_, rfl, hkp, (Or.inl ⟨by omega, rfl, hS2⟩)⟩ dX0_forget_9

set_option maxHeartbeats 8000000 in
theorem mX0_nthOf_2 (l : Launch) (X : gX) (σ : gS) (tg sa nn : Nat) (ce : Nat → Int) (hST : SetW X σ tg sa nn ce) (i : Int) (ht9 : tg = 2 ∨ tg = 3 ∨ tg = 6) (h0 : (-2147483648 ≤ i ∧ i ≤ 2147483647)) (h1 : nn ≤ 1024) : gMet l X yX0_nthOf_2 cX0_nthOf_2 5 (some .int) 6 2 5 124 σ [.ref sa, .int (iI i)] (oI (fun r σ' => gKeep (fun t => t = tg ∨ t = 15) σ σ' ∧ (r = (if 0 ≤ i ∧ i < (nn : Int) then ce i.toNat else -5) ∧ SetW X σ' tg sa nn ce))) := by
  refine gMet.of (by decide) (Nat.le_of_ble_eq_true rfl) ?_
  intro pp ee ss mm args below meth cd Q H locs ls hargs hx hb hr hlocks hml hown hnm hts hK hG hS hQ hl
  have hown : ss.vm.findClass RX0 = some mm.cls := hown
  have hl : lv_has ls 5 [(0, .ref sa), (1, .int (iI i))] := hl
  have hkp : gKeep (fun t => t = tg ∨ t = 15) σ σ := gKeep.rf
  refine g_iconst hx hb dX0_nthOf_2_0 ?_
  refine lv_istore_n (lv' := [(2, .int (iI 0)), (0, .ref sa), (1, .int (iI i))]) hx hb dX0_nthOf_2_1 rfl hl (by decide) rfl (fun ls hl => ?_)
  refine lv_aload_n hx hb dX0_nthOf_2_2 rfl (lv_at hl 1 rfl) ?_
  obtain ⟨mq1, hq1⟩ := hST.hsa
  obtain ⟨mq3, hq3⟩ := hST.hsa
  refine g_callV (As := []) (rest := []) 0 hx hb hml hown hts hK hG hS hl.1 (mS_iterator hST) hq3 rfl q1562 q1317 q2346 q73 q1319 (by decide +kernel) rfl ⟨Nat.le_of_ble_eq_true rfl, Nat.le_of_ble_eq_true rfl⟩ ⟨Nat.le_of_ble_eq_true rfl, Nat.le_of_ble_eq_true rfl⟩ (Nat.le_of_ble_eq_true rfl) dX0_nthOf_2_3 (kA (fun r2 σr2 H locs hp hG hS => ?_))
  obtain ⟨it_4, rfl, hI_4, kq4⟩ := hp
  have hkp5 : gKeep (fun t => t = tg ∨ t = 15) σ σr2 := hkp.tr (kq4.mono (fun t (h : t = tg) => (by show t = tg ∨ t = 15; omega)))
  refine lv_astore_n (lv' := [(3, .ref it_4), (2, .int (iI 0)), (0, .ref sa), (1, .int (iI i))]) hx hb dX0_nthOf_2_6 rfl hl (by decide) rfl (fun ls hl => ?_)
  have loop_7 : ∀ (nF : Nat) (σL : gS) (i9 : Int) (k9 : Nat), (nn - k9 : Nat) < nF → (gKeep (fun t => t = tg ∨ t = 15) σ σL) → (SetI X σL tg sa nn ce it_4 k9) → (i9 = (k9 : Int)) → (k9 ≤ nn) → (∀ j : Nat, j < k9 → (j : Int) ≠ i) → ∀ (H : Heap) (locs : List Loc) (ls : Array Slot), gSat X σL H → va_S (gA X) ss.heap H locs → lv_has ls 5 [(3, .ref it_4), (2, .int (iI i9)), (0, .ref sa), (1, .int (iI i))] → W pp l ee (gR 6 2 5 124) ss mm args below meth cd H locs 2 5 Q (F0 mm 7 ls []) := by
    intro nF
    induction nF with
    | zero => intro σL i9 k9 hm; exact absurd hm (Nat.not_lt_zero _)
    | succ nF ih_7 =>
      intro σL i9 k9 hm hkL hIL hi7_2 hi7_3 hno H locs ls hG hS hl
      refine lv_aload_n hx hb dX0_nthOf_2_7 rfl (lv_at hl 0 rfl) ?_
      obtain ⟨fs6, hq6⟩ := hIL.it
      refine g_callF (As := []) (rest := []) 0 hx hb hml hown hts hK hG hS hl.1 (mS_hasNext hIL) hq6 rfl q1349 q1359 q1355 q110 q1357 q1351 q1350 q1356 q1360 q1358 (by decide +kernel) rfl ⟨Nat.le_of_ble_eq_true rfl, Nat.le_of_ble_eq_true rfl⟩ ⟨Nat.le_of_ble_eq_true rfl, Nat.le_of_ble_eq_true rfl⟩ (Nat.le_of_ble_eq_true rfl) dX0_nthOf_2_8 (kI (fun r7 σr7 H locs hp hG hS => ?_))
      obtain ⟨hr7, rfl⟩ := hp
      have kr7 : r7 = 0 ∨ r7 = 1 := by rcases hr7 with ⟨h, -⟩ | ⟨h, -⟩ <;> omega
      refine g_if_eq (tgt := 44) hx hb dX0_nthOf_2_13 (by decide) (by omega) (fun cq8 => ?_) (fun cq8 => ?_)
      · refine g_bipush hx hb dX0_nthOf_2_44 (by decide) ?_
        exact g_iret hx hb hr hlocks hQ hG hS (Nat.le_of_ble_eq_true rfl) (Nat.le_of_ble_eq_true rfl) ⟨_, rfl, hkL, (⟨by
                  have hk : k9 = nn := by rcases hr7 with ⟨q, -⟩ | ⟨-, q⟩ <;> omega
                  rw [if_neg (fun q => hno i.toNat (by omega) (by omega))], hIL.W⟩)⟩ dX0_nthOf_2_46
      · refine lv_aload_n hx hb dX0_nthOf_2_16 rfl (lv_at hl 0 rfl) ?_
        obtain ⟨fs9, hq9⟩ := hIL.it
        have hlt10 : k9 < nn := by rcases hr7 with ⟨-, h⟩ | ⟨h, -⟩; exact h; omega
        refine g_callF (As := []) (rest := []) 0 hx hb hml hown hts hK hG hS hl.1 (mS_next hIL hlt10) hq9 rfl q1362 q1383 q1385 q112 q1387 q1364 q1363 q1386 q1384 q1358 (by decide +kernel) rfl ⟨Nat.le_of_ble_eq_true rfl, Nat.le_of_ble_eq_true rfl⟩ ⟨Nat.le_of_ble_eq_true rfl, Nat.le_of_ble_eq_true rfl⟩ (Nat.le_of_ble_eq_true rfl) dX0_nthOf_2_17 (kA (fun r11 σr11 H locs hp hG hS => ?_))
        obtain ⟨κ12, rfl, hκ12, hI_12, kq12⟩ := hp
        have hkp13 : gKeep (fun t => t = tg ∨ t = 15) σ σr11 := hkL.tr (kq12.mono (fun t (h : t = 15) => (by show t = tg ∨ t = 15; omega)))
        have hrg12 := hI_12.W.rng hlt10
        refine g_castS hx hb hts hown hK hG hκ12 rfl q1485 dX0_nthOf_2_22 ?_
        refine lv_astore (lv' := [(4, .ref κ12), (3, .ref it_4), (2, .int (iI i9)), (0, .ref sa), (1, .int (iI i))]) hx hb dX0_nthOf_2_25 hl (by decide) rfl (fun ls hl => ?_)
        refine lv_iload_n hx hb dX0_nthOf_2_27 rfl (lv_at hl 2 rfl) ?_
        refine lv_iload_n hx hb dX0_nthOf_2_28 rfl (lv_at hl 4 rfl) ?_
        refine g_icmp_ne (tgt := 38) hx hb dX0_nthOf_2_29 (by decide) (by omega) (by omega) (fun cq14 => ?_) (fun cq14 => ?_)
        · refine g_iinc (lv' := [(2, .int (iI (i9 + 1))), (4, .ref κ12), (3, .ref it_4), (0, .ref sa), (1, .int (iI i))]) hx hb dX0_nthOf_2_38 hl (k := 2) rfl (by decide) rfl (fun ls hl => ?_)
          refine lv_goto (tgt := 7) hx hb dX0_nthOf_2_41 (by decide) ?_
          exact ih_7 σr11 (i9 + 1) (k9 + 1) (by omega) (hkp13) (hI_12) (by omega) (by omega) (fun j h => by by_cases e : j = k9; omega; exact hno j (by omega))  _ _ _ hG hS (lv_sub hl [2, 0, 3, 4] rfl)
        · refine lv_aload hx hb dX0_nthOf_2_32 (lv_at hl 0 rfl) ?_
          refine g_getN (C := RX11) (T := TX11) (N := 1) (v := .int (iI (ce k9))) hx hb hts hown hK hG hκ12 rfl in_X11 0 (by decide) q1492 rfl rfl dX0_nthOf_2_34 ?_
          exact g_iret hx hb hr hlocks hQ hG hS (Nat.le_of_ble_eq_true rfl) (Nat.le_of_ble_eq_true rfl) ⟨_, rfl, hkp13, (⟨by rw [if_pos (by omega), show i.toNat = k9 by omega], hI_12.W⟩)⟩ dX0_nthOf_2_37
  exact loop_7 _ σr2 0 0 (Nat.lt_succ_self _) (hkp5) (hI_4) (rfl) (Nat.zero_le _) (fun j h => absurd h (Nat.not_lt_zero _))  _ _ _ hG hS (lv_sub hl [0, 1, 2, 3] rfl)

set_option maxHeartbeats 8000000 in
theorem mX0_told (l : Launch) (X : gX) (σ : gS) (b : Nat → Nat) (U : Nat → Int → Int) (J : Nat → Int) (R : Int → Option Nat) (hX : XW X σ b U J R) (hT : okT (U 20)) (n2 : Nat) (cd2 : Nat → Int) (hS2 : SetW X σ 2 (b 21) n2 cd2) (i : Int)  (h0 : (-2147483648 ≤ i ∧ i ≤ 2147483647)) (h1 : n2 ≤ 12) : gMet l X yX0_told cX0_told 2 (some .int) 7 2 5 148 σ [.ref (b 0), .int (iI i)] (oI (fun r σ' => gKeep (fun t => t = 2 ∨ t = 15) σ σ' ∧ (r = (if 0 ≤ i ∧ i < (n2 : Int) then cd2 i.toNat else -5) ∧ SetW X σ' 2 (b 21) n2 cd2))) := by
  refine gMet.of (by decide) (Nat.le_of_ble_eq_true rfl) ?_
  intro pp ee ss mm args below meth cd Q H locs ls hargs hx hb hr hlocks hml hown hnm hts hK hG hS hQ hl
  have hown : ss.vm.findClass RX0 = some mm.cls := hown
  have hl : lv_has ls 2 [(0, .ref (b 0)), (1, .int (iI i))] := hl
  have hkp : gKeep (fun t => t = 2 ∨ t = 15) σ σ := gKeep.rf
  refine lv_aload_n hx hb dX0_told_0 rfl (lv_at hl 0 rfl) ?_
  refine g_get (C := RX0) (T := TX0) (N := 20) (v := .ref (b 1)) hx hb hts hown hK hG hX.c0 rfl in_X0 0 (by decide) q420 rfl rfl dX0_told_1 ?_
  refine g_getN (C := RX1) (T := TX1) (N := 4) (v := .ref (b 21)) hx hb hts hown hK hG hX.c1 rfl in_X1 1 (by decide) q189 rfl rfl dX0_told_4 ?_
  refine lv_iload_n hx hb dX0_told_7 rfl (lv_at hl 1 rfl) ?_
  refine g_callS (As := [.ref (b 21), .int (iI i)]) (rest := []) 2 hx hb hml hown hts hK hG hS hl.1 (mX0_nthOf_2 l X σ 2 (b 21) n2 cd2 hS2 i (by first | assumption | decide | omega) (by first | assumption | decide | omega) (by first | assumption | decide | omega)) q1559 q1560 q69 q1561 (by decide +kernel) rfl ⟨Nat.le_of_ble_eq_true rfl, Nat.le_of_ble_eq_true rfl⟩ ⟨Nat.le_of_ble_eq_true rfl, Nat.le_of_ble_eq_true rfl⟩ (Nat.le_of_ble_eq_true rfl) dX0_told_8 (kI (fun r1 σr1 H locs hp hG hS => ?_))
  obtain ⟨kq2, hrel2⟩ := hp
  have hX_3 : XW X σr1 b U J R := hX.keep kq2 (by first | decide | omega | (intro q9; dsimp only at q9; omega))
  have hkp3 : gKeep (fun t => t = 2 ∨ t = 15) σ σr1 := hkp.tr (kq2.mono (fun t (h : t = 2 ∨ t = 15) => (by show t = 2 ∨ t = 15; omega)))
  obtain ⟨hv2, hT_2⟩ := hrel2
  exact g_iret hx hb hr hlocks hQ hG hS (Nat.le_of_ble_eq_true rfl) (Nat.le_of_ble_eq_true rfl) ⟨_, rfl, hkp3, (⟨hv2, hT_2⟩)⟩ dX0_told_11

theorem mvQ_l {m i : Nat} {ce f : Nat → Int} (h : ∀ v, inQ m ce v ↔ v ≠ -7 ∧ ∃ j, j < i ∧ f j = v) (e : f i = -7) (v : Int) : inQ m ce v ↔ v ≠ -7 ∧ ∃ j, j < i + 1 ∧ f j = v := by
  rw [h v]
  constructor
  · rintro ⟨h1, j, h2, h3⟩; exact ⟨h1, j, by omega, h3⟩
  · rintro ⟨h1, j, h2, h3⟩
    refine ⟨h1, j, ?_, h3⟩
    have : j ≠ i := fun q => h1 (by rw [← h3, q, e])
    omega
theorem mvQ_a {m i m' : Nat} {ce ce' f : Nat → Int} {c : Int} (h : ∀ v, inQ m ce v ↔ v ≠ -7 ∧ ∃ j, j < i ∧ f j = v) (e : f i = c) (hc : ¬ c = -7) (h2 : ∀ v, inQ m' ce' v ↔ inQ m ce v ∨ v = c) (v : Int) : inQ m' ce' v ↔ v ≠ -7 ∧ ∃ j, j < i + 1 ∧ f j = v := by
  rw [h2 v, h v]
  constructor
  · rintro (⟨h1, j, h3, h4⟩ | h1)
    · exact ⟨h1, j, by omega, h4⟩
    · exact ⟨by rw [h1]; exact hc, i, by omega, by rw [h1]; exact e⟩
  · rintro ⟨h1, j, h3, h4⟩
    by_cases q : j = i
    · right; rw [← h4, q]; exact e
    · exact Or.inl ⟨h1, j, by omega, h4⟩
theorem mvQ_0 {f ce : Nat → Int} (v : Int) : inQ 0 ce v ↔ v ≠ -7 ∧ ∃ j, j < 0 ∧ f j = v := ⟨fun ⟨i, h, _⟩ => absurd h (Nat.not_lt_zero _), fun ⟨_, i, h, _⟩ => absurd h (Nat.not_lt_zero _)⟩

set_option maxHeartbeats 8000000 in
theorem mX0_movedSet (l : Launch) (X : gX) (σ : gS) (b : Nat → Nat) (U : Nat → Int → Int) (J : Nat → Int) (R : Int → Option Nat) (hX : XW X σ b U J R) (hT : okT (U 20)) (n2 : Nat) (cd2 : Nat → Int) (hS2 : SetW X σ 2 (b 21) n2 cd2)   (h0 : n2 ≤ 12) : gMet l X yX0_movedSet cX0_movedSet 5 (some (.object "java/util/TreeSet")) 9 28 100 213 σ [.ref (b 0)] (oA (fun v σ' => gKeep (fun t => t = 2 ∨ t = 6 ∨ t = 15) σ σ' ∧ (∃ z m ce, v = .ref z ∧ SetW X σ' 6 z m ce ∧ m ≤ n2 ∧ SetW X σ' 2 (b 21) n2 cd2 ∧ ∀ x, inQ m ce x ↔ x ≠ -7 ∧ ∃ j, j < n2 ∧ stpZ (U 20) (cd2 j) 0 = x))) := by
  refine gMet.of (by decide) (Nat.le_of_ble_eq_true rfl) ?_
  intro pp ee ss mm args below meth cd Q H locs ls hargs hx hb hr hlocks hml hown hnm hts hK hG hS hQ hl
  have hown : ss.vm.findClass RX0 = some mm.cls := hown
  have hl : lv_has ls 5 [(0, .ref (b 0))] := hl
  have hkp : gKeep (fun t => t = 2 ∨ t = 6 ∨ t = 15) σ σ := gKeep.rf
  refine g_new (ci := 12) (C := RJ2) (T := TJ2) (N := 1) (ty := tyJ2) (fs := [.null]) hx hb 17 hts hown hK hG hS rfl in_J2 tyJ2_ok q1571 q132 q73 (fun j hj => match j, hj with | 0, _ => rfl | k9 + 1, h => absurd h (by omega)) (Nat.le_of_ble_eq_true rfl) (Nat.le_of_ble_eq_true rfl) dX0_movedSet_0 (fun nw1 H hznw1 hG hS => ?_)
  have hLnw1 : (gup σ nw1 (17, gO 12 [.null])) nw1 = some (17, gO 12 [.null]) := gup_s
  generalize hgen2 : (gup σ nw1 (17, gO 12 [.null])) = σ2 at hG hLnw1 
  refine lv_dup hx hb dX0_movedSet_3 rfl ?_
  refine g_callI (As := []) (rest := [.ref nw1]) 0 hx hb hml hown hts hK hG hS hl.1 (mS_init (tg := 6) hLnw1 (by omega) (fun _ => 0)) q1572 q134 q73 q135 rfl (by decide +kernel) rfl ⟨Nat.le_of_ble_eq_true rfl, Nat.le_of_ble_eq_true rfl⟩ ⟨Nat.le_of_ble_eq_true rfl, Nat.le_of_ble_eq_true rfl⟩ (Nat.le_of_ble_eq_true rfl) dX0_movedSet_4 (kV (fun σr3 H locs hp hG hS => ?_))
  obtain ⟨-, hS_4, mq4, hmq4, heq4⟩ := hp
  rw [← hgen2] at hmq4
  have hkq4 : gKeep (fun _ => False) σ σr3 := by
    rw [heq4, ← hgen2]
    intro a t x ha hf
    have q1 : a ≠ nw1 := fun e => by rw [e, hznw1] at ha; cases ha
    have q2 : a ≠ mq4 := fun e => by rw [← e, gup_n q1, ha] at hmq4; cases hmq4
    rw [gup_n q1, gup_n q2, gup_n q1]; exact ha
  have hX_5 : XW X σr3 b U J R := hX.keep hkq4 (by first | decide | omega | (intro q9; dsimp only at q9; omega))
  have hS2_5 : SetW X σr3 2 (b 21) n2 cd2 := hS2.keep hkq4 (by first | decide | omega | (intro q9; dsimp only at q9; omega)) (by first | decide | omega | (intro q9; dsimp only at q9; omega)) (by first | decide | omega | (intro q9; dsimp only at q9; omega)) (by first | decide | omega | (intro q9; dsimp only at q9; omega))
  have hkp5 : gKeep (fun t => t = 2 ∨ t = 6 ∨ t = 15) σ σr3 := hkp.tr (hkq4.mono (fun t h => h.elim))
  refine lv_astore_n (lv' := [(1, .ref nw1), (0, .ref (b 0))]) hx hb dX0_movedSet_7 rfl hl (by decide) rfl (fun ls hl => ?_)
  refine lv_aload_n hx hb dX0_movedSet_8 rfl (lv_at hl 1 rfl) ?_
  refine g_get (C := RX0) (T := TX0) (N := 20) (v := .ref (b 1)) hx hb hts hown hK hG hX_5.c0 rfl in_X0 0 (by decide) q420 rfl rfl dX0_movedSet_9 ?_
  refine g_getN (C := RX1) (T := TX1) (N := 4) (v := .ref (b 21)) hx hb hts hown hK hG hX_5.c1 rfl in_X1 1 (by decide) q189 rfl rfl dX0_movedSet_12 ?_
  obtain ⟨mq6, hq6⟩ := hS2_5.hsa
  obtain ⟨mq8, hq8⟩ := hS2_5.hsa
  refine g_callV (As := []) (rest := []) 0 hx hb hml hown hts hK hG hS hl.1 (mS_iterator hS2_5) hq8 rfl q1562 q1317 q2346 q73 q1319 (by decide +kernel) rfl ⟨Nat.le_of_ble_eq_true rfl, Nat.le_of_ble_eq_true rfl⟩ ⟨Nat.le_of_ble_eq_true rfl, Nat.le_of_ble_eq_true rfl⟩ (Nat.le_of_ble_eq_true rfl) dX0_movedSet_15 (kA (fun r7 σr7 H locs hp hG hS => ?_))
  obtain ⟨it_9, rfl, hI_9, kq9⟩ := hp
  have hX_10 : XW X σr7 b U J R := hX_5.keep kq9 (by first | decide | omega | (intro q9; dsimp only at q9; omega))
  have hS6_10 : SetW X σr7 6 nw1 0 (fun _ => 0) := hS_4.keep kq9 (by first | decide | omega | (intro q9; dsimp only at q9; omega)) (by first | decide | omega | (intro q9; dsimp only at q9; omega)) (by first | decide | omega | (intro q9; dsimp only at q9; omega)) (by first | decide | omega | (intro q9; dsimp only at q9; omega))
  have hkp10 : gKeep (fun t => t = 2 ∨ t = 6 ∨ t = 15) σ σr7 := hkp5.tr (kq9.mono (fun t (h : t = 2) => (by show t = 2 ∨ t = 6 ∨ t = 15; omega)))
  refine lv_astore_n (lv' := [(2, .ref it_9), (1, .ref nw1), (0, .ref (b 0))]) hx hb dX0_movedSet_18 rfl hl (by decide) rfl (fun ls hl => ?_)
  have loop_19 : ∀ (nF : Nat) (σL : gS) (k9 : Nat) (m9 : Nat) (ce9 : Nat → Int) (cN : Nat) (sN : Nat), (n2 - k9 : Nat) < nF → (gKeep (fun t => t = 2 ∨ t = 6 ∨ t = 15) σ σL) → (XW X σL b U J R) → (SetI X σL 2 (b 21) n2 cd2 it_9 k9) → (SetW X σL 6 nw1 m9 ce9) → (k9 ≤ n2) → (m9 ≤ k9) → (cN ≤ 4 + 2 * k9 ∧ sN ≤ 16 + 7 * k9) → (∀ v, inQ m9 ce9 v ↔ v ≠ -7 ∧ ∃ j, j < k9 ∧ stpZ (U 20) (cd2 j) 0 = v) → ∀ (H : Heap) (locs : List Loc) (ls : Array Slot), gSat X σL H → va_S (gA X) ss.heap H locs → lv_has ls 5 [(2, .ref it_9), (1, .ref nw1), (0, .ref (b 0))] → W pp l ee (gR 9 28 100 213) ss mm args below meth cd H locs cN sN Q (F0 mm 19 ls []) := by
    intro nF
    induction nF with
    | zero => intro σL k9 m9 ce9 cN sN hm; exact absurd hm (Nat.not_lt_zero _)
    | succ nF ih_19 =>
      intro σL k9 m9 ce9 cN sN hm hkL hXL hIL hS6L hi19_4 hi19_5 hi19_6 hin9 H locs ls hG hS hl
      refine lv_aload_n hx hb dX0_movedSet_19 rfl (lv_at hl 0 rfl) ?_
      obtain ⟨fs11, hq11⟩ := hIL.it
      refine g_callF (As := []) (rest := []) 0 hx hb hml hown hts hK hG hS hl.1 (mS_hasNext hIL) hq11 rfl q1349 q1359 q1355 q110 q1357 q1351 q1350 q1356 q1360 q1358 (by decide +kernel) rfl ⟨Nat.le_of_ble_eq_true rfl, Nat.le_of_ble_eq_true rfl⟩ ⟨by show _ ≤ 28; omega, by show _ ≤ 100; omega⟩ (Nat.le_of_ble_eq_true rfl) dX0_movedSet_20 (kI (fun r12 σr12 H locs hp hG hS => ?_))
      obtain ⟨hr12, rfl⟩ := hp
      have kr12 : r12 = 0 ∨ r12 = 1 := by rcases hr12 with ⟨h, -⟩ | ⟨h, -⟩ <;> omega
      refine g_if_eq (tgt := 72) hx hb dX0_movedSet_25 (by decide) (by omega) (fun cq13 => ?_) (fun cq13 => ?_)
      · refine lv_aload_n hx hb dX0_movedSet_72 rfl (lv_at hl 1 rfl) ?_
        have hk9 : k9 = n2 := by rcases hr12 with ⟨q, -⟩ | ⟨-, q⟩ <;> omega
        rw [hk9] at hin9
        exact g_aret hx hb hr (by first | exact Or.inl ⟨_, rfl⟩ | exact Or.inr ⟨_, rfl⟩) (by first | exact Or.inl rfl | exact Or.inr ⟨_, rfl⟩ | assumption | exact va_rf_or _) hlocks hQ hG hS (by show _ ≤ 28; omega) (by show _ ≤ 100; omega) ⟨_, rfl, hkL, (⟨_, m9, ce9, rfl, hS6L, by omega, hIL.W, hin9⟩)⟩ dX0_movedSet_73
      · refine lv_aload_n hx hb dX0_movedSet_28 rfl (lv_at hl 0 rfl) ?_
        obtain ⟨fs14, hq14⟩ := hIL.it
        have hlt15 : k9 < n2 := by rcases hr12 with ⟨-, h⟩ | ⟨h, -⟩; exact h; omega
        refine g_callF (As := []) (rest := []) 0 hx hb hml hown hts hK hG hS hl.1 (mS_next hIL hlt15) hq14 rfl q1362 q1383 q1385 q112 q1387 q1364 q1363 q1386 q1384 q1358 (by decide +kernel) rfl ⟨Nat.le_of_ble_eq_true rfl, Nat.le_of_ble_eq_true rfl⟩ ⟨by show _ ≤ 28; omega, by show _ ≤ 100; omega⟩ (Nat.le_of_ble_eq_true rfl) dX0_movedSet_29 (kA (fun r16 σr16 H locs hp hG hS => ?_))
        obtain ⟨κ17, rfl, hκ17, hI_17, kq17⟩ := hp
        have hX_18 : XW X σr16 b U J R := hXL.keep kq17 (by first | decide | omega | (intro q9; dsimp only at q9; omega))
        have hS6_18 : SetW X σr16 6 nw1 m9 ce9 := hS6L.keep kq17 (by first | decide | omega | (intro q9; dsimp only at q9; omega)) (by first | decide | omega | (intro q9; dsimp only at q9; omega)) (by first | decide | omega | (intro q9; dsimp only at q9; omega)) (by first | decide | omega | (intro q9; dsimp only at q9; omega))
        have hkp18 : gKeep (fun t => t = 2 ∨ t = 6 ∨ t = 15) σ σr16 := hkL.tr (kq17.mono (fun t (h : t = 15) => (by show t = 2 ∨ t = 6 ∨ t = 15; omega)))
        have hrg17 := hI_17.W.rng hlt15
        refine g_castS hx hb hts hown hK hG hκ17 rfl q1485 dX0_movedSet_34 ?_
        refine lv_astore_n (lv' := [(3, .ref κ17), (2, .ref it_9), (1, .ref nw1), (0, .ref (b 0))]) hx hb dX0_movedSet_37 rfl hl (by decide) rfl (fun ls hl => ?_)
        refine lv_aload_n hx hb dX0_movedSet_38 rfl (lv_at hl 3 rfl) ?_
        refine lv_aload_n hx hb dX0_movedSet_39 rfl (lv_at hl 0 rfl) ?_
        refine g_getN (C := RX11) (T := TX11) (N := 1) (v := .int (iI (cd2 k9))) hx hb hts hown hK hG hκ17 rfl in_X11 0 (by decide) q1492 rfl rfl dX0_movedSet_40 ?_
        refine g_callV (As := [.int (iI (cd2 k9))]) (rest := []) 1 hx hb hml hown hts hK hG hS hl.1 (mX0_steps l X σr16 b U J R hX_18 hT (cd2 k9) (by omega)) hX_18.c0 rfl q643 q394 qs7 q69 q395 (by decide +kernel) rfl ⟨Nat.le_of_ble_eq_true rfl, Nat.le_of_ble_eq_true rfl⟩ ⟨by show _ ≤ 28; omega, by show _ ≤ 100; omega⟩ (Nat.le_of_ble_eq_true rfl) dX0_movedSet_43 (kI (fun r19 σr19 H locs hp hG hS => ?_))
        obtain ⟨⟨hr19, kr19⟩, rfl⟩ := hp
        refine lv_istore (lv' := [(4, .int (iI r19)), (3, .ref κ17), (2, .ref it_9), (1, .ref nw1), (0, .ref (b 0))]) hx hb dX0_movedSet_46 hl (by decide) rfl (fun ls hl => ?_)
        refine lv_iload hx hb dX0_movedSet_48 (lv_at hl 0 rfl) ?_
        refine g_bipush hx hb dX0_movedSet_50 (by decide) ?_
        refine g_icmp_eq (tgt := 69) hx hb dX0_movedSet_52 (by decide) (by omega) (by omega) (fun cq20 => ?_) (fun cq20 => ?_)
        · refine lv_goto (tgt := 19) hx hb dX0_movedSet_69 (by decide) ?_
          exact ih_19 σr16 (k9 + 1) m9 ce9 cN sN (by omega) (hkp18) (hX_18) (hI_17) (hS6_18) (by omega) (by omega) (⟨by omega, by omega⟩) (mvQ_l (f := fun j => stpZ (U 20) (cd2 j) 0) hin9 (by show stpZ _ _ _ = _; rw [← hr19]; omega))  _ _ _ hG hS (lv_sub hl [2, 3, 4] rfl)
        · refine lv_aload_n hx hb dX0_movedSet_55 rfl (lv_at hl 3 rfl) ?_
          refine g_new (ci := 11) (C := RX11) (T := TX11) (N := 1) (ty := tyX11) (fs := [.int (iI 0)]) hx hb 5 hts hown hK hG hS rfl in_X11 tyX11_ok q1485 q1486 q114 (fun j hj => match j, hj with | 0, _ => rfl | k9 + 1, h => absurd h (by omega)) (by show _ ≤ 28; omega) (by show _ ≤ 100; omega) dX0_movedSet_56 (fun nw21 H hznw21 hG hS => ?_)
          have hLnw21 : (gup σr16 nw21 (5, gO 11 [.int (iI 0)])) nw21 = some (5, gO 11 [.int (iI 0)]) := gup_s
          have hLf22_0 := (gKeep.new hznw21 : gKeep (fun _ => False) σr16 (gup σr16 nw21 (5, gO 11 [.int (iI 0)]))) _ _ _ hκ17 (fun h => h)
          generalize hgen22 : (gup σr16 nw21 (5, gO 11 [.int (iI 0)])) = σ22 at hG hLnw21 hLf22_0
          refine lv_dup hx hb dX0_movedSet_59 rfl ?_
          refine lv_iload hx hb dX0_movedSet_60 (lv_at hl 0 rfl) ?_
          refine g_callI (As := [.int (iI r19)]) (rest := [.ref nw21, .ref nw1]) 1 hx hb hml hown hts hK hG hS hl.1 (mX11_init l X σ22 nw21 _ r19 hLnw21) q1487 q1488 q114 q1489 rfl (by decide +kernel) rfl ⟨Nat.le_of_ble_eq_true rfl, Nat.le_of_ble_eq_true rfl⟩ ⟨by show _ ≤ 28; omega, by show _ ≤ 100; omega⟩ (Nat.le_of_ble_eq_true rfl) dX0_movedSet_62 (kV (fun σr23 H locs hp hG hS => ?_))
          have hp : σr23 = (gup σ22 nw21 (5, gO 11 [.int (iI r19)])) := hp
          have hL24 : σr23 nw21 = some (5, gO 11 [.int (iI r19)]) := by rw [hp]; exact gup_s
          have hp24 : σr23 = (gup σr16 nw21 (5, gO 11 [.int (iI r19)])) := by rw [hp, ← hgen22, gup_gup]
          have hLg24_0 := (gKeep.new hznw21 : gKeep (fun _ => False) σr16 (gup σr16 nw21 (5, gO 11 [.int (iI r19)]))) _ _ _ hκ17 (fun h => h)
          rw [← hp24] at hLg24_0
          have hX_f24 : XW X σr23 b U J R := by rw [hp24]; exact hX_18.keep (gKeep.new hznw21 : gKeep (fun _ => False) _ _) (fun h => h)
          have hS6_f24 : SetW X σr23 6 nw1 m9 ce9 := by rw [hp24]; exact hS6_18.keep (gKeep.new hznw21 : gKeep (fun _ => False) _ _) (fun h => h) (fun h => h) (fun h => h) (fun h => h)
          have hI_f24 : SetI X σr23 2 (b 21) n2 cd2 it_9 (k9 + 1) := by rw [hp24]; exact hI_17.keep (gKeep.new hznw21 : gKeep (fun _ => False) _ _) (fun h => h) ⟨(fun h => h), (fun h => h), (fun h => h), (fun h => h)⟩
          have hkp_f24 : gKeep (fun t => t = 2 ∨ t = 6 ∨ t = 15) σ σr23 := by rw [hp24]; exact hkp18.tr (gKeep.new hznw21)
          obtain ⟨mq25, hq25⟩ := hS6_f24.hsa
          obtain ⟨mq27, hq27⟩ := hS6_f24.hsa
          refine g_callV (As := [.ref nw21]) (rest := []) 1 hx hb hml hown hts hK hG hS hl.1 (mT_add hS6_f24 (c9 := r19) hL24 (by omega)) hq27 rfl q1518 q1519 q1520 q73 q1521 (by decide +kernel) rfl ⟨Nat.le_of_ble_eq_true rfl, Nat.le_of_ble_eq_true rfl⟩ ⟨by show _ ≤ 28; omega, by show _ ≤ 100; omega⟩ (Nat.le_of_ble_eq_true rfl) dX0_movedSet_65 (kI (fun r26 σr26 H locs hp hG hS => ?_))
          obtain ⟨kq28, n_28, cd_28, hS_28, hin28, hnn28⟩ := hp
          have hX_29 : XW X σr26 b U J R := hX_f24.keep kq28 (by first | decide | omega | (intro q9; dsimp only at q9; omega))
          have hI_29 : SetI X σr26 2 (b 21) n2 cd2 it_9 (k9 + 1) := hI_f24.keep kq28 (by first | decide | omega | (intro q9; dsimp only at q9; omega)) ⟨(by first | decide | omega | (intro q9; dsimp only at q9; omega)), (by first | decide | omega | (intro q9; dsimp only at q9; omega)), (by first | decide | omega | (intro q9; dsimp only at q9; omega)), (by first | decide | omega | (intro q9; dsimp only at q9; omega))⟩
          have hLc29_0 := kq28 _ _ _ hLg24_0 (by first | decide | omega | (intro q9; dsimp only at q9; omega))
          have hLc29_1 := kq28 _ _ _ hL24 (by first | decide | omega | (intro q9; dsimp only at q9; omega))
          have hkp29 : gKeep (fun t => t = 2 ∨ t = 6 ∨ t = 15) σ σr26 := hkp_f24.tr (kq28.mono (fun t (h : t = 6) => (by show t = 2 ∨ t = 6 ∨ t = 15; omega)))
          refine lv_pop hx hb dX0_movedSet_68 rfl ?_
          refine lv_goto (tgt := 19) hx hb dX0_movedSet_69 (by decide) ?_
          exact ih_19 σr26 (k9 + 1) n_28 cd_28 (cN + 1 + 1) (sN + 1 + 6) (by omega) (hkp29) (hX_29) (hI_29) (hS_28) (by omega) (by rcases hnn28 with ⟨q, -⟩ | ⟨q, -⟩ <;> omega) (⟨by omega, by omega⟩) (mvQ_a (f := fun j => stpZ (U 20) (cd2 j) 0) hin9 (hr19).symm (by omega) hin28)  _ _ _ hG hS (lv_sub hl [2, 3, 4] rfl)
  exact loop_19 _ σr7 0 0 (fun _ => 0) 4 15 (Nat.lt_succ_self _) (hkp10) (hX_10) (hI_9) (hS6_10) (Nat.zero_le _) (Nat.le_refl _) (⟨Nat.le_of_ble_eq_true rfl, Nat.le_of_ble_eq_true rfl⟩) (mvQ_0 (f := fun j => stpZ (U 20) (cd2 j) 0))  _ _ _ hG hS (lv_sub hl [0, 1, 2] rfl)

set_option maxHeartbeats 8000000 in
theorem mX0_moved (l : Launch) (X : gX) (σ : gS) (b : Nat → Nat) (U : Nat → Int → Int) (J : Nat → Int) (R : Int → Option Nat) (hX : XW X σ b U J R) (hT : okT (U 20)) (n2 : Nat) (cd2 : Nat → Int) (hS2 : SetW X σ 2 (b 21) n2 cd2) (i : Int)  (h0 : (-2147483648 ≤ i ∧ i ≤ 2147483647)) (h1 : n2 ≤ 12) : gMet l X yX0_moved cX0_moved 3 (some .int) 10 30 105 237 σ [.ref (b 0), .int (iI i)] (oI (fun r σ' => gKeep (fun t => t = 2 ∨ t = 6 ∨ t = 15) σ σ' ∧ (∃ m ce, m ≤ n2 ∧ (∀ i j, i < j → j < m → ce i < ce j) ∧ (∀ x, inQ m ce x ↔ x ≠ -7 ∧ ∃ j, j < n2 ∧ stpZ (U 20) (cd2 j) 0 = x) ∧ r = (if i = -1 then (m : Int) else if 0 ≤ i ∧ i < (m : Int) then ce i.toNat else -5) ∧ SetW X σ' 2 (b 21) n2 cd2))) := by
  refine gMet.of (by decide) (Nat.le_of_ble_eq_true rfl) ?_
  intro pp ee ss mm args below meth cd Q H locs ls hargs hx hb hr hlocks hml hown hnm hts hK hG hS hQ hl
  have hown : ss.vm.findClass RX0 = some mm.cls := hown
  have hl : lv_has ls 3 [(0, .ref (b 0)), (1, .int (iI i))] := hl
  have hkp : gKeep (fun t => t = 2 ∨ t = 6 ∨ t = 15) σ σ := gKeep.rf
  refine lv_aload_n hx hb dX0_moved_0 rfl (lv_at hl 0 rfl) ?_
  refine g_callV (As := []) (rest := []) 0 hx hb hml hown hts hK hG hS hl.1 (mX0_movedSet l X σ b U J R hX hT n2 cd2 hS2 (by first | assumption | decide | omega)) hX.c0 rfl q1567 q1569 qs42 q69 q1570 (by decide +kernel) rfl ⟨Nat.le_of_ble_eq_true rfl, Nat.le_of_ble_eq_true rfl⟩ ⟨Nat.le_of_ble_eq_true rfl, Nat.le_of_ble_eq_true rfl⟩ (Nat.le_of_ble_eq_true rfl) dX0_moved_1 (kA (fun r1 σr1 H locs hp hG hS => ?_))
  obtain ⟨kq2, hrel2⟩ := hp
  have hX_3 : XW X σr1 b U J R := hX.keep kq2 (by first | decide | omega | (intro q9; dsimp only at q9; omega))
  have hkp3 : gKeep (fun t => t = 2 ∨ t = 6 ∨ t = 15) σ σr1 := hkp.tr (kq2.mono (fun t (h : t = 2 ∨ t = 6 ∨ t = 15) => (by show t = 2 ∨ t = 6 ∨ t = 15; omega)))
  obtain ⟨z2, m2, ce2, rfl, h6_2, hm2, h2_2, hin2⟩ := hrel2
  refine lv_astore_n (lv' := [(2, .ref z2), (0, .ref (b 0)), (1, .int (iI i))]) hx hb dX0_moved_4 rfl hl (by decide) rfl (fun ls hl => ?_)
  refine lv_iload_n hx hb dX0_moved_5 rfl (lv_at hl 2 rfl) ?_
  refine g_iconst hx hb dX0_moved_6 ?_
  refine g_icmp_ne (tgt := 17) hx hb dX0_moved_7 (by decide) (by omega) (by omega) (fun cq4 => ?_) (fun cq4 => ?_)
  · refine lv_aload_n hx hb dX0_moved_17 rfl (lv_at hl 0 rfl) ?_
    refine lv_iload_n hx hb dX0_moved_18 rfl (lv_at hl 2 rfl) ?_
    refine g_callS (As := [.ref z2, .int (iI i)]) (rest := []) 2 hx hb hml hown hts hK hG hS hl.1 (mX0_nthOf_2 l X σr1 6 z2 m2 ce2 h6_2 i (by first | assumption | decide | omega) (by first | assumption | decide | omega) (by first | assumption | decide | omega)) q1559 q1560 q69 q1561 (by decide +kernel) rfl ⟨Nat.le_of_ble_eq_true rfl, Nat.le_of_ble_eq_true rfl⟩ ⟨Nat.le_of_ble_eq_true rfl, Nat.le_of_ble_eq_true rfl⟩ (Nat.le_of_ble_eq_true rfl) dX0_moved_19 (kI (fun r5 σr5 H locs hp hG hS => ?_))
    obtain ⟨kq6, hrel6⟩ := hp
    have hX_7 : XW X σr5 b U J R := hX_3.keep kq6 (by first | decide | omega | (intro q9; dsimp only at q9; omega))
    have hS2_7 : SetW X σr5 2 (b 21) n2 cd2 := h2_2.keep kq6 (by first | decide | omega | (intro q9; dsimp only at q9; omega)) (by first | decide | omega | (intro q9; dsimp only at q9; omega)) (by first | decide | omega | (intro q9; dsimp only at q9; omega)) (by first | decide | omega | (intro q9; dsimp only at q9; omega))
    have hkp7 : gKeep (fun t => t = 2 ∨ t = 6 ∨ t = 15) σ σr5 := hkp3.tr (kq6.mono (fun t (h : t = 6 ∨ t = 15) => (by show t = 2 ∨ t = 6 ∨ t = 15; omega)))
    obtain ⟨hv6, hT_6⟩ := hrel6
    exact g_iret hx hb hr hlocks hQ hG hS (Nat.le_of_ble_eq_true rfl) (Nat.le_of_ble_eq_true rfl) ⟨_, rfl, hkp7, (⟨m2, ce2, hm2, h6_2.inc, hin2, (by rw [if_neg (by omega)]; exact hv6), hS2_7⟩)⟩ dX0_moved_22
  · refine lv_aload_n hx hb dX0_moved_10 rfl (lv_at hl 0 rfl) ?_
    obtain ⟨mq8, hq8⟩ := h6_2.hsa
    obtain ⟨mq10, hq10⟩ := h6_2.hsa
    refine g_callV (As := []) (rest := []) 0 hx hb hml hown hts hK hG hS hl.1 (mS_size h6_2) hq10 rfl q1508 q1509 q1510 q73 q1511 (by decide +kernel) rfl ⟨Nat.le_of_ble_eq_true rfl, Nat.le_of_ble_eq_true rfl⟩ ⟨Nat.le_of_ble_eq_true rfl, Nat.le_of_ble_eq_true rfl⟩ (Nat.le_of_ble_eq_true rfl) dX0_moved_11 (kI (fun r9 σr9 H locs hp hG hS => ?_))
    obtain ⟨rfl, rfl⟩ := hp
    refine lv_goto (tgt := 22) hx hb dX0_moved_14 (by decide) ?_
    exact g_iret hx hb hr hlocks hQ hG hS (Nat.le_of_ble_eq_true rfl) (Nat.le_of_ble_eq_true rfl) ⟨_, rfl, hkp3, (⟨m2, ce2, hm2, h6_2.inc, hin2, (by rw [if_pos (by omega)]), h2_2⟩)⟩ dX0_moved_22

theorem bcQ {m k m' : Nat} {ce d ce' : Nat → Int} (h : ∀ v, inQ m ce v ↔ inQ k d v) (h2 : ∀ v, inQ m' ce' v ↔ inQ m ce v ∨ v = d k) (v : Int) : inQ m' ce' v ↔ inQ (k + 1) d v := by
  rw [h2 v, h v]
  constructor
  · rintro (⟨i, h1, h3⟩ | h1)
    · exact ⟨i, by omega, h3⟩
    · exact ⟨k, by omega, h1.symm⟩
  · rintro ⟨i, h1, h3⟩
    by_cases e : i = k
    · right; rw [← h3, e]
    · exact Or.inl ⟨i, by omega, h3⟩

set_option maxHeartbeats 8000000 in
theorem mX1_becomes_w (l : Launch) (X : gX) (σ : gS) (b : Nat → Nat) (U : Nat → Int → Int) (J : Nat → Int) (R : Int → Option Nat) (hX : XW X σ b U J R) (hT : okT (U 20)) (n2 : Nat) (cd2 : Nat → Int) (hS2 : SetW X σ 2 (b 21) n2 cd2) (tg sa nn : Nat) (ce : Nat → Int) (hST : SetW X σ tg sa nn ce)   (h0 : nn ≤ 12) (h1 : tg ≠ 2) (h2 : tg = 2 ∨ tg = 3 ∨ tg = 6) : gMet l X yX1_becomes cX1_becomes 4 none 8 14 77 179 σ [.ref (b 1), .ref sa] (oV (fun σ' => gKeep (fun t => t = 2 ∨ t = tg ∨ t = 15) σ σ' ∧ (SetW X σ' tg sa nn ce ∧ ∃ m9 ce9, SetW X σ' 2 (b 21) m9 ce9 ∧ m9 ≤ nn ∧ ∀ v, inQ m9 ce9 v ↔ inQ nn ce v))) := by
  refine gMet.of (by decide) (Nat.le_of_ble_eq_true rfl) ?_
  intro pp ee ss mm args below meth cd Q H locs ls hargs hx hb hr hlocks hml hown hnm hts hK hG hS hQ hl
  have hown : ss.vm.findClass RX1 = some mm.cls := hown
  have hl : lv_has ls 4 [(0, .ref (b 1)), (1, .ref sa)] := hl
  have hkp : gKeep (fun t => t = 2 ∨ t = tg ∨ t = 15) σ σ := gKeep.rf
  refine lv_aload_n hx hb dX1_becomes_0 rfl (lv_at hl 0 rfl) ?_
  refine g_get (C := RX1) (T := TX1) (N := 4) (v := .ref (b 21)) hx hb hts hown hK hG hX.c1 rfl in_X1 1 (by decide) q188 rfl rfl dX1_becomes_1 ?_
  obtain ⟨mq1, hq1⟩ := hS2.hsa
  obtain ⟨mq3, hq3⟩ := hS2.hsa
  refine g_callV (As := []) (rest := []) 0 hx hb hml hown hts hK hG hS hl.1 (mS_clear hS2 cd2) hq3 rfl q1581 q1582 q1583 q73 q1584 (by decide +kernel) rfl ⟨Nat.le_of_ble_eq_true rfl, Nat.le_of_ble_eq_true rfl⟩ ⟨Nat.le_of_ble_eq_true rfl, Nat.le_of_ble_eq_true rfl⟩ (Nat.le_of_ble_eq_true rfl) dX1_becomes_4 (kV (fun σr2 H locs hp hG hS => ?_))
  obtain ⟨kq4, hS_4⟩ := hp
  have hX_5 : XW X σr2 b U J R := hX.keep kq4 (by first | decide | omega | (intro q9; dsimp only at q9; omega))
  have hT_5 : SetW X σr2 tg sa nn ce := hST.keep kq4 (by first | decide | omega | (intro q9; dsimp only at q9; omega)) (by first | decide | omega | (intro q9; dsimp only at q9; omega)) (by first | decide | omega | (intro q9; dsimp only at q9; omega)) (by first | decide | omega | (intro q9; dsimp only at q9; omega))
  have hkp5 : gKeep (fun t => t = 2 ∨ t = tg ∨ t = 15) σ σr2 := hkp.tr (kq4.mono (fun t (h : t = 2) => (by show t = 2 ∨ t = tg ∨ t = 15; omega)))
  refine lv_aload_n hx hb dX1_becomes_7 rfl (lv_at hl 1 rfl) ?_
  obtain ⟨mq6, hq6⟩ := hT_5.hsa
  obtain ⟨mq8, hq8⟩ := hT_5.hsa
  refine g_callV (As := []) (rest := []) 0 hx hb hml hown hts hK hG hS hl.1 (mS_iterator hT_5) hq8 rfl q1593 q1317 q2346 q73 q1319 (by decide +kernel) rfl ⟨Nat.le_of_ble_eq_true rfl, Nat.le_of_ble_eq_true rfl⟩ ⟨Nat.le_of_ble_eq_true rfl, Nat.le_of_ble_eq_true rfl⟩ (Nat.le_of_ble_eq_true rfl) dX1_becomes_8 (kA (fun r7 σr7 H locs hp hG hS => ?_))
  obtain ⟨it_9, rfl, hI_9, kq9⟩ := hp
  have hX_10 : XW X σr7 b U J R := hX_5.keep kq9 (by first | decide | omega | (intro q9; dsimp only at q9; omega))
  have hS2_10 : SetW X σr7 2 (b 21) 0 cd2 := hS_4.keep kq9 (by first | decide | omega | (intro q9; dsimp only at q9; omega)) (by first | decide | omega | (intro q9; dsimp only at q9; omega)) (by first | decide | omega | (intro q9; dsimp only at q9; omega)) (by first | decide | omega | (intro q9; dsimp only at q9; omega))
  have hkp10 : gKeep (fun t => t = 2 ∨ t = tg ∨ t = 15) σ σr7 := hkp5.tr (kq9.mono (fun t (h : t = tg) => (by show t = 2 ∨ t = tg ∨ t = 15; omega)))
  refine lv_astore_n (lv' := [(2, .ref it_9), (0, .ref (b 1)), (1, .ref sa)]) hx hb dX1_becomes_11 rfl hl (by decide) rfl (fun ls hl => ?_)
  have loop_12 : ∀ (nF : Nat) (σL : gS) (k9 : Nat) (m9 : Nat) (ce9 : Nat → Int) (cN : Nat) (sN : Nat), (nn - k9 : Nat) < nF → (gKeep (fun t => t = 2 ∨ t = tg ∨ t = 15) σ σL) → (XW X σL b U J R) → (SetI X σL tg sa nn ce it_9 k9) → (SetW X σL 2 (b 21) m9 ce9) → (k9 ≤ nn) → (m9 ≤ k9) → (cN ≤ 2 + 1 * k9 ∧ sN ≤ 5 + 6 * k9) → (∀ v, inQ m9 ce9 v ↔ inQ k9 ce v) → ∀ (H : Heap) (locs : List Loc) (ls : Array Slot), gSat X σL H → va_S (gA X) ss.heap H locs → lv_has ls 4 [(2, .ref it_9), (0, .ref (b 1)), (1, .ref sa)] → W pp l ee (gR 8 14 77 179) ss mm args below meth cd H locs cN sN Q (F0 mm 12 ls []) := by
    intro nF
    induction nF with
    | zero => intro σL k9 m9 ce9 cN sN hm; exact absurd hm (Nat.not_lt_zero _)
    | succ nF ih_12 =>
      intro σL k9 m9 ce9 cN sN hm hkL hXL hIL hS2L hi12_4 hi12_5 hi12_6 hin9 H locs ls hG hS hl
      refine lv_aload_n hx hb dX1_becomes_12 rfl (lv_at hl 0 rfl) ?_
      obtain ⟨fs11, hq11⟩ := hIL.it
      refine g_callF (As := []) (rest := []) 0 hx hb hml hown hts hK hG hS hl.1 (mS_hasNext hIL) hq11 rfl q1595 q1359 q1355 q110 q1357 q1351 q1350 q1356 q1360 q1358 (by decide +kernel) rfl ⟨Nat.le_of_ble_eq_true rfl, Nat.le_of_ble_eq_true rfl⟩ ⟨by show _ ≤ 14; omega, by show _ ≤ 77; omega⟩ (Nat.le_of_ble_eq_true rfl) dX1_becomes_13 (kI (fun r12 σr12 H locs hp hG hS => ?_))
      obtain ⟨hr12, rfl⟩ := hp
      have kr12 : r12 = 0 ∨ r12 = 1 := by rcases hr12 with ⟨h, -⟩ | ⟨h, -⟩ <;> omega
      refine g_if_eq (tgt := 43) hx hb dX1_becomes_18 (by decide) (by omega) (fun cq13 => ?_) (fun cq13 => ?_)
      · have hk9 : k9 = nn := by rcases hr12 with ⟨q, -⟩ | ⟨-, q⟩ <;> omega
        rw [hk9] at hin9
        exact g_vret hx hb hr hlocks hQ hG hS (by show _ ≤ 14; omega) (by show _ ≤ 77; omega) ⟨rfl, hkL, (⟨hIL.W, m9, ce9, hS2L, by omega, hin9⟩)⟩ dX1_becomes_43
      · refine lv_aload_n hx hb dX1_becomes_21 rfl (lv_at hl 0 rfl) ?_
        obtain ⟨fs14, hq14⟩ := hIL.it
        have hlt15 : k9 < nn := by rcases hr12 with ⟨-, h⟩ | ⟨h, -⟩; exact h; omega
        refine g_callF (As := []) (rest := []) 0 hx hb hml hown hts hK hG hS hl.1 (mS_next hIL hlt15) hq14 rfl q1597 q1383 q1385 q112 q1387 q1364 q1363 q1386 q1384 q1358 (by decide +kernel) rfl ⟨Nat.le_of_ble_eq_true rfl, Nat.le_of_ble_eq_true rfl⟩ ⟨by show _ ≤ 14; omega, by show _ ≤ 77; omega⟩ (Nat.le_of_ble_eq_true rfl) dX1_becomes_22 (kA (fun r16 σr16 H locs hp hG hS => ?_))
        obtain ⟨κ17, rfl, hκ17, hI_17, kq17⟩ := hp
        have hX_18 : XW X σr16 b U J R := hXL.keep kq17 (by first | decide | omega | (intro q9; dsimp only at q9; omega))
        have hS2_18 : SetW X σr16 2 (b 21) m9 ce9 := hS2L.keep kq17 (by first | decide | omega | (intro q9; dsimp only at q9; omega)) (by first | decide | omega | (intro q9; dsimp only at q9; omega)) (by first | decide | omega | (intro q9; dsimp only at q9; omega)) (by first | decide | omega | (intro q9; dsimp only at q9; omega))
        have hkp18 : gKeep (fun t => t = 2 ∨ t = tg ∨ t = 15) σ σr16 := hkL.tr (kq17.mono (fun t (h : t = 15) => (by show t = 2 ∨ t = tg ∨ t = 15; omega)))
        have hrg17 := hI_17.W.rng hlt15
        refine g_castS hx hb hts hown hK hG hκ17 rfl q1598 dX1_becomes_27 ?_
        refine lv_astore_n (lv' := [(3, .ref κ17), (2, .ref it_9), (0, .ref (b 1)), (1, .ref sa)]) hx hb dX1_becomes_30 rfl hl (by decide) rfl (fun ls hl => ?_)
        refine lv_aload_n hx hb dX1_becomes_31 rfl (lv_at hl 2 rfl) ?_
        refine g_get (C := RX1) (T := TX1) (N := 4) (v := .ref (b 21)) hx hb hts hown hK hG hX_18.c1 rfl in_X1 1 (by decide) q188 rfl rfl dX1_becomes_32 ?_
        refine lv_aload_n hx hb dX1_becomes_35 rfl (lv_at hl 0 rfl) ?_
        obtain ⟨mq19, hq19⟩ := hS2_18.hsa
        obtain ⟨mq21, hq21⟩ := hS2_18.hsa
        refine g_callV (As := [.ref κ17]) (rest := []) 1 hx hb hml hown hts hK hG hS hl.1 (mT_add hS2_18 (c9 := (ce k9)) hκ17 (by omega)) hq21 rfl q1599 q1519 q1520 q73 q1521 (by decide +kernel) rfl ⟨Nat.le_of_ble_eq_true rfl, Nat.le_of_ble_eq_true rfl⟩ ⟨by show _ ≤ 14; omega, by show _ ≤ 77; omega⟩ (Nat.le_of_ble_eq_true rfl) dX1_becomes_36 (kI (fun r20 σr20 H locs hp hG hS => ?_))
        obtain ⟨kq22, n_22, cd_22, hS_22, hin22, hnn22⟩ := hp
        have hX_23 : XW X σr20 b U J R := hX_18.keep kq22 (by first | decide | omega | (intro q9; dsimp only at q9; omega))
        have hI_23 : SetI X σr20 tg sa nn ce it_9 (k9 + 1) := hI_17.keep kq22 (by first | decide | omega | (intro q9; dsimp only at q9; omega)) ⟨(by first | decide | omega | (intro q9; dsimp only at q9; omega)), (by first | decide | omega | (intro q9; dsimp only at q9; omega)), (by first | decide | omega | (intro q9; dsimp only at q9; omega)), (by first | decide | omega | (intro q9; dsimp only at q9; omega))⟩
        have hLc23_0 := kq22 _ _ _ hκ17 (by first | decide | omega | (intro q9; dsimp only at q9; omega))
        have hkp23 : gKeep (fun t => t = 2 ∨ t = tg ∨ t = 15) σ σr20 := hkp18.tr (kq22.mono (fun t (h : t = 2) => (by show t = 2 ∨ t = tg ∨ t = 15; omega)))
        refine lv_pop hx hb dX1_becomes_39 rfl ?_
        refine lv_goto (tgt := 12) hx hb dX1_becomes_40 (by decide) ?_
        exact ih_12 σr20 (k9 + 1) n_22 cd_22 (cN + 1) (sN + 6) (by omega) (hkp23) (hX_23) (hI_23) (hS_22) (by omega) (by rcases hnn22 with ⟨q, -⟩ | ⟨q, -⟩ <;> omega) (⟨by omega, by omega⟩) (bcQ hin9 hin22)  _ _ _ hG hS (lv_sub hl [1, 2, 3] rfl)
  exact loop_12 _ σr7 0 0 cd2 2 5 (Nat.lt_succ_self _) (hkp10) (hX_10) (hI_9) (hS2_10) (Nat.zero_le _) (Nat.le_refl _) (⟨Nat.le_of_ble_eq_true rfl, Nat.le_of_ble_eq_true rfl⟩) (fun v => ⟨fun ⟨i, h, _⟩ => absurd h (Nat.not_lt_zero _), fun ⟨i, h, _⟩ => absurd h (Nat.not_lt_zero _)⟩)  _ _ _ hG hS (lv_sub hl [0, 1, 2] rfl)

set_option maxHeartbeats 8000000 in
theorem mX0_move (l : Launch) (X : gX) (σ : gS) (b : Nat → Nat) (U : Nat → Int → Int) (J : Nat → Int) (R : Int → Option Nat) (hX : XW X σ b U J R) (hT : okT (U 20)) (n2 : Nat) (cd2 : Nat → Int) (hS2 : SetW X σ 2 (b 21) n2 cd2)   (h0 : n2 ≤ 12) : gMet l X yX0_move cX0_move 1 (some .int) 10 44 180 237 σ [.ref (b 0)] (oI (fun r σ' => gKeep (fun t => t = 2 ∨ t = 6 ∨ t = 15) σ σ' ∧ (∃ m ce, m ≤ n2 ∧ (∀ x, inQ m ce x ↔ x ≠ -7 ∧ ∃ j, j < n2 ∧ stpZ (U 20) (cd2 j) 0 = x) ∧ r = (m : Int) ∧ SetW X σ' 2 (b 21) m ce))) := by
  refine gMet.of (by decide) (Nat.le_of_ble_eq_true rfl) ?_
  intro pp ee ss mm args below meth cd Q H locs ls hargs hx hb hr hlocks hml hown hnm hts hK hG hS hQ hl
  have hown : ss.vm.findClass RX0 = some mm.cls := hown
  have hl : lv_has ls 1 [(0, .ref (b 0))] := hl
  have hkp : gKeep (fun t => t = 2 ∨ t = 6 ∨ t = 15) σ σ := gKeep.rf
  refine lv_aload_n hx hb dX0_move_0 rfl (lv_at hl 0 rfl) ?_
  refine g_get (C := RX0) (T := TX0) (N := 20) (v := .ref (b 1)) hx hb hts hown hK hG hX.c0 rfl in_X0 0 (by decide) q420 rfl rfl dX0_move_1 ?_
  refine lv_aload_n hx hb dX0_move_4 rfl (lv_at hl 0 rfl) ?_
  refine g_callV (As := []) (rest := [.ref (b 1)]) 0 hx hb hml hown hts hK hG hS hl.1 (mX0_movedSet l X σ b U J R hX hT n2 cd2 hS2 (by first | assumption | decide | omega)) hX.c0 rfl q1567 q1569 qs42 q69 q1570 (by decide +kernel) rfl ⟨Nat.le_of_ble_eq_true rfl, Nat.le_of_ble_eq_true rfl⟩ ⟨Nat.le_of_ble_eq_true rfl, Nat.le_of_ble_eq_true rfl⟩ (Nat.le_of_ble_eq_true rfl) dX0_move_5 (kA (fun r1 σr1 H locs hp hG hS => ?_))
  obtain ⟨kq2, hrel2⟩ := hp
  have hX_3 : XW X σr1 b U J R := hX.keep kq2 (by first | decide | omega | (intro q9; dsimp only at q9; omega))
  have hkp3 : gKeep (fun t => t = 2 ∨ t = 6 ∨ t = 15) σ σr1 := hkp.tr (kq2.mono (fun t (h : t = 2 ∨ t = 6 ∨ t = 15) => (by show t = 2 ∨ t = 6 ∨ t = 15; omega)))
  obtain ⟨z2, m2, ce2, rfl, h6_2, hm2, h2_2, hin2⟩ := hrel2
  refine g_callV (As := [.ref z2]) (rest := []) 1 hx hb hml hown hts hK hG hS hl.1 (mX1_becomes_w l X σr1 b U J R hX_3 hT n2 cd2 h2_2 6 z2 m2 ce2 h6_2 (by first | assumption | decide | omega) (by first | assumption | decide | omega) (by first | assumption | decide | omega)) hX_3.c1 rfl q1577 q1578 q1579 q70 q1580 (by decide +kernel) rfl ⟨Nat.le_of_ble_eq_true rfl, Nat.le_of_ble_eq_true rfl⟩ ⟨Nat.le_of_ble_eq_true rfl, Nat.le_of_ble_eq_true rfl⟩ (Nat.le_of_ble_eq_true rfl) dX0_move_8 (kV (fun σr4 H locs hp hG hS => ?_))
  obtain ⟨kq5, hrel5⟩ := hp
  have hX_6 : XW X σr4 b U J R := hX_3.keep kq5 (by first | decide | omega | (intro q9; dsimp only at q9; omega))
  have hkp6 : gKeep (fun t => t = 2 ∨ t = 6 ∨ t = 15) σ σr4 := hkp3.tr (kq5.mono (fun t (h : t = 2 ∨ t = 6 ∨ t = 15) => (by show t = 2 ∨ t = 6 ∨ t = 15; omega)))
  obtain ⟨hT_5, m5, ce5, hD_5, hm5, hin5⟩ := hrel5
  refine lv_aload_n hx hb dX0_move_11 rfl (lv_at hl 0 rfl) ?_
  refine g_get (C := RX0) (T := TX0) (N := 20) (v := .ref (b 1)) hx hb hts hown hK hG hX_6.c0 rfl in_X0 0 (by decide) q420 rfl rfl dX0_move_12 ?_
  refine g_getN (C := RX1) (T := TX1) (N := 4) (v := .ref (b 21)) hx hb hts hown hK hG hX_6.c1 rfl in_X1 1 (by decide) q189 rfl rfl dX0_move_15 ?_
  obtain ⟨mq7, hq7⟩ := hD_5.hsa
  obtain ⟨mq9, hq9⟩ := hD_5.hsa
  refine g_callV (As := []) (rest := []) 0 hx hb hml hown hts hK hG hS hl.1 (mS_size hD_5) hq9 rfl q1508 q1509 q1510 q73 q1511 (by decide +kernel) rfl ⟨Nat.le_of_ble_eq_true rfl, Nat.le_of_ble_eq_true rfl⟩ ⟨Nat.le_of_ble_eq_true rfl, Nat.le_of_ble_eq_true rfl⟩ (Nat.le_of_ble_eq_true rfl) dX0_move_18 (kI (fun r8 σr8 H locs hp hG hS => ?_))
  obtain ⟨rfl, rfl⟩ := hp
  exact g_iret hx hb hr hlocks hQ hG hS (Nat.le_of_ble_eq_true rfl) (Nat.le_of_ble_eq_true rfl) ⟨_, rfl, hkp6, (⟨m5, ce5, by omega, fun x => (hin5 x).trans (hin2 x), rfl, hD_5⟩)⟩ dX0_move_21

