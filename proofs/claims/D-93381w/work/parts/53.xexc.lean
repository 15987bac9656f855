set_option maxHeartbeats 8000000 in
theorem mX0_list (l : Launch) (X : gX) (σ : gS) (b : Nat → Nat) (U : Nat → Int → Int) (J : Nat → Int) (R : Int → Option Nat) (hX : XW X σ b U J R) (hT : okT (U 20)) (N : Int → Int) (G : Int → Int → Int) (hL : LW X σ R N G) (i : Int) (n : Int) (hst : l.stackTraces = false) (h0 : -2147483648 ≤ i ∧ i ≤ 2147483647) (h1 : -2147483648 ≤ n ∧ n ≤ 2147483647) : gMetW l X yX0_list cX0_list 4 (some .int) [((18 : Nat), (28 : Nat), (29 : Nat), (496 : Nat))] 9 3 54 10300 σ [.ref (b 0), .int (iI i), .int (iI n)] (oI (fun r σ' => gKeep (fun t => t = 1 ∨ t = 18) σ σ' ∧ (∃ R' N' G', XW X σ' b U J R' ∧ LW X σ' R' N' G' ∧ (r = (if 0 ≤ i ∧ i ≤ 3 then (if n > 12 then -2 else if n < 0 then -14 else 1) else -1)) ∧ (((0 ≤ i ∧ i ≤ 3) ∧ 0 ≤ n ∧ n ≤ 12) ∧ N' = iup N i n ∧ G' = iup G i (fun _ => 0) ∨ ¬ ((0 ≤ i ∧ i ≤ 3) ∧ 0 ≤ n ∧ n ≤ 12) ∧ N' = N ∧ G' = G)))) := by
  refine gMetW.of (by decide) (Nat.le_of_ble_eq_true rfl) ?_
  intro pp ee ss mm args below meth cd Q H locs ls hargs hx hb hr hlocks hml hown hnm hts hK hG hS hQ hl htb
  have hown : ss.vm.findClass RX0 = some mm.cls := hown
  have hl : lv_has ls 4 [(0, .ref (b 0)), (1, .int (iI i)), (2, .int (iI n))] := hl
  have hkp : gKeep (fun t => t = 1 ∨ t = 18) σ σ := gKeep.rf
  refine lv_iload_n hx hb dX0_list_0 rfl (lv_at hl 1 rfl) ?_
  refine g_callS (As := [.int (iI i)]) (rest := []) 1 hx hb hml hown hts hK hG hS hl.1 (mX0_isList l X σ  i (by omega)) q1904 q1905 q69 q1906 (by decide +kernel) rfl ⟨Nat.le_of_ble_eq_true rfl, Nat.le_of_ble_eq_true rfl⟩ ⟨Nat.le_of_ble_eq_true rfl, Nat.le_of_ble_eq_true rfl⟩ (Nat.le_of_ble_eq_true rfl) dX0_list_1 (kI (fun r1 σr1 H locs hp hG hS => ?_))
  obtain ⟨hr1, rfl⟩ := hp
  refine g_if_ne (tgt := 9) hx hb dX0_list_4 (by decide) (by omega) (fun cq2 => ?_) (fun cq2 => ?_)
  · refine lv_iload_n hx hb dX0_list_9 rfl (lv_at hl 2 rfl) ?_
    refine g_bipush hx hb dX0_list_10 (by decide) ?_
    refine g_icmp_le (tgt := 18) hx hb dX0_list_12 (by decide) (by omega) (by omega) (fun cq3 => ?_) (fun cq3 => ?_)
    · refine lv_aload_n hx hb dX0_list_18 rfl (lv_at hl 0 rfl) ?_
      refine g_get (C := RX0) (T := TX0) (N := 20) (v := .ref (b 19)) hx hb hts hown hK hG hX.c0 rfl in_X0 19 (by decide) q442 rfl rfl dX0_list_19 ?_
      refine lv_iload_n hx hb dX0_list_22 rfl (lv_at hl 1 rfl) ?_
      refine lv_iload_n hx hb dX0_list_23 rfl (lv_at hl 2 rfl) ?_
      by_cases hn9 : n < 0
      · refine g_newaZ (z := n) (rest := [.int (iI i), .ref (b 19)]) hx hb hst hml hown hts hK hG hS hl.1 hlocks (by omega) dX0_list_24 (gHas.one hts htb (by decide) (by decide) q1914) ⟨by show 7 < 9; decide, Nat.le_trans (Nat.add_le_add_right (show _ ≤ 8 from Nat.le_of_ble_eq_true rfl) _) (by show 8 + 10240 ≤ 10300; decide)⟩ ⟨Nat.le_of_ble_eq_true rfl, Nat.le_of_ble_eq_true rfl⟩ (fun H xq4 hG hS => ?_)
        refine lv_astore_n (lv' := [(3, .ref xq4), (0, .ref (b 0)), (1, .int (iI i)), (2, .int (iI n))]) hx hb dX0_list_29 rfl hl (by decide) rfl (fun ls hl => ?_)
        refine g_bipush hx hb dX0_list_30 (by decide) ?_
        exact g_iret hx hb hr hlocks hQ hG hS (Nat.le_of_ble_eq_true rfl) (Nat.le_of_ble_eq_true rfl) ⟨_, rfl, hkp, (⟨R, N, G, hX, hL, by (repeat (first | rw [if_pos (by omega)] | rw [if_neg (by omega)])) <;> first | rfl | omega, Or.inr ⟨by omega, rfl, rfl⟩⟩)⟩ dX0_list_32
      · refine g_newa (atype := .int) hx hb 18 0 n.toNat hts hK hG hS q171 rfl (fun C h => by cases h) rfl (by omega) (by omega) (by decide) (by show _ ≤ 3; decide) (by show _ ≤ 54; omega) dX0_list_24 (fun aq H haq hG hS => ?_)
        have hX8 : XW X (gup σ aq (18, gI (X.2.1 0) n.toNat (fun _ => 0))) b U J R := hX.keep (gKeep.new haq : gKeep (fun _ => False) _ _) (fun h => h)
        have hL8 := hL.new (g := fun _ => 0) haq (i := i) (by omega) (n := n.toNat) (by omega)
        have ha8 : (gup σ aq (18, gI (X.2.1 0) n.toNat (fun _ => 0))) aq = some (18, gI (X.2.1 0) n.toNat (fun _ => 0)) := gup_s
        have hkp8 : gKeep (fun t => t = 1 ∨ t = 18) σ (gup σ aq (18, gI (X.2.1 0) n.toNat (fun _ => 0))) := hkp.tr (gKeep.new haq)
        generalize (gup σ aq (18, gI (X.2.1 0) n.toNat (fun _ => 0))) = σ8 at hG hX8 hL8 ha8 hkp8
        refine g_aastA hx hb hK hG hS hX8.c19 ha8 dX0_list_26 (by omega) (fun H locs hG hS => ?_)
        have hX9 := hX8.lst (iup R i (some aq))
        have hL9 := hL8.keep (gKeep.up hX8.c19 rfl : gKeep (fun t => t = 1) _ (gup σ8 (b 19) (1, gV (X.2.1 7) 4 (iup R i (some aq))))) (by decide)
        have hkp9 : gKeep (fun t => t = 1 ∨ t = 18) σ (gup σ8 (b 19) (1, gV (X.2.1 7) 4 (iup R i (some aq)))) := hkp8.tr (gKeep.up hX8.c19 (Or.inl rfl))
        generalize (gup σ8 (b 19) (1, gV (X.2.1 7) 4 (iup R i (some aq)))) = σ9 at hG hX9 hL9 hkp9
        refine W.eq (g2 := F0 mm 27 ls []) rfl ?_
        rw [show 0 + n.toNat = n.toNat from Nat.zero_add _]
        refine g_iconst hx hb dX0_list_27 ?_
        exact g_iret hx hb hr hlocks hQ hG hS (Nat.le_of_ble_eq_true rfl) (by show _ ≤ 54; omega) ⟨_, rfl, hkp9, (⟨_, _, _, hX9, hL9, by (repeat (first | rw [if_pos (by omega)] | rw [if_neg (by omega)])) <;> first | rfl | omega, Or.inl ⟨by omega, by rw [Int.toNat_of_nonneg (by omega)], rfl⟩⟩)⟩ dX0_list_28
    · refine g_bipush hx hb dX0_list_15 (by decide) ?_
      exact g_iret hx hb hr hlocks hQ hG hS (Nat.zero_le _) (Nat.zero_le _) ⟨_, rfl, hkp, (⟨R, N, G, hX, hL, by (repeat (first | rw [if_pos (by omega)] | rw [if_neg (by omega)])) <;> first | rfl | omega, Or.inr ⟨by omega, rfl, rfl⟩⟩)⟩ dX0_list_17
  · refine g_iconst hx hb dX0_list_7 ?_
    exact g_iret hx hb hr hlocks hQ hG hS (Nat.zero_le _) (Nat.zero_le _) ⟨_, rfl, hkp, (⟨R, N, G, hX, hL, by (repeat (first | rw [if_pos (by omega)] | rw [if_neg (by omega)])) <;> first | rfl | omega, Or.inr ⟨by omega, rfl, rfl⟩⟩)⟩ dX0_list_8

set_option maxHeartbeats 8000000 in
theorem mX0_put (l : Launch) (X : gX) (σ : gS) (b : Nat → Nat) (U : Nat → Int → Int) (J : Nat → Int) (R : Int → Option Nat) (hX : XW X σ b U J R) (hT : okT (U 20)) (N : Int → Int) (G : Int → Int → Int) (hL : LW X σ R N G) (i : Int) (j : Int) (v : Int) (hst : l.stackTraces = false) (h0 : -2147483648 ≤ i ∧ i ≤ 2147483647) (h1 : -2147483648 ≤ j ∧ j ≤ 2147483647) (h2 : -2147483648 ≤ v ∧ v ≤ 2147483647) : gMetW l X yX0_put cX0_put 5 (some .int) [((9 : Nat), (19 : Nat), (20 : Nat), (494 : Nat)), ((9 : Nat), (19 : Nat), (25 : Nat), (498 : Nat))] 9 3 222 10300 σ [.ref (b 0), .int (iI i), .int (iI j), .int (iI v)] (oI (fun r σ' => gKeep (fun t => t = 1 ∨ t = 18) σ σ' ∧ (∃ R' N' G', XW X σ' b U J R' ∧ LW X σ' R' N' G' ∧ (r = (if 0 ≤ i ∧ i ≤ 3 then (if N i < 0 then -11 else if 0 ≤ j ∧ j < N i then 1 else -13) else -1)) ∧ (((0 ≤ i ∧ i ≤ 3) ∧ 0 ≤ j ∧ j < N i) ∧ N' = N ∧ G' = iup G i (iup (G i) j v) ∨ ¬ ((0 ≤ i ∧ i ≤ 3) ∧ 0 ≤ j ∧ j < N i) ∧ N' = N ∧ G' = G)))) := by
  refine gMetW.of (by decide) (Nat.le_of_ble_eq_true rfl) ?_
  intro pp ee ss mm args below meth cd Q H locs ls hargs hx hb hr hlocks hml hown hnm hts hK hG hS hQ hl htb
  have hown : ss.vm.findClass RX0 = some mm.cls := hown
  have hl : lv_has ls 5 [(0, .ref (b 0)), (1, .int (iI i)), (2, .int (iI j)), (3, .int (iI v))] := hl
  have hkp : gKeep (fun t => t = 1 ∨ t = 18) σ σ := gKeep.rf
  refine lv_iload_n hx hb dX0_put_0 rfl (lv_at hl 1 rfl) ?_
  refine g_callS (As := [.int (iI i)]) (rest := []) 1 hx hb hml hown hts hK hG hS hl.1 (mX0_isList l X σ  i (by omega)) q1904 q1905 q69 q1906 (by decide +kernel) rfl ⟨Nat.le_of_ble_eq_true rfl, Nat.le_of_ble_eq_true rfl⟩ ⟨Nat.le_of_ble_eq_true rfl, Nat.le_of_ble_eq_true rfl⟩ (Nat.le_of_ble_eq_true rfl) dX0_put_1 (kI (fun r1 σr1 H locs hp hG hS => ?_))
  obtain ⟨hr1, rfl⟩ := hp
  refine g_if_ne (tgt := 9) hx hb dX0_put_4 (by decide) (by omega) (fun cq2 => ?_) (fun cq2 => ?_)
  · refine lv_aload_n hx hb dX0_put_9 rfl (lv_at hl 0 rfl) ?_
    refine g_get (C := RX0) (T := TX0) (N := 20) (v := .ref (b 19)) hx hb hts hown hK hG hX.c0 rfl in_X0 19 (by decide) q442 rfl rfl dX0_put_10 ?_
    refine lv_iload_n hx hb dX0_put_13 rfl (lv_at hl 1 rfl) ?_
    rcases hL.1 i (by omega) (by omega) with ⟨hN9, hR9⟩ | ⟨hN9, hM9, aa, hR9, haa⟩
    · refine g_aaldA (v := .null) hx hb 7 hK hG hX.c19 rfl dX0_put_14 (by omega) (by rw [hR9]; rfl) ?_
      refine lv_iload_n hx hb dX0_put_15 rfl (lv_at hl 2 rfl) ?_
      refine lv_iload_n hx hb dX0_put_16 rfl (lv_at hl 3 rfl) ?_
      refine g_iastN (rest := []) hx hb hst hml hown hts hK hG hS hl.1 hlocks dX0_put_17 (gHas.one hts htb (by decide) (by decide) q1902) ⟨by show 7 < 9; decide, Nat.le_trans (Nat.add_le_add_right (show _ ≤ 8 from Nat.le_of_ble_eq_true rfl) _) (by show 8 + 10240 ≤ 10300; decide)⟩ ⟨Nat.le_of_ble_eq_true rfl, Nat.le_of_ble_eq_true rfl⟩ (fun H xq3 hG hS => ?_)
      refine lv_astore (lv' := [(4, .ref xq3), (0, .ref (b 0)), (1, .int (iI i)), (2, .int (iI j)), (3, .int (iI v))]) hx hb dX0_put_20 hl (by decide) rfl (fun ls hl => ?_)
      refine g_bipush hx hb dX0_put_22 (by decide) ?_
      exact g_iret hx hb hr hlocks hQ hG hS (Nat.le_of_ble_eq_true rfl) (Nat.le_of_ble_eq_true rfl) ⟨_, rfl, hkp, (⟨R, N, G, hX, hL, by (repeat (first | rw [if_pos (by omega)] | rw [if_neg (by omega)])) <;> first | rfl | omega, Or.inr ⟨by omega, rfl, rfl⟩⟩)⟩ dX0_put_24
    · refine g_aaldA (v := .ref aa) hx hb 7 hK hG hX.c19 rfl dX0_put_14 (by omega) (by rw [hR9]; rfl) ?_
      refine lv_iload_n hx hb dX0_put_15 rfl (lv_at hl 2 rfl) ?_
      refine lv_iload_n hx hb dX0_put_16 rfl (lv_at hl 3 rfl) ?_
      by_cases hj9 : 0 ≤ j ∧ j < N i
      · refine g_iast hx hb hK hG hS haa dX0_put_17 (by omega) (fun H locs hG hS => ?_)
        have hX9 : XW X (gup σ aa (18, gI (X.2.1 0) (N i).toNat (iup (G i) j v))) b U J R := hX.keep (gKeep.up haa rfl : gKeep (fun t => t = 18) _ _) (by decide)
        have hL9 := hL.put (g := iup (G i) j v) (i := i) (by omega) hR9 hN9
        have hkp9 : gKeep (fun t => t = 1 ∨ t = 18) σ (gup σ aa (18, gI (X.2.1 0) (N i).toNat (iup (G i) j v))) := hkp.tr (gKeep.up haa (Or.inr rfl))
        generalize (gup σ aa (18, gI (X.2.1 0) (N i).toNat (iup (G i) j v))) = σ9 at hG hX9 hL9 hkp9
        refine g_iconst hx hb dX0_put_18 ?_
        exact g_iret hx hb hr hlocks hQ hG hS (Nat.zero_le _) (Nat.zero_le _) ⟨_, rfl, hkp9, (⟨_, _, _, hX9, hL9, by (repeat (first | rw [if_pos (by omega)] | rw [if_neg (by omega)])) <;> first | rfl | omega, Or.inl ⟨by omega, rfl, rfl⟩⟩)⟩ dX0_put_19
      · refine g_iastZ (rest := []) hx hb hst hml hown hts hK hG hS hl.1 hlocks haa (by omega) (by omega) dX0_put_17 (gHas.two hK hts htb (by decide) (by decide) q1922 (by decide) q1902 nc_ai) ⟨by show 7 < 9; decide, Nat.le_trans (Nat.add_le_add_right (show _ ≤ 8 from Nat.le_of_ble_eq_true rfl) _) (by show 8 + 10240 ≤ 10300; decide)⟩ ⟨Nat.le_of_ble_eq_true rfl, Nat.le_of_ble_eq_true rfl⟩ (fun H xq4 hG hS => ?_)
        refine lv_astore (lv' := [(4, .ref xq4), (0, .ref (b 0)), (1, .int (iI i)), (2, .int (iI j)), (3, .int (iI v))]) hx hb dX0_put_25 hl (by decide) rfl (fun ls hl => ?_)
        refine g_bipush hx hb dX0_put_27 (by decide) ?_
        exact g_iret hx hb hr hlocks hQ hG hS (Nat.le_of_ble_eq_true rfl) (Nat.le_of_ble_eq_true rfl) ⟨_, rfl, hkp, (⟨R, N, G, hX, hL, by (repeat (first | rw [if_pos (by omega)] | rw [if_neg (by omega)])) <;> first | rfl | omega, Or.inr ⟨by omega, rfl, rfl⟩⟩)⟩ dX0_put_29
  · refine g_iconst hx hb dX0_put_7 ?_
    exact g_iret hx hb hr hlocks hQ hG hS (Nat.zero_le _) (Nat.zero_le _) ⟨_, rfl, hkp, (⟨R, N, G, hX, hL, by (repeat (first | rw [if_pos (by omega)] | rw [if_neg (by omega)])) <;> first | rfl | omega, Or.inr ⟨by omega, rfl, rfl⟩⟩)⟩ dX0_put_8

set_option maxHeartbeats 8000000 in
theorem mX0_get (l : Launch) (X : gX) (σ : gS) (b : Nat → Nat) (U : Nat → Int → Int) (J : Nat → Int) (R : Int → Option Nat) (hX : XW X σ b U J R) (hT : okT (U 20)) (N : Int → Int) (G : Int → Int → Int) (hL : LW X σ R N G) (i : Int) (j : Int) (hst : l.stackTraces = false) (h0 : ∀ q z : Int, 0 ≤ q → q ≤ 3 → -2147483648 ≤ G q z ∧ G q z ≤ 2147483647) (h1 : -2147483648 ≤ i ∧ i ≤ 2147483647) (h2 : -2147483648 ≤ j ∧ j ≤ 2147483647) : gMetW l X yX0_get cX0_get 4 (some .long) [((0 : Nat), (9 : Nat), (10 : Nat), (494 : Nat)), ((0 : Nat), (9 : Nat), (10 : Nat), (498 : Nat))] 9 3 222 10300 σ [.ref (b 0), .int (iI i), .int (iI j)] (oL (fun r σ' => gKeep (fun t => t = 19) σ σ' ∧ (r = (if (0 ≤ i ∧ i ≤ 3) ∧ 0 ≤ j ∧ j < N i then lI (G i j) else noL) ∧ XW X σ' b U J R ∧ LW X σ' R N G))) := by
  refine gMetW.of (by decide) (Nat.le_of_ble_eq_true rfl) ?_
  intro pp ee ss mm args below meth cd Q H locs ls hargs hx hb hr hlocks hml hown hnm hts hK hG hS hQ hl htb
  have hown : ss.vm.findClass RX0 = some mm.cls := hown
  have hl : lv_has ls 4 [(0, .ref (b 0)), (1, .int (iI i)), (2, .int (iI j))] := hl
  have hkp : gKeep (fun t => t = 19) σ σ := gKeep.rf
  have hI9 := h0
  refine lv_aload_n hx hb dX0_get_0 rfl (lv_at hl 0 rfl) ?_
  refine g_get (C := RX0) (T := TX0) (N := 20) (v := .ref (b 19)) hx hb hts hown hK hG hX.c0 rfl in_X0 19 (by decide) q442 rfl rfl dX0_get_1 ?_
  refine lv_iload_n hx hb dX0_get_4 rfl (lv_at hl 1 rfl) ?_
  by_cases hi9 : 0 ≤ i ∧ i ≤ 3
  · rcases hL.1 i (by omega) (by omega) with ⟨hN9, hR9⟩ | ⟨hN9, hM9, aa, hR9, haa⟩
    · refine g_aaldA (v := .null) hx hb 7 hK hG hX.c19 rfl dX0_get_5 (by omega) (by rw [hR9]; rfl) ?_
      refine lv_iload_n hx hb dX0_get_6 rfl (lv_at hl 2 rfl) ?_
      refine g_ialdN (rest := []) hx hb hst hml hown hts hK hG hS hl.1 hlocks dX0_get_7 (gHas.one hts htb (by decide) (by decide) q1902) ⟨by show 7 < 9; decide, Nat.le_trans (Nat.add_le_add_right (show _ ≤ 8 from Nat.le_of_ble_eq_true rfl) _) (by show 8 + 10240 ≤ 10300; decide)⟩ ⟨Nat.le_of_ble_eq_true rfl, Nat.le_of_ble_eq_true rfl⟩ (fun H xq1 hG hS => ?_)
      refine lv_astore_n (lv' := [(3, .ref xq1), (0, .ref (b 0)), (1, .int (iI i)), (2, .int (iI j))]) hx hb dX0_get_10 rfl hl (by decide) rfl (fun ls hl => ?_)
      refine g_ldc2 hx hb (-9223372036854775808) hown (hts _ q625) (by decide) dX0_get_11 ?_
      exact g_lret hx hb hr hlocks hQ hG hS (Nat.le_of_ble_eq_true rfl) (Nat.le_of_ble_eq_true rfl) ⟨_, rfl, hkp, (⟨by rw [if_neg (by omega)]; rfl, hX, hL⟩)⟩ dX0_get_14
    · refine g_aaldA (v := .ref aa) hx hb 7 hK hG hX.c19 rfl dX0_get_5 (by omega) (by rw [hR9]; rfl) ?_
      refine lv_iload_n hx hb dX0_get_6 rfl (lv_at hl 2 rfl) ?_
      by_cases hj9 : 0 ≤ j ∧ j < N i
      · refine g_iald hx hb hK hG haa dX0_get_7 (by omega) ?_
        have hIr := hI9 i j (by omega) (by omega)
        refine g_i2l hx hb dX0_get_8 (by omega) ?_
        exact g_lret hx hb hr hlocks hQ hG hS (Nat.zero_le _) (Nat.zero_le _) ⟨_, rfl, hkp, (⟨by rw [if_pos (by omega)], hX, hL⟩)⟩ dX0_get_9
      · refine g_ialdZ (rest := []) hx hb hst hml hown hts hK hG hS hl.1 hlocks haa (by omega) (by omega) dX0_get_7 (gHas.two hK hts htb (by decide) (by decide) q1922 (by decide) q1902 nc_ai) ⟨by show 7 < 9; decide, Nat.le_trans (Nat.add_le_add_right (show _ ≤ 8 from Nat.le_of_ble_eq_true rfl) _) (by show 8 + 10240 ≤ 10300; decide)⟩ ⟨Nat.le_of_ble_eq_true rfl, Nat.le_of_ble_eq_true rfl⟩ (fun H xq2 hG hS => ?_)
        refine lv_astore_n (lv' := [(3, .ref xq2), (0, .ref (b 0)), (1, .int (iI i)), (2, .int (iI j))]) hx hb dX0_get_10 rfl hl (by decide) rfl (fun ls hl => ?_)
        refine g_ldc2 hx hb (-9223372036854775808) hown (hts _ q625) (by decide) dX0_get_11 ?_
        exact g_lret hx hb hr hlocks hQ hG hS (Nat.le_of_ble_eq_true rfl) (Nat.le_of_ble_eq_true rfl) ⟨_, rfl, hkp, (⟨by rw [if_neg (by omega)]; rfl, hX, hL⟩)⟩ dX0_get_14
  · refine g_aaldZ (k0 := 7) (rest := []) hx hb hst hml hown hts hK hG hS hl.1 hlocks hX.c19 rfl (by decide) (by omega) dX0_get_5 (gHas.two hK hts htb (by decide) (by decide) q1922 (by decide) q1902 nc_ai) ⟨by show 7 < 9; decide, Nat.le_trans (Nat.add_le_add_right (show _ ≤ 8 from Nat.le_of_ble_eq_true rfl) _) (by show 8 + 10240 ≤ 10300; decide)⟩ ⟨Nat.le_of_ble_eq_true rfl, Nat.le_of_ble_eq_true rfl⟩ (fun H xq3 hG hS => ?_)
    refine lv_astore_n (lv' := [(3, .ref xq3), (0, .ref (b 0)), (1, .int (iI i)), (2, .int (iI j))]) hx hb dX0_get_10 rfl hl (by decide) rfl (fun ls hl => ?_)
    refine g_ldc2 hx hb (-9223372036854775808) hown (hts _ q625) (by decide) dX0_get_11 ?_
    exact g_lret hx hb hr hlocks hQ hG hS (Nat.le_of_ble_eq_true rfl) (Nat.le_of_ble_eq_true rfl) ⟨_, rfl, hkp, (⟨by rw [if_neg (by omega)]; rfl, hX, hL⟩)⟩ dX0_get_14

set_option maxHeartbeats 8000000 in
theorem mX0_judge (l : Launch) (X : gX) (σ : gS) (b : Nat → Nat) (U : Nat → Int → Int) (J : Nat → Int) (R : Int → Option Nat) (hX : XW X σ b U J R) (hT : okT (U 20)) (N : Int → Int) (G : Int → Int → Int) (hL : LW X σ R N G) (i : Int) (x : Int) (y : Int) (hst : l.stackTraces = false) (h0 : ∀ q z : Int, 0 ≤ q → q ≤ 3 → -2147483648 ≤ G q z ∧ G q z ≤ 2147483647) (h1 : -2147483648 ≤ i ∧ i ≤ 2147483647) (h2 : -2147483648 ≤ x ∧ x ≤ 2147483647) (h3 : -2147483648 ≤ y ∧ y ≤ 2147483647) : gMetW l X yX0_judge cX0_judge 7 (some .int) [((32 : Nat), (88 : Nat), (98 : Nat), (494 : Nat)), ((89 : Nat), (97 : Nat), (98 : Nat), (494 : Nat))] 9 1 8 10300 σ [.ref (b 0), .int (iI i), .int (iI x), .int (iI y)] (oI (fun r σ' => gKeep (fun t => t = 19) σ σ' ∧ (r = (if (0 ≤ i ∧ i ≤ 3) ∧ okSp x y then (if N i < 0 then -11 else jdA (U 20) (G i) (N i).toNat 0 (32 * x + y)) else -1) ∧ XW X σ' b U J R ∧ LW X σ' R N G))) := by
  refine gMetW.of (by decide) (Nat.le_of_ble_eq_true rfl) ?_
  intro pp ee ss mm args below meth cd Q H locs ls hargs hx hb hr hlocks hml hown hnm hts hK hG hS hQ hl htb
  have hown : ss.vm.findClass RX0 = some mm.cls := hown
  have hl : lv_has ls 7 [(0, .ref (b 0)), (1, .int (iI i)), (2, .int (iI x)), (3, .int (iI y))] := hl
  have hkp : gKeep (fun t => t = 19) σ σ := gKeep.rf
  have hI9 := h0
  refine lv_iload_n hx hb dX0_judge_0 rfl (lv_at hl 1 rfl) ?_
  refine g_callS (As := [.int (iI i)]) (rest := []) 1 hx hb hml hown hts hK hG hS hl.1 (mX0_isList l X σ  i (by omega)) q1904 q1905 q69 q1906 (by decide +kernel) rfl ⟨Nat.le_of_ble_eq_true rfl, Nat.le_of_ble_eq_true rfl⟩ ⟨Nat.le_of_ble_eq_true rfl, Nat.le_of_ble_eq_true rfl⟩ (Nat.le_of_ble_eq_true rfl) dX0_judge_1 (kI (fun r1 σr1 H locs hp hG hS => ?_))
  obtain ⟨hr1, rfl⟩ := hp
  refine g_if_eq (tgt := 15) hx hb dX0_judge_4 (by decide) (by omega) (fun cq2 => ?_) (fun cq2 => ?_)
  · refine g_iconst hx hb dX0_judge_15 ?_
    exact g_iret hx hb hr hlocks hQ hG hS (Nat.zero_le _) (Nat.zero_le _) ⟨_, rfl, hkp, (⟨by rw [if_neg (by omega)], hX, hL⟩)⟩ dX0_judge_16
  · refine lv_iload_n hx hb dX0_judge_7 rfl (lv_at hl 2 rfl) ?_
    refine lv_iload_n hx hb dX0_judge_8 rfl (lv_at hl 3 rfl) ?_
    refine g_callS (As := [.int (iI x), .int (iI y)]) (rest := []) 2 hx hb hml hown hts hK hG hS hl.1 (mX0_isSpot l X σ  x y (by omega) (by omega)) q591 q592 q69 q593 (by decide +kernel) rfl ⟨Nat.le_of_ble_eq_true rfl, Nat.le_of_ble_eq_true rfl⟩ ⟨Nat.le_of_ble_eq_true rfl, Nat.le_of_ble_eq_true rfl⟩ (Nat.le_of_ble_eq_true rfl) dX0_judge_9 (kI (fun r3 σr3 H locs hp hG hS => ?_))
    obtain ⟨hr3, rfl⟩ := hp
    refine g_if_ne (tgt := 17) hx hb dX0_judge_12 (by decide) (by omega) (fun cq4 => ?_) (fun cq4 => ?_)
    · refine lv_aload_n hx hb dX0_judge_17 rfl (lv_at hl 0 rfl) ?_
      refine g_get (C := RX0) (T := TX0) (N := 20) (v := .ref (b 19)) hx hb hts hown hK hG hX.c0 rfl in_X0 19 (by decide) q442 rfl rfl dX0_judge_18 ?_
      refine lv_iload_n hx hb dX0_judge_21 rfl (lv_at hl 1 rfl) ?_
      rcases hL.1 i (by omega) (by omega) with ⟨hN9, hR9⟩ | ⟨hN9, hM9, aa, hR9, haa⟩
      · refine g_aaldA (v := .null) hx hb 7 hK hG hX.c19 rfl dX0_judge_22 (by omega) (by rw [hR9]; rfl) ?_
        refine lv_astoreN (lv' := [(4, .null), (0, .ref (b 0)), (1, .int (iI i)), (2, .int (iI x)), (3, .int (iI y))]) hx hb dX0_judge_23 hl (by decide) rfl (fun ls hl => ?_)
        refine lv_iload_n hx hb dX0_judge_25 rfl (lv_at hl 3 rfl) ?_
        refine lv_iload_n hx hb dX0_judge_26 rfl (lv_at hl 4 rfl) ?_
        refine g_callS (As := [.int (iI x), .int (iI y)]) (rest := []) 2 hx hb hml hown hts hK hG hS hl.1 (mX0_codeOf l X σ  x y (by omega) (by omega)) q387 q388 q69 q389 (by decide +kernel) rfl ⟨Nat.le_of_ble_eq_true rfl, Nat.le_of_ble_eq_true rfl⟩ ⟨Nat.le_of_ble_eq_true rfl, Nat.le_of_ble_eq_true rfl⟩ (Nat.le_of_ble_eq_true rfl) dX0_judge_27 (kI (fun r5 σr5 H locs hp hG hS => ?_))
        obtain ⟨hr5, rfl⟩ := hp
        refine lv_istore (lv' := [(5, .int (iI r5)), (4, .null), (0, .ref (b 0)), (1, .int (iI i)), (2, .int (iI x)), (3, .int (iI y))]) hx hb dX0_judge_30 hl (by decide) rfl (fun ls hl => ?_)
        refine g_iconst hx hb dX0_judge_32 ?_
        refine lv_istore (lv' := [(6, .int (iI 0)), (5, .int (iI r5)), (4, .null), (0, .ref (b 0)), (1, .int (iI i)), (2, .int (iI x)), (3, .int (iI y))]) hx hb dX0_judge_33 hl (by decide) rfl (fun ls hl => ?_)
        refine lv_iload hx hb dX0_judge_35 (lv_at hl 0 rfl) ?_
        refine lv_aloadN hx hb dX0_judge_37 (lv_at hl 2 rfl) ?_
        refine g_alenN (rest := [.int (iI 0)]) hx hb hst hml hown hts hK hG hS hl.1 hlocks dX0_judge_39 (gHas.one hts htb (by decide) (by decide) q1902) ⟨by show 7 < 9; decide, Nat.le_trans (Nat.add_le_add_right (show _ ≤ 8 from Nat.le_of_ble_eq_true rfl) _) (by show 8 + 10240 ≤ 10300; decide)⟩ ⟨Nat.le_of_ble_eq_true rfl, Nat.le_of_ble_eq_true rfl⟩ (fun H xq6 hG hS => ?_)
        refine lv_astore (lv' := [(6, .ref xq6), (5, .int (iI r5)), (4, .null), (0, .ref (b 0)), (1, .int (iI i)), (2, .int (iI x)), (3, .int (iI y))]) hx hb dX0_judge_98 hl (by decide) rfl (fun ls hl => ?_)
        refine g_bipush hx hb dX0_judge_100 (by decide) ?_
        exact g_iret hx hb hr hlocks hQ hG hS (Nat.le_of_ble_eq_true rfl) (Nat.le_of_ble_eq_true rfl) ⟨_, rfl, hkp, (⟨by rw [if_pos (by omega), if_pos (by omega)], hX, hL⟩)⟩ dX0_judge_102
      · refine g_aaldA (v := .ref aa) hx hb 7 hK hG hX.c19 rfl dX0_judge_22 (by omega) (by rw [hR9]; rfl) ?_
        refine lv_astore (lv' := [(4, .ref aa), (0, .ref (b 0)), (1, .int (iI i)), (2, .int (iI x)), (3, .int (iI y))]) hx hb dX0_judge_23 hl (by decide) rfl (fun ls hl => ?_)
        refine lv_iload_n hx hb dX0_judge_25 rfl (lv_at hl 3 rfl) ?_
        refine lv_iload_n hx hb dX0_judge_26 rfl (lv_at hl 4 rfl) ?_
        refine g_callS (As := [.int (iI x), .int (iI y)]) (rest := []) 2 hx hb hml hown hts hK hG hS hl.1 (mX0_codeOf l X σ  x y (by omega) (by omega)) q387 q388 q69 q389 (by decide +kernel) rfl ⟨Nat.le_of_ble_eq_true rfl, Nat.le_of_ble_eq_true rfl⟩ ⟨Nat.le_of_ble_eq_true rfl, Nat.le_of_ble_eq_true rfl⟩ (Nat.le_of_ble_eq_true rfl) dX0_judge_27 (kI (fun r7 σr7 H locs hp hG hS => ?_))
        obtain ⟨hr7, rfl⟩ := hp
        refine lv_istore (lv' := [(5, .int (iI r7)), (4, .ref aa), (0, .ref (b 0)), (1, .int (iI i)), (2, .int (iI x)), (3, .int (iI y))]) hx hb dX0_judge_30 hl (by decide) rfl (fun ls hl => ?_)
        refine g_iconst hx hb dX0_judge_32 ?_
        refine lv_istore (lv' := [(6, .int (iI 0)), (5, .int (iI r7)), (4, .ref aa), (0, .ref (b 0)), (1, .int (iI i)), (2, .int (iI x)), (3, .int (iI y))]) hx hb dX0_judge_33 hl (by decide) rfl (fun ls hl => ?_)
        have loop_35 : ∀ (nF : Nat) (σL : gS) (at9 : Int) (k9 : Int) (f : Nat), (f : Nat) < nF → (gKeep (fun t => t = 19) σ σL) → (XW X σL b U J R) → (LW X σL R N G) → (at9 = -7 ∨ (0 ≤ at9 ∧ at9 ≤ 1023)) → (0 ≤ k9 ∧ k9 + (f : Int) = N i) → (jdA (U 20) (G i) f k9 at9 = jdA (U 20) (G i) (N i).toNat 0 (32 * x + y)) → ∀ (H : Heap) (locs : List Loc) (ls : Array Slot), gSat X σL H → va_S (gA X) ss.heap H locs → lv_has ls 7 [(6, .int (iI k9)), (5, .int (iI at9)), (4, .ref aa), (0, .ref (b 0)), (1, .int (iI i)), (2, .int (iI x)), (3, .int (iI y))] → W pp l ee (gR 9 1 8 10300) ss mm args below meth cd H locs 0 0 Q (F0 mm 35 ls []) := by
          intro nF
          induction nF with
          | zero => intro σL at9 k9 f hm; exact absurd hm (Nat.not_lt_zero _)
          | succ nF ih_35 =>
            intro σL at9 k9 f hm hkL hXL hLL hat9 hk9 hjd H locs ls hG hS hl
            have haaL := hkL _ _ _ haa (by decide)
            refine lv_iload hx hb dX0_judge_35 (lv_at hl 0 rfl) ?_
            refine lv_aload hx hb dX0_judge_37 (lv_at hl 2 rfl) ?_
            refine g_alen (n := (N i).toNat) hx hb 0 hK hG haaL rfl rfl dX0_judge_39 ?_
            refine g_icmp_ge (tgt := 95) hx hb dX0_judge_40 (by decide) (by omega) (by omega) (fun cq8 => ?_) (fun cq8 => ?_)
            · refine g_bipush hx hb dX0_judge_95 (by decide) ?_
              exact g_iret hx hb hr hlocks hQ hG hS (Nat.zero_le _) (Nat.zero_le _) ⟨_, rfl, hkL, (⟨by rw [if_pos (by omega), if_neg (by omega), ← hjd, jdA_0 (by omega)], hXL, hLL⟩)⟩ dX0_judge_97
            · refine lv_iload hx hb dX0_judge_43 (lv_at hl 0 rfl) ?_
              refine g_iconst hx hb dX0_judge_45 ?_
              refine g_irem hx hb dX0_judge_46 (by omega) (by omega) ?_
              refine g_iconst hx hb dX0_judge_47 ?_
              refine g_icmp_eq (tgt := 58) hx hb dX0_judge_48 (by decide) (by omega) (by omega) (fun cq9 => ?_) (fun cq9 => ?_)
              · refine lv_iload hx hb dX0_judge_58 (lv_at hl 1 rfl) ?_
                refine lv_goto (tgt := 69) hx hb dX0_judge_60 (by decide) ?_
                refine lv_istore (lv' := [(5, .int (iI at9)), (6, .int (iI k9)), (4, .ref aa), (0, .ref (b 0)), (1, .int (iI i)), (2, .int (iI x)), (3, .int (iI y))]) hx hb dX0_judge_69 hl (by decide) rfl (fun ls hl => ?_)
                refine lv_iload hx hb dX0_judge_71 (lv_at hl 0 rfl) ?_
                refine lv_iload hx hb dX0_judge_73 (lv_at hl 1 rfl) ?_
                refine g_callS (As := [.int (iI at9), .int (iI k9)]) (rest := []) 2 hx hb hml hown hts hK hG hS hl.1 (mX0_told_2 l X σL  at9 k9 (by omega) (by omega)) q1907 q1908 q69 q1909 (by decide +kernel) rfl ⟨Nat.le_of_ble_eq_true rfl, Nat.le_of_ble_eq_true rfl⟩ ⟨Nat.le_of_ble_eq_true rfl, Nat.le_of_ble_eq_true rfl⟩ (Nat.le_of_ble_eq_true rfl) dX0_judge_75 (kI (fun r10 σr10 H locs hp hG hS => ?_))
                obtain ⟨⟨hr10, kr10⟩, rfl⟩ := hp
                refine lv_aload hx hb dX0_judge_78 (lv_at hl 2 rfl) ?_
                refine lv_iload hx hb dX0_judge_80 (lv_at hl 1 rfl) ?_
                refine g_iald hx hb hK hG haaL dX0_judge_82 (by omega) ?_
                have hIr := hI9 i k9 (by omega) (by omega)
                have hjN : jdN (U 20) k9 at9 = at9 := by unfold jdN; (first | rw [if_pos (by omega)] | rw [if_neg (by omega)])
                have hjD : jdD k9 at9 = r10 := hr10.symm
                refine g_icmp_eq (tgt := 89) hx hb dX0_judge_83 (by decide) (by omega) (by omega) (fun cq11 => ?_) (fun cq11 => ?_)
                · refine g_iinc (lv' := [(6, .int (iI (k9 + 1))), (5, .int (iI at9)), (4, .ref aa), (0, .ref (b 0)), (1, .int (iI i)), (2, .int (iI x)), (3, .int (iI y))]) hx hb dX0_judge_89 hl (k := 1) rfl (by decide) rfl (fun ls hl => ?_)
                  refine lv_goto (tgt := 35) hx hb dX0_judge_92 (by decide) ?_
                  exact ih_35 σL at9 (k9 + 1) (f - 1) (by omega) (hkL) (hXL) (hLL) (by omega) (by omega) (by rw [← hjd]; have hjs := jdA_s (T := U 20) (R := G i) (f := f) (k := k9) (a := at9) (by rw [hjN, hjD]; omega) (by omega); rw [hjN] at hjs; exact hjs)  _ _ _ hG hS (lv_sub hl [0, 1, 2, 3, 4, 5, 6] rfl)
                · refine lv_iload hx hb dX0_judge_86 (lv_at hl 1 rfl) ?_
                  exact g_iret hx hb hr hlocks hQ hG hS (Nat.zero_le _) (Nat.zero_le _) ⟨_, rfl, hkL, (⟨by rw [if_pos (by omega), if_neg (by omega), ← hjd, jdA_n (by rw [hjN, hjD]; exact fun q => by omega) (by omega)], hXL, hLL⟩)⟩ dX0_judge_88
              · refine lv_iload hx hb dX0_judge_51 (lv_at hl 1 rfl) ?_
                refine g_bipush hx hb dX0_judge_53 (by decide) ?_
                refine g_icmp_ne (tgt := 63) hx hb dX0_judge_55 (by decide) (by omega) (by omega) (fun cq12 => ?_) (fun cq12 => ?_)
                · refine lv_aload_n hx hb dX0_judge_63 rfl (lv_at hl 3 rfl) ?_
                  refine lv_iload hx hb dX0_judge_64 (lv_at hl 1 rfl) ?_
                  refine g_callV (As := [.int (iI at9)]) (rest := []) 1 hx hb hml hown hts hK hG hS hl.1 (mX0_steps l X σL b U J R hXL hT at9 (by omega)) hXL.c0 rfl q643 q394 qs7 q69 q395 (by decide +kernel) rfl ⟨Nat.le_of_ble_eq_true rfl, Nat.le_of_ble_eq_true rfl⟩ ⟨Nat.le_of_ble_eq_true rfl, Nat.le_of_ble_eq_true rfl⟩ (Nat.le_of_ble_eq_true rfl) dX0_judge_66 (kI (fun r13 σr13 H locs hp hG hS => ?_))
                  obtain ⟨⟨hr13, kr13⟩, rfl⟩ := hp
                  refine lv_istore (lv' := [(5, .int (iI r13)), (6, .int (iI k9)), (4, .ref aa), (0, .ref (b 0)), (1, .int (iI i)), (2, .int (iI x)), (3, .int (iI y))]) hx hb dX0_judge_69 hl (by decide) rfl (fun ls hl => ?_)
                  refine lv_iload hx hb dX0_judge_71 (lv_at hl 0 rfl) ?_
                  refine lv_iload hx hb dX0_judge_73 (lv_at hl 1 rfl) ?_
                  refine g_callS (As := [.int (iI r13), .int (iI k9)]) (rest := []) 2 hx hb hml hown hts hK hG hS hl.1 (mX0_told_2 l X σL  r13 k9 (by omega) (by omega)) q1907 q1908 q69 q1909 (by decide +kernel) rfl ⟨Nat.le_of_ble_eq_true rfl, Nat.le_of_ble_eq_true rfl⟩ ⟨Nat.le_of_ble_eq_true rfl, Nat.le_of_ble_eq_true rfl⟩ (Nat.le_of_ble_eq_true rfl) dX0_judge_75 (kI (fun r14 σr14 H locs hp hG hS => ?_))
                  obtain ⟨⟨hr14, kr14⟩, rfl⟩ := hp
                  refine lv_aload hx hb dX0_judge_78 (lv_at hl 2 rfl) ?_
                  refine lv_iload hx hb dX0_judge_80 (lv_at hl 1 rfl) ?_
                  refine g_iald hx hb hK hG haaL dX0_judge_82 (by omega) ?_
                  have hIr := hI9 i k9 (by omega) (by omega)
                  have hjN : jdN (U 20) k9 at9 = r13 := by unfold jdN; (first | rw [if_pos (by omega)] | rw [if_neg (by omega)]); exact hr13.symm
                  have hjD : jdD k9 r13 = r14 := hr14.symm
                  refine g_icmp_eq (tgt := 89) hx hb dX0_judge_83 (by decide) (by omega) (by omega) (fun cq15 => ?_) (fun cq15 => ?_)
                  · refine g_iinc (lv' := [(6, .int (iI (k9 + 1))), (5, .int (iI r13)), (4, .ref aa), (0, .ref (b 0)), (1, .int (iI i)), (2, .int (iI x)), (3, .int (iI y))]) hx hb dX0_judge_89 hl (k := 1) rfl (by decide) rfl (fun ls hl => ?_)
                    refine lv_goto (tgt := 35) hx hb dX0_judge_92 (by decide) ?_
                    exact ih_35 σL r13 (k9 + 1) (f - 1) (by omega) (hkL) (hXL) (hLL) (by omega) (by omega) (by rw [← hjd]; have hjs := jdA_s (T := U 20) (R := G i) (f := f) (k := k9) (a := at9) (by rw [hjN, hjD]; omega) (by omega); rw [hjN] at hjs; exact hjs)  _ _ _ hG hS (lv_sub hl [0, 1, 2, 3, 4, 5, 6] rfl)
                  · refine lv_iload hx hb dX0_judge_86 (lv_at hl 1 rfl) ?_
                    exact g_iret hx hb hr hlocks hQ hG hS (Nat.zero_le _) (Nat.zero_le _) ⟨_, rfl, hkL, (⟨by rw [if_pos (by omega), if_neg (by omega), ← hjd, jdA_n (by rw [hjN, hjD]; exact fun q => by omega) (by omega)], hXL, hLL⟩)⟩ dX0_judge_88
                · refine lv_iload hx hb dX0_judge_58 (lv_at hl 1 rfl) ?_
                  refine lv_goto (tgt := 69) hx hb dX0_judge_60 (by decide) ?_
                  refine lv_istore (lv' := [(5, .int (iI at9)), (6, .int (iI k9)), (4, .ref aa), (0, .ref (b 0)), (1, .int (iI i)), (2, .int (iI x)), (3, .int (iI y))]) hx hb dX0_judge_69 hl (by decide) rfl (fun ls hl => ?_)
                  refine lv_iload hx hb dX0_judge_71 (lv_at hl 0 rfl) ?_
                  refine lv_iload hx hb dX0_judge_73 (lv_at hl 1 rfl) ?_
                  refine g_callS (As := [.int (iI at9), .int (iI k9)]) (rest := []) 2 hx hb hml hown hts hK hG hS hl.1 (mX0_told_2 l X σL  at9 k9 (by omega) (by omega)) q1907 q1908 q69 q1909 (by decide +kernel) rfl ⟨Nat.le_of_ble_eq_true rfl, Nat.le_of_ble_eq_true rfl⟩ ⟨Nat.le_of_ble_eq_true rfl, Nat.le_of_ble_eq_true rfl⟩ (Nat.le_of_ble_eq_true rfl) dX0_judge_75 (kI (fun r16 σr16 H locs hp hG hS => ?_))
                  obtain ⟨⟨hr16, kr16⟩, rfl⟩ := hp
                  refine lv_aload hx hb dX0_judge_78 (lv_at hl 2 rfl) ?_
                  refine lv_iload hx hb dX0_judge_80 (lv_at hl 1 rfl) ?_
                  refine g_iald hx hb hK hG haaL dX0_judge_82 (by omega) ?_
                  have hIr := hI9 i k9 (by omega) (by omega)
                  have hjN : jdN (U 20) k9 at9 = at9 := by unfold jdN; (first | rw [if_pos (by omega)] | rw [if_neg (by omega)])
                  have hjD : jdD k9 at9 = r16 := hr16.symm
                  refine g_icmp_eq (tgt := 89) hx hb dX0_judge_83 (by decide) (by omega) (by omega) (fun cq17 => ?_) (fun cq17 => ?_)
                  · refine g_iinc (lv' := [(6, .int (iI (k9 + 1))), (5, .int (iI at9)), (4, .ref aa), (0, .ref (b 0)), (1, .int (iI i)), (2, .int (iI x)), (3, .int (iI y))]) hx hb dX0_judge_89 hl (k := 1) rfl (by decide) rfl (fun ls hl => ?_)
                    refine lv_goto (tgt := 35) hx hb dX0_judge_92 (by decide) ?_
                    exact ih_35 σL at9 (k9 + 1) (f - 1) (by omega) (hkL) (hXL) (hLL) (by omega) (by omega) (by rw [← hjd]; have hjs := jdA_s (T := U 20) (R := G i) (f := f) (k := k9) (a := at9) (by rw [hjN, hjD]; omega) (by omega); rw [hjN] at hjs; exact hjs)  _ _ _ hG hS (lv_sub hl [0, 1, 2, 3, 4, 5, 6] rfl)
                  · refine lv_iload hx hb dX0_judge_86 (lv_at hl 1 rfl) ?_
                    exact g_iret hx hb hr hlocks hQ hG hS (Nat.zero_le _) (Nat.zero_le _) ⟨_, rfl, hkL, (⟨by rw [if_pos (by omega), if_neg (by omega), ← hjd, jdA_n (by rw [hjN, hjD]; exact fun q => by omega) (by omega)], hXL, hLL⟩)⟩ dX0_judge_88
        exact loop_35 _ σ r7 0 ((N i).toNat) (Nat.lt_succ_self _) (hkp) (hX) (hL) (by omega) (by omega) (by rw [hr7])  _ _ _ hG hS (lv_sub hl [0, 1, 2, 3, 4, 5, 6] rfl)
    · refine g_iconst hx hb dX0_judge_15 ?_
      exact g_iret hx hb hr hlocks hQ hG hS (Nat.zero_le _) (Nat.zero_le _) ⟨_, rfl, hkp, (⟨by rw [if_neg (by omega)], hX, hL⟩)⟩ dX0_judge_16

set_option maxHeartbeats 8000000 in
theorem mX0_were (l : Launch) (X : gX) (σ : gS) (b : Nat → Nat) (U : Nat → Int → Int) (J : Nat → Int) (R : Int → Option Nat) (hX : XW X σ b U J R) (hT : okT (U 20)) (t : Int) (i : Int) (j : Int) (x : Int) (y : Int) (k9 : Int)  (h0 : -2147483648 ≤ t ∧ t ≤ 2147483647) (h1 : -2147483648 ≤ i ∧ i ≤ 2147483647) (h2 : -2147483648 ≤ j ∧ j ≤ 2147483647) (h3 : -2147483648 ≤ x ∧ x ≤ 2147483647) (h4 : -2147483648 ≤ y ∧ y ≤ 2147483647) (h5 : -2147483648 ≤ k9 ∧ k9 ≤ 2147483647) : gMetW l X yX0_were cX0_were 13 (some .long) [((54 : Nat), (108 : Nat), (123 : Nat), (0 : Nat)), ((123 : Nat), (125 : Nat), (123 : Nat), (0 : Nat))] 5 0 0 118 σ [.ref (b 0), .int (iI t), .int (iI i), .int (iI j), .int (iI x), .int (iI y), .int (iI k9)] (oL (fun r σ' => gKeep (fun t => t = 1) σ σ' ∧ (∃ (U' : Nat → Int → Int) (J' : Nat → Int), XW X σ' b U' J' R ∧ okT (U' 20) ∧ (r = (if ((0 ≤ t ∧ t ≤ 1) ∧ (0 ≤ i ∧ i ≤ 2) ∧ (0 ≤ j ∧ j ≤ 2)) ∧ okSp x y ∧ (0 ≤ k9 ∧ k9 ≤ 31) then werA (U 20) (9 * t + 3 * i + j) x y k9 31 else noL) ∧ U' = U ∧ J' = J)))) := by
  refine gMetW.of (by decide) (Nat.le_of_ble_eq_true rfl) ?_
  intro pp ee ss mm args below meth cd Q H locs ls hargs hx hb hr hlocks hml hown hnm hts hK hG hS hQ hl htb
  have hown : ss.vm.findClass RX0 = some mm.cls := hown
  have hl : lv_has ls 13 [(0, .ref (b 0)), (1, .int (iI t)), (2, .int (iI i)), (3, .int (iI j)), (4, .int (iI x)), (5, .int (iI y)), (6, .int (iI k9))] := hl
  have hkp : gKeep (fun t => t = 1) σ σ := gKeep.rf
  refine lv_iload_n hx hb dX0_were_0 rfl (lv_at hl 1 rfl) ?_
  refine lv_iload_n hx hb dX0_were_1 rfl (lv_at hl 2 rfl) ?_
  refine lv_iload_n hx hb dX0_were_2 rfl (lv_at hl 3 rfl) ?_
  refine g_callS (As := [.int (iI t), .int (iI i), .int (iI j)]) (rest := []) 3 hx hb hml hown hts hK hG hS hl.1 (mX0_isCell l X σ  t i j (by omega) (by omega) (by omega)) q488 q489 q69 q490 (by decide +kernel) rfl ⟨Nat.le_of_ble_eq_true rfl, Nat.le_of_ble_eq_true rfl⟩ ⟨Nat.le_of_ble_eq_true rfl, Nat.le_of_ble_eq_true rfl⟩ (Nat.le_of_ble_eq_true rfl) dX0_were_3 (kI (fun r1 σr1 H locs hp hG hS => ?_))
  obtain ⟨hr1, rfl⟩ := hp
  refine g_if_eq (tgt := 27) hx hb dX0_were_6 (by decide) (by omega) (fun cq2 => ?_) (fun cq2 => ?_)
  · refine g_ldc2 hx hb (-9223372036854775808) hown (hts _ q625) (by decide) dX0_were_27 ?_
    exact g_lret hx hb hr hlocks hQ hG hS (Nat.zero_le _) (Nat.zero_le _) ⟨_, rfl, hkp, (⟨U, J, hX, hT, (⟨by rw [if_neg (by omega)]; rfl, rfl, rfl⟩)⟩)⟩ dX0_were_30
  · refine lv_iload hx hb dX0_were_9 (lv_at hl 4 rfl) ?_
    refine lv_iload hx hb dX0_were_11 (lv_at hl 5 rfl) ?_
    refine g_callS (As := [.int (iI x), .int (iI y)]) (rest := []) 2 hx hb hml hown hts hK hG hS hl.1 (mX0_isSpot l X σ  x y (by omega) (by omega)) q591 q592 q69 q593 (by decide +kernel) rfl ⟨Nat.le_of_ble_eq_true rfl, Nat.le_of_ble_eq_true rfl⟩ ⟨Nat.le_of_ble_eq_true rfl, Nat.le_of_ble_eq_true rfl⟩ (Nat.le_of_ble_eq_true rfl) dX0_were_13 (kI (fun r3 σr3 H locs hp hG hS => ?_))
    obtain ⟨hr3, rfl⟩ := hp
    refine g_if_eq (tgt := 27) hx hb dX0_were_16 (by decide) (by omega) (fun cq4 => ?_) (fun cq4 => ?_)
    · refine g_ldc2 hx hb (-9223372036854775808) hown (hts _ q625) (by decide) dX0_were_27 ?_
      exact g_lret hx hb hr hlocks hQ hG hS (Nat.zero_le _) (Nat.zero_le _) ⟨_, rfl, hkp, (⟨U, J, hX, hT, (⟨by rw [if_neg (by omega)]; rfl, rfl, rfl⟩)⟩)⟩ dX0_were_30
    · refine lv_iload hx hb dX0_were_19 (lv_at hl 6 rfl) ?_
      refine g_callS (As := [.int (iI k9)]) (rest := []) 1 hx hb hml hown hts hK hG hS hl.1 (mX0_isCoordinate l X σ  k9 (by omega)) q594 q595 q69 q596 (by decide +kernel) rfl ⟨Nat.le_of_ble_eq_true rfl, Nat.le_of_ble_eq_true rfl⟩ ⟨Nat.le_of_ble_eq_true rfl, Nat.le_of_ble_eq_true rfl⟩ (Nat.le_of_ble_eq_true rfl) dX0_were_21 (kI (fun r5 σr5 H locs hp hG hS => ?_))
      obtain ⟨hr5, rfl⟩ := hp
      refine g_if_ne (tgt := 31) hx hb dX0_were_24 (by decide) (by omega) (fun cq6 => ?_) (fun cq6 => ?_)
      · refine lv_iload_n hx hb dX0_were_31 rfl (lv_at hl 1 rfl) ?_
        refine lv_iload_n hx hb dX0_were_32 rfl (lv_at hl 2 rfl) ?_
        refine lv_iload_n hx hb dX0_were_33 rfl (lv_at hl 3 rfl) ?_
        refine g_callS (As := [.int (iI t), .int (iI i), .int (iI j)]) (rest := []) 3 hx hb hml hown hts hK hG hS hl.1 (mX0_cell l X σ  t i j (by omega) (by omega) (by omega)) q370 q371 q69 q372 (by decide +kernel) rfl ⟨Nat.le_of_ble_eq_true rfl, Nat.le_of_ble_eq_true rfl⟩ ⟨Nat.le_of_ble_eq_true rfl, Nat.le_of_ble_eq_true rfl⟩ (Nat.le_of_ble_eq_true rfl) dX0_were_34 (kI (fun r7 σr7 H locs hp hG hS => ?_))
        obtain ⟨hr7, rfl⟩ := hp
        have hrP := hr7
        refine g_name (fun p9 ep9 => ?_)
        refine lv_istore (lv' := [(7, .int (iI p9)), (0, .ref (b 0)), (1, .int (iI t)), (2, .int (iI i)), (3, .int (iI j)), (4, .int (iI x)), (5, .int (iI y)), (6, .int (iI k9))]) hx hb dX0_were_37 hl (by decide) rfl (fun ls hl => ?_)
        refine lv_aload_n hx hb dX0_were_39 rfl (lv_at hl 1 rfl) ?_
        refine g_get (C := RX0) (T := TX0) (N := 20) (v := .ref (b 1)) hx hb hts hown hK hG hX.c0 rfl in_X0 0 (by decide) q420 rfl rfl dX0_were_40 ?_
        refine g_getN (C := RX1) (T := TX1) (N := 4) (v := .ref (b 20)) hx hb hts hown hK hG hX.c1 rfl in_X1 0 (by decide) q187 rfl rfl dX0_were_43 ?_
        refine lv_iload hx hb dX0_were_46 (lv_at hl 0 rfl) ?_
        refine g_iald hx hb hK hG hX.c20 dX0_were_48 (by omega) ?_
        refine g_name (fun w8 ew8 => ?_)
        have hw8 : 0 ≤ w8 ∧ w8 ≤ 30 := by rw [ew8]; exact hT _ (by omega) (by omega)
        refine lv_istore (lv' := [(8, .int (iI w8)), (7, .int (iI p9)), (0, .ref (b 0)), (1, .int (iI t)), (2, .int (iI i)), (3, .int (iI j)), (4, .int (iI x)), (5, .int (iI y)), (6, .int (iI k9))]) hx hb dX0_were_49 hl (by decide) rfl (fun ls hl => ?_)
        refine lv_lconst (v := lI 0) hx hb dX0_were_51 (by decide) ?_
        refine lv_lstore (lv' := [(9, .long (lI 0)), (8, .int (iI w8)), (7, .int (iI p9)), (0, .ref (b 0)), (1, .int (iI t)), (2, .int (iI i)), (3, .int (iI j)), (4, .int (iI x)), (5, .int (iI y)), (6, .int (iI k9))]) hx hb dX0_were_52 hl (by decide) rfl (fun ls hl => ?_)
        refine g_iconst hx hb dX0_were_54 ?_
        refine lv_istore (lv' := [(11, .int (iI 0)), (9, .long (lI 0)), (8, .int (iI w8)), (7, .int (iI p9)), (0, .ref (b 0)), (1, .int (iI t)), (2, .int (iI i)), (3, .int (iI j)), (4, .int (iI x)), (5, .int (iI y)), (6, .int (iI k9))]) hx hb dX0_were_55 hl (by decide) rfl (fun ls hl => ?_)
        have loop_57 : ∀ (nF : Nat) (σL : gS) (v9 : Int) (set9 : Int64) (k : Nat) (z9 : Int) (UL : Nat → Int → Int), (31 - k : Nat) < nF → (gKeep (fun t => t = 1) σ σL) → (XW X σL b UL J R) → (okT (UL 20)) → (v9 = (k : Int)) → (k ≤ 31) → (set9 = werA (U 20) p9 x y k9 k) → (UL = va_up U 20 (iup (U 20) p9 z9)) → ∀ (H : Heap) (locs : List Loc) (ls : Array Slot), gSat X σL H → va_S (gA X) ss.heap H locs → lv_has ls 13 [(11, .int (iI v9)), (9, .long set9), (8, .int (iI w8)), (7, .int (iI p9)), (0, .ref (b 0)), (1, .int (iI t)), (2, .int (iI i)), (3, .int (iI j)), (4, .int (iI x)), (5, .int (iI y)), (6, .int (iI k9))] → W pp l ee (gR 5 0 0 118) ss mm args below meth cd H locs 0 0 Q (F0 mm 57 ls []) := by
          intro nF
          induction nF with
          | zero => intro σL v9 set9 k z9 UL hm; exact absurd hm (Nat.not_lt_zero _)
          | succ nF ih_57 =>
            intro σL v9 set9 k z9 UL hm hkL hXL hTL hvk hk31 hset hV2 H locs ls hG hS hl
            refine lv_iload hx hb dX0_were_57 (lv_at hl 0 rfl) ?_
            refine g_bipush hx hb dX0_were_59 (by decide) ?_
            refine g_icmp_ge (tgt := 108) hx hb dX0_were_61 (by decide) (by omega) (by omega) (fun cq9 => ?_) (fun cq9 => ?_)
            · refine lv_aload_n hx hb dX0_were_108 rfl (lv_at hl 4 rfl) ?_
              refine g_get (C := RX0) (T := TX0) (N := 20) (v := .ref (b 1)) hx hb hts hown hK hG hXL.c0 rfl in_X0 0 (by decide) q420 rfl rfl dX0_were_109 ?_
              refine g_getN (C := RX1) (T := TX1) (N := 4) (v := .ref (b 20)) hx hb hts hown hK hG hXL.c1 rfl in_X1 0 (by decide) q187 rfl rfl dX0_were_112 ?_
              refine lv_iload hx hb dX0_were_115 (lv_at hl 3 rfl) ?_
              refine lv_iload hx hb dX0_were_117 (lv_at hl 2 rfl) ?_
              refine g_iast hx hb hK hG hS hXL.c20 dX0_were_119 (by omega) (fun H locs hG hS => ?_)
              obtain ⟨U10, eU10⟩ : ∃ z : Nat → Int → Int, z = va_up UL 20 (iup (UL 20) p9 w8) := ⟨_, rfl⟩
              have u20_10 : U10 20 = (iup (UL 20) p9 w8) := by rw [eU10, va_up_self]
              have fU10 : ∀ j, j ≠ 20 → U10 j = UL j := fun j hj => by rw [eU10, va_up_ne _ _ hj]
              have hX10 : XW X (gup σL (b 20) (1, gI (X.2.1 0) 18 (iup (UL 20) p9 w8))) b U10 J R := by rw [eU10]; exact hXL.set 20 rfl (iup (UL 20) p9 w8)
              have hT10 : okT (U10 20) := by rw [u20_10]; exact okT_up hTL _ _ (by omega)
              have hkp10 : gKeep (fun t => t = 1) σ (gup σL (b 20) (1, gI (X.2.1 0) 18 (iup (UL 20) p9 w8))) := hkL.tr ((gKeep.up hXL.c20 rfl : gKeep (fun t => t = 1) σL (gup σL (b 20) (1, gI (X.2.1 0) 18 (iup (UL 20) p9 w8)))).mono (fun t (h : t = 1) => (by show t = 1; omega)))
              generalize (gup σL (b 20) (1, gI (X.2.1 0) 18 (iup (UL 20) p9 w8))) = σ10 at hG hX10 hkp10
              refine lv_goto (tgt := 140) hx hb dX0_were_120 (by decide) ?_
              refine lv_lload hx hb dX0_were_140 (lv_at hl 1 rfl) ?_
              exact g_lret hx hb hr hlocks hQ hG hS (Nat.zero_le _) (Nat.zero_le _) ⟨_, rfl, hkp10, (⟨U10, J, hX10, hT10, (⟨by rw [if_pos (by omega), hset, show k = 31 by omega, ep9, hrP], by rw [eU10, hV2, va_up_2, va_up_self]; exact va_up_id (iup_id (by omega)), rfl⟩)⟩)⟩ dX0_were_142
            · refine lv_aload_n hx hb dX0_were_64 rfl (lv_at hl 4 rfl) ?_
              refine g_get (C := RX0) (T := TX0) (N := 20) (v := .ref (b 1)) hx hb hts hown hK hG hXL.c0 rfl in_X0 0 (by decide) q420 rfl rfl dX0_were_65 ?_
              refine g_getN (C := RX1) (T := TX1) (N := 4) (v := .ref (b 20)) hx hb hts hown hK hG hXL.c1 rfl in_X1 0 (by decide) q187 rfl rfl dX0_were_68 ?_
              refine lv_iload hx hb dX0_were_71 (lv_at hl 3 rfl) ?_
              refine lv_iload hx hb dX0_were_73 (lv_at hl 0 rfl) ?_
              refine g_iast hx hb hK hG hS hXL.c20 dX0_were_75 (by omega) (fun H locs hG hS => ?_)
              obtain ⟨U11, eU11⟩ : ∃ z : Nat → Int → Int, z = va_up UL 20 (iup (UL 20) p9 v9) := ⟨_, rfl⟩
              have u20_11 : U11 20 = (iup (UL 20) p9 v9) := by rw [eU11, va_up_self]
              have fU11 : ∀ j, j ≠ 20 → U11 j = UL j := fun j hj => by rw [eU11, va_up_ne _ _ hj]
              have hX11 : XW X (gup σL (b 20) (1, gI (X.2.1 0) 18 (iup (UL 20) p9 v9))) b U11 J R := by rw [eU11]; exact hXL.set 20 rfl (iup (UL 20) p9 v9)
              have hT11 : okT (U11 20) := by rw [u20_11]; exact okT_up hTL _ _ (by omega)
              have hkp11 : gKeep (fun t => t = 1) σ (gup σL (b 20) (1, gI (X.2.1 0) 18 (iup (UL 20) p9 v9))) := hkL.tr ((gKeep.up hXL.c20 rfl : gKeep (fun t => t = 1) σL (gup σL (b 20) (1, gI (X.2.1 0) 18 (iup (UL 20) p9 v9)))).mono (fun t (h : t = 1) => (by show t = 1; omega)))
              generalize (gup σL (b 20) (1, gI (X.2.1 0) 18 (iup (UL 20) p9 v9))) = σ11 at hG hX11 hkp11
              have w0_11 : U11 20 = iup (U 20) p9 v9 := by rw [u20_11, hV2, va_up_self, iup_2]
              refine lv_lload hx hb dX0_were_76 (lv_at hl 1 rfl) ?_
              refine lv_aload_n hx hb dX0_were_78 rfl (lv_at hl 4 rfl) ?_
              refine lv_iload hx hb dX0_were_79 (lv_at hl 8 rfl) ?_
              refine lv_iload hx hb dX0_were_81 (lv_at hl 9 rfl) ?_
              refine g_callV (As := [.int (iI x), .int (iI y)]) (rest := [.long set9]) 2 hx hb hml hown hts hK hG hS hl.1 (mX0_keptAt l X σ11 b U11 J R hX11 hT11 x y (by omega) (by omega)) hX11.c0 rfl q606 q608 qs18 q69 q609 (by decide +kernel) rfl ⟨Nat.le_of_ble_eq_true rfl, Nat.le_of_ble_eq_true rfl⟩ ⟨Nat.le_of_ble_eq_true rfl, Nat.le_of_ble_eq_true rfl⟩ (Nat.le_of_ble_eq_true rfl) dX0_were_83 (kI (fun r12 σr12 H locs hp hG hS => ?_))
              obtain ⟨⟨hr12, kr12⟩, rfl⟩ := hp
              rw [w0_11] at hr12
              refine lv_iload hx hb dX0_were_86 (lv_at hl 10 rfl) ?_
              refine g_icmp_ne (tgt := 98) hx hb dX0_were_88 (by decide) (by omega) (by omega) (fun cq13 => ?_) (fun cq13 => ?_)
              · refine lv_lconst (v := lI 0) hx hb dX0_were_98 (by decide) ?_
                refine lv_lor hx hb dX0_were_99 ?_
                refine lv_lstore (lv' := [(9, .long (set9 ||| (lI 0))), (11, .int (iI v9)), (8, .int (iI w8)), (7, .int (iI p9)), (0, .ref (b 0)), (1, .int (iI t)), (2, .int (iI i)), (3, .int (iI j)), (4, .int (iI x)), (5, .int (iI y)), (6, .int (iI k9))]) hx hb dX0_were_100 hl (by decide) rfl (fun ls hl => ?_)
                refine g_iinc (lv' := [(11, .int (iI (v9 + 1))), (9, .long (set9 ||| (lI 0))), (8, .int (iI w8)), (7, .int (iI p9)), (0, .ref (b 0)), (1, .int (iI t)), (2, .int (iI i)), (3, .int (iI j)), (4, .int (iI x)), (5, .int (iI y)), (6, .int (iI k9))]) hx hb dX0_were_102 hl (k := 1) rfl (by decide) rfl (fun ls hl => ?_)
                refine lv_goto (tgt := 57) hx hb dX0_were_105 (by decide) ?_
                exact ih_57 σ11 (v9 + 1) (set9 ||| (lI 0)) (k + 1) v9 U11 (by omega) (hkp11) (hX11) (hT11) (by omega) (by omega) (by rw [hset, werA, ← hvk, ← hr12]; first | rw [if_pos (by assumption)] | rw [if_neg (by assumption)]) (by rw [eU11, hV2, va_up_2, va_up_self, iup_2])  _ _ _ hG hS (lv_sub hl [0, 1, 2, 3, 4, 5, 6, 7, 8, 9, 10] rfl)
              · refine lv_lconst (v := lI 1) hx hb dX0_were_91 (by decide) ?_
                refine lv_iload hx hb dX0_were_92 (lv_at hl 0 rfl) ?_
                refine lv_lshl (v := bitL v9) hx hb dX0_were_94 rfl ?_
                refine lv_goto (tgt := 99) hx hb dX0_were_95 (by decide) ?_
                refine lv_lor hx hb dX0_were_99 ?_
                refine lv_lstore (lv' := [(9, .long (set9 ||| (bitL v9))), (11, .int (iI v9)), (8, .int (iI w8)), (7, .int (iI p9)), (0, .ref (b 0)), (1, .int (iI t)), (2, .int (iI i)), (3, .int (iI j)), (4, .int (iI x)), (5, .int (iI y)), (6, .int (iI k9))]) hx hb dX0_were_100 hl (by decide) rfl (fun ls hl => ?_)
                refine g_iinc (lv' := [(11, .int (iI (v9 + 1))), (9, .long (set9 ||| (bitL v9))), (8, .int (iI w8)), (7, .int (iI p9)), (0, .ref (b 0)), (1, .int (iI t)), (2, .int (iI i)), (3, .int (iI j)), (4, .int (iI x)), (5, .int (iI y)), (6, .int (iI k9))]) hx hb dX0_were_102 hl (k := 1) rfl (by decide) rfl (fun ls hl => ?_)
                refine lv_goto (tgt := 57) hx hb dX0_were_105 (by decide) ?_
                exact ih_57 σ11 (v9 + 1) (set9 ||| (bitL v9)) (k + 1) v9 U11 (by omega) (hkp11) (hX11) (hT11) (by omega) (by omega) (by rw [hset, werA, ← hvk, ← hr12]; first | rw [if_pos (by assumption)] | rw [if_neg (by assumption)]) (by rw [eU11, hV2, va_up_2, va_up_self, iup_2])  _ _ _ hG hS (lv_sub hl [0, 1, 2, 3, 4, 5, 6, 7, 8, 9, 10] rfl)
        exact loop_57 _ σ 0 (lI 0) 0 (U 20 p9) U (Nat.lt_succ_self _) (hkp) (hX) (hT) (rfl) (by decide) (rfl) ((va_up_id (by funext q; unfold iup; split <;> simp [*])).symm)  _ _ _ hG hS (lv_sub hl [0, 1, 2, 3, 4, 5, 6, 7, 8, 9, 10] rfl)
      · refine g_ldc2 hx hb (-9223372036854775808) hown (hts _ q625) (by decide) dX0_were_27 ?_
        exact g_lret hx hb hr hlocks hQ hG hS (Nat.zero_le _) (Nat.zero_le _) ⟨_, rfl, hkp, (⟨U, J, hX, hT, (⟨by rw [if_neg (by omega)]; rfl, rfl, rfl⟩)⟩)⟩ dX0_were_30

