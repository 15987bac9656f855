theorem okT_cp {T S : Int → Int} (h : okT T) (hs : okT S) : okT (cpZ 18 S T) := by
  intro q h1 h2
  unfold cpZ
  rw [if_pos (by omega)]
  exact hs q h1 h2

set_option maxHeartbeats 8000000 in
theorem mX1_becomes_i (l : Launch) (X : gX) (σ : gS) (b : Nat → Nat) (U : Nat → Int → Int) (J : Nat → Int) (R : Int → Option Nat) (hX : XW X σ b U J R) (hT : okT (U 20)) (n3 : Nat) (cd3 : Nat → Int) (hS3 : SetW X σ 3 (b 24) n3 cd3) (tg sa nn : Nat) (ce : Nat → Int) (hST : SetW X σ tg sa nn ce)   (h0 : nn ≤ 12) (h1 : tg ≠ 3) (h2 : tg = 2 ∨ tg = 3 ∨ tg = 6) : gMet l X yX1_becomes cX1_becomes 4 none 8 14 77 179 σ [.ref (b 2), .ref sa] (oV (fun σ' => gKeep (fun t => t = 3 ∨ t = tg ∨ t = 15) σ σ' ∧ (SetW X σ' tg sa nn ce ∧ ∃ m9 ce9, SetW X σ' 3 (b 24) m9 ce9 ∧ m9 ≤ nn ∧ ∀ v, inQ m9 ce9 v ↔ inQ nn ce v))) := by
  refine gMet.of (by decide) (Nat.le_of_ble_eq_true rfl) ?_
  intro pp ee ss mm args below meth cd Q H locs ls hargs hx hb hr hlocks hml hown hnm hts hK hG hS hQ hl
  have hown : ss.vm.findClass RX1 = some mm.cls := hown
  have hl : lv_has ls 4 [(0, .ref (b 2)), (1, .ref sa)] := hl
  have hkp : gKeep (fun t => t = 3 ∨ t = tg ∨ t = 15) σ σ := gKeep.rf
  refine lv_aload_n hx hb dX1_becomes_0 rfl (lv_at hl 0 rfl) ?_
  refine g_get (C := RX1) (T := TX1) (N := 4) (v := .ref (b 24)) hx hb hts hown hK hG hX.c2 rfl in_X1 1 (by decide) q188 rfl rfl dX1_becomes_1 ?_
  obtain ⟨mq1, hq1⟩ := hS3.hsa
  obtain ⟨mq3, hq3⟩ := hS3.hsa
  refine g_callV (As := []) (rest := []) 0 hx hb hml hown hts hK hG hS hl.1 (mS_clear hS3 cd3) hq3 rfl q1581 q1582 q1583 q73 q1584 (by decide +kernel) rfl ⟨Nat.le_of_ble_eq_true rfl, Nat.le_of_ble_eq_true rfl⟩ ⟨Nat.le_of_ble_eq_true rfl, Nat.le_of_ble_eq_true rfl⟩ (Nat.le_of_ble_eq_true rfl) dX1_becomes_4 (kV (fun σr2 H locs hp hG hS => ?_))
  obtain ⟨kq4, hS_4⟩ := hp
  have hX_5 : XW X σr2 b U J R := hX.keep kq4 (by first | decide | omega | (intro q9; dsimp only at q9; omega))
  have hT_5 : SetW X σr2 tg sa nn ce := hST.keep kq4 (by first | decide | omega | (intro q9; dsimp only at q9; omega)) (by first | decide | omega | (intro q9; dsimp only at q9; omega)) (by first | decide | omega | (intro q9; dsimp only at q9; omega)) (by first | decide | omega | (intro q9; dsimp only at q9; omega))
  have hkp5 : gKeep (fun t => t = 3 ∨ t = tg ∨ t = 15) σ σr2 := hkp.tr (kq4.mono (fun t (h : t = 3) => (by show t = 3 ∨ t = tg ∨ t = 15; omega)))
  refine lv_aload_n hx hb dX1_becomes_7 rfl (lv_at hl 1 rfl) ?_
  obtain ⟨mq6, hq6⟩ := hT_5.hsa
  obtain ⟨mq8, hq8⟩ := hT_5.hsa
  refine g_callV (As := []) (rest := []) 0 hx hb hml hown hts hK hG hS hl.1 (mS_iterator hT_5) hq8 rfl q1593 q1317 q2346 q73 q1319 (by decide +kernel) rfl ⟨Nat.le_of_ble_eq_true rfl, Nat.le_of_ble_eq_true rfl⟩ ⟨Nat.le_of_ble_eq_true rfl, Nat.le_of_ble_eq_true rfl⟩ (Nat.le_of_ble_eq_true rfl) dX1_becomes_8 (kA (fun r7 σr7 H locs hp hG hS => ?_))
  obtain ⟨it_9, rfl, hI_9, kq9⟩ := hp
  have hX_10 : XW X σr7 b U J R := hX_5.keep kq9 (by first | decide | omega | (intro q9; dsimp only at q9; omega))
  have hS3_10 : SetW X σr7 3 (b 24) 0 cd3 := hS_4.keep kq9 (by first | decide | omega | (intro q9; dsimp only at q9; omega)) (by first | decide | omega | (intro q9; dsimp only at q9; omega)) (by first | decide | omega | (intro q9; dsimp only at q9; omega)) (by first | decide | omega | (intro q9; dsimp only at q9; omega))
  have hkp10 : gKeep (fun t => t = 3 ∨ t = tg ∨ t = 15) σ σr7 := hkp5.tr (kq9.mono (fun t (h : t = tg) => (by show t = 3 ∨ t = tg ∨ t = 15; omega)))
  refine lv_astore_n (lv' := [(2, .ref it_9), (0, .ref (b 2)), (1, .ref sa)]) hx hb dX1_becomes_11 rfl hl (by decide) rfl (fun ls hl => ?_)
  have loop_12 : ∀ (nF : Nat) (σL : gS) (k9 : Nat) (m9 : Nat) (ce9 : Nat → Int) (cN : Nat) (sN : Nat), (nn - k9 : Nat) < nF → (gKeep (fun t => t = 3 ∨ t = tg ∨ t = 15) σ σL) → (XW X σL b U J R) → (SetI X σL tg sa nn ce it_9 k9) → (SetW X σL 3 (b 24) m9 ce9) → (k9 ≤ nn) → (m9 ≤ k9) → (cN ≤ 2 + 1 * k9 ∧ sN ≤ 5 + 6 * k9) → (∀ v, inQ m9 ce9 v ↔ inQ k9 ce v) → ∀ (H : Heap) (locs : List Loc) (ls : Array Slot), gSat X σL H → va_S (gA X) ss.heap H locs → lv_has ls 4 [(2, .ref it_9), (0, .ref (b 2)), (1, .ref sa)] → W pp l ee (gR 8 14 77 179) ss mm args below meth cd H locs cN sN Q (F0 mm 12 ls []) := by
    intro nF
    induction nF with
    | zero => intro σL k9 m9 ce9 cN sN hm; exact absurd hm (Nat.not_lt_zero _)
    | succ nF ih_12 =>
      intro σL k9 m9 ce9 cN sN hm hkL hXL hIL hS3L hi12_4 hi12_5 hi12_6 hin9 H locs ls hG hS hl
      refine lv_aload_n hx hb dX1_becomes_12 rfl (lv_at hl 0 rfl) ?_
      obtain ⟨fs11, hq11⟩ := hIL.it
      refine g_callF (As := []) (rest := []) 0 hx hb hml hown hts hK hG hS hl.1 (mS_hasNext hIL) hq11 rfl q1595 q1359 q1355 q110 q1357 q1351 q1350 q1356 q1360 q1358 (by decide +kernel) rfl ⟨Nat.le_of_ble_eq_true rfl, Nat.le_of_ble_eq_true rfl⟩ ⟨by show _ ≤ 14; omega, by show _ ≤ 77; omega⟩ (Nat.le_of_ble_eq_true rfl) dX1_becomes_13 (kI (fun r12 σr12 H locs hp hG hS => ?_))
      obtain ⟨hr12, rfl⟩ := hp
      have kr12 : r12 = 0 ∨ r12 = 1 := by rcases hr12 with ⟨h, -⟩ | ⟨h, -⟩ <;> omega
      refine g_if_eq (tgt := 43) hx hb dX1_becomes_18 (by decide) (by omega) (fun cq13 => ?_) (fun cq13 => ?_)
      · have hk9 : k9 = nn := by rcases hr12 with ⟨q, -⟩ | ⟨-, q⟩ <;> omega
        rw [hk9] at hin9
        exact g_vret hx hb hr hlocks hQ hG hS (by show _ ≤ 14; omega) (by show _ ≤ 77; omega) ⟨rfl, hkL, (⟨hIL.W, m9, ce9, hS3L, by omega, hin9⟩)⟩ dX1_becomes_43
      · refine lv_aload_n hx hb dX1_becomes_21 rfl (lv_at hl 0 rfl) ?_
        obtain ⟨fs14, hq14⟩ := hIL.it
        have hlt15 : k9 < nn := by rcases hr12 with ⟨-, h⟩ | ⟨h, -⟩; exact h; omega
        refine g_callF (As := []) (rest := []) 0 hx hb hml hown hts hK hG hS hl.1 (mS_next hIL hlt15) hq14 rfl q1597 q1383 q1385 q112 q1387 q1364 q1363 q1386 q1384 q1358 (by decide +kernel) rfl ⟨Nat.le_of_ble_eq_true rfl, Nat.le_of_ble_eq_true rfl⟩ ⟨by show _ ≤ 14; omega, by show _ ≤ 77; omega⟩ (Nat.le_of_ble_eq_true rfl) dX1_becomes_22 (kA (fun r16 σr16 H locs hp hG hS => ?_))
        obtain ⟨κ17, rfl, hκ17, hI_17, kq17⟩ := hp
        have hX_18 : XW X σr16 b U J R := hXL.keep kq17 (by first | decide | omega | (intro q9; dsimp only at q9; omega))
        have hS3_18 : SetW X σr16 3 (b 24) m9 ce9 := hS3L.keep kq17 (by first | decide | omega | (intro q9; dsimp only at q9; omega)) (by first | decide | omega | (intro q9; dsimp only at q9; omega)) (by first | decide | omega | (intro q9; dsimp only at q9; omega)) (by first | decide | omega | (intro q9; dsimp only at q9; omega))
        have hkp18 : gKeep (fun t => t = 3 ∨ t = tg ∨ t = 15) σ σr16 := hkL.tr (kq17.mono (fun t (h : t = 15) => (by show t = 3 ∨ t = tg ∨ t = 15; omega)))
        have hrg17 := hI_17.W.rng hlt15
        refine g_castS hx hb hts hown hK hG hκ17 rfl q1598 dX1_becomes_27 ?_
        refine lv_astore_n (lv' := [(3, .ref κ17), (2, .ref it_9), (0, .ref (b 2)), (1, .ref sa)]) hx hb dX1_becomes_30 rfl hl (by decide) rfl (fun ls hl => ?_)
        refine lv_aload_n hx hb dX1_becomes_31 rfl (lv_at hl 2 rfl) ?_
        refine g_get (C := RX1) (T := TX1) (N := 4) (v := .ref (b 24)) hx hb hts hown hK hG hX_18.c2 rfl in_X1 1 (by decide) q188 rfl rfl dX1_becomes_32 ?_
        refine lv_aload_n hx hb dX1_becomes_35 rfl (lv_at hl 0 rfl) ?_
        obtain ⟨mq19, hq19⟩ := hS3_18.hsa
        obtain ⟨mq21, hq21⟩ := hS3_18.hsa
        refine g_callV (As := [.ref κ17]) (rest := []) 1 hx hb hml hown hts hK hG hS hl.1 (mT_add hS3_18 (c9 := (ce k9)) hκ17 (by omega)) hq21 rfl q1599 q1519 q1520 q73 q1521 (by decide +kernel) rfl ⟨Nat.le_of_ble_eq_true rfl, Nat.le_of_ble_eq_true rfl⟩ ⟨by show _ ≤ 14; omega, by show _ ≤ 77; omega⟩ (Nat.le_of_ble_eq_true rfl) dX1_becomes_36 (kI (fun r20 σr20 H locs hp hG hS => ?_))
        obtain ⟨kq22, n_22, cd_22, hS_22, hin22, hnn22⟩ := hp
        have hX_23 : XW X σr20 b U J R := hX_18.keep kq22 (by first | decide | omega | (intro q9; dsimp only at q9; omega))
        have hI_23 : SetI X σr20 tg sa nn ce it_9 (k9 + 1) := hI_17.keep kq22 (by first | decide | omega | (intro q9; dsimp only at q9; omega)) ⟨(by first | decide | omega | (intro q9; dsimp only at q9; omega)), (by first | decide | omega | (intro q9; dsimp only at q9; omega)), (by first | decide | omega | (intro q9; dsimp only at q9; omega)), (by first | decide | omega | (intro q9; dsimp only at q9; omega))⟩
        have hLc23_0 := kq22 _ _ _ hκ17 (by first | decide | omega | (intro q9; dsimp only at q9; omega))
        have hkp23 : gKeep (fun t => t = 3 ∨ t = tg ∨ t = 15) σ σr20 := hkp18.tr (kq22.mono (fun t (h : t = 3) => (by show t = 3 ∨ t = tg ∨ t = 15; omega)))
        refine lv_pop hx hb dX1_becomes_39 rfl ?_
        refine lv_goto (tgt := 12) hx hb dX1_becomes_40 (by decide) ?_
        exact ih_12 σr20 (k9 + 1) n_22 cd_22 (cN + 1) (sN + 6) (by omega) (hkp23) (hX_23) (hI_23) (hS_22) (by omega) (by rcases hnn22 with ⟨q, -⟩ | ⟨q, -⟩ <;> omega) (⟨by omega, by omega⟩) (bcQ hin9 hin22)  _ _ _ hG hS (lv_sub hl [1, 2, 3] rfl)
  exact loop_12 _ σr7 0 0 cd3 2 5 (Nat.lt_succ_self _) (hkp10) (hX_10) (hI_9) (hS3_10) (Nat.zero_le _) (Nat.le_refl _) (⟨Nat.le_of_ble_eq_true rfl, Nat.le_of_ble_eq_true rfl⟩) (fun v => ⟨fun ⟨i, h, _⟩ => absurd h (Nat.not_lt_zero _), fun ⟨i, h, _⟩ => absurd h (Nat.not_lt_zero _)⟩)  _ _ _ hG hS (lv_sub hl [0, 1, 2] rfl)

set_option maxHeartbeats 8000000 in
theorem mX1_like_i (l : Launch) (X : gX) (σ : gS) (b : Nat → Nat) (U : Nat → Int → Int) (J : Nat → Int) (R : Int → Option Nat) (hX : XW X σ b U J R) (hT : okT (U 20)) (n2 : Nat) (cd2 : Nat → Int) (hS2 : SetW X σ 2 (b 21) n2 cd2) (n3 : Nat) (cd3 : Nat → Int) (hS3 : SetW X σ 3 (b 24) n3 cd3)   (h0 : n2 ≤ 12) (h1 : n3 ≤ 12) (h2 : okT (U 23)) : gMet l X yX1_like cX1_like 2 none 9 14 77 202 σ [.ref (b 2), .ref (b 1)] (oV (fun σ' => gKeep (fun t => t = 1 ∨ t = 2 ∨ t = 3 ∨ t = 15) σ σ' ∧ (∃ (U' : Nat → Int → Int) (J' : Nat → Int), XW X σ' b U' J' R ∧ okT (U' 20) ∧ (SetW X σ' 2 (b 21) n2 cd2 ∧ ∃ m ce, SetW X σ' 3 (b 24) m ce ∧ m ≤ n2 ∧ (∀ v, inQ m ce v ↔ inQ n2 cd2 v) ∧ U' 23 = cpZ 18 (U 20) (U 23) ∧ U' 25 = cpZ 16 (U 22) (U 25) ∧ (∀ q, q ≠ 23 → q ≠ 25 → U' q = U q) ∧ J' = va_up J 31 (J 30))))) := by
  refine gMet.of (by decide) (Nat.le_of_ble_eq_true rfl) ?_
  intro pp ee ss mm args below meth cd Q H locs ls hargs hx hb hr hlocks hml hown hnm hts hK hG hS hQ hl
  have hown : ss.vm.findClass RX1 = some mm.cls := hown
  have hl : lv_has ls 2 [(0, .ref (b 2)), (1, .ref (b 1))] := hl
  have hkp : gKeep (fun t => t = 1 ∨ t = 2 ∨ t = 3 ∨ t = 15) σ σ := gKeep.rf
  have hT3 := h2
  refine lv_aload_n hx hb dX1_like_0 rfl (lv_at hl 1 rfl) ?_
  refine g_get (C := RX1) (T := TX1) (N := 4) (v := .ref (b 20)) hx hb hts hown hK hG hX.c1 rfl in_X1 0 (by decide) q186 rfl rfl dX1_like_1 ?_
  refine g_iconst hx hb dX1_like_4 ?_
  refine lv_aload_n hx hb dX1_like_5 rfl (lv_at hl 0 rfl) ?_
  refine g_get (C := RX1) (T := TX1) (N := 4) (v := .ref (b 23)) hx hb hts hown hK hG hX.c2 rfl in_X1 0 (by decide) q186 rfl rfl dX1_like_6 ?_
  refine g_iconst hx hb dX1_like_9 ?_
  refine lv_aload_n hx hb dX1_like_10 rfl (lv_at hl 0 rfl) ?_
  refine g_get (C := RX1) (T := TX1) (N := 4) (v := .ref (b 23)) hx hb hts hown hK hG hX.c2 rfl in_X1 0 (by decide) q186 rfl rfl dX1_like_11 ?_
  refine g_alen (n := 18) hx hb 0 hK hG hX.c23 rfl rfl dX1_like_14 ?_
  refine g_rw (b := 18) rfl ?_
  refine g_copy (N := 18) hx hb hml hown hts hK hG hS hl.1 q1937 q586 q585 q89 hX.c20 hX.c23 (by decide) (by decide) (by decide) (Nat.le_of_ble_eq_true rfl) (Nat.le_of_ble_eq_true rfl) dX1_like_15 (fun H locs hG hS => ?_)
  obtain ⟨U1, eU1⟩ : ∃ z : Nat → Int → Int, z = va_up U 23 (cpZ 18 (U 20) (U 23)) := ⟨_, rfl⟩
  have u23_1 : U1 23 = (cpZ 18 (U 20) (U 23)) := by rw [eU1, va_up_self]
  have fU1 : ∀ j, j ≠ 23 → U1 j = U j := fun j hj => by rw [eU1, va_up_ne _ _ hj]
  have hX1 : XW X (gup σ (b 23) (1, gI (X.2.1 0) 18 (cpZ 18 (U 20) (U 23)))) b U1 J R := by rw [eU1]; exact hX.set 23 rfl (cpZ 18 (U 20) (U 23))
  have hT1 : okT (U1 20) := by rw [fU1 20 (by decide)]; exact hT
  have hS2_1 : SetW X (gup σ (b 23) (1, gI (X.2.1 0) 18 (cpZ 18 (U 20) (U 23)))) 2 (b 21) n2 cd2 := hS2.keep (gKeep.up hX.c23 rfl : gKeep (fun t => t = 1) σ (gup σ (b 23) (1, gI (X.2.1 0) 18 (cpZ 18 (U 20) (U 23))))) (by first | decide | omega | (intro q9; dsimp only at q9; omega)) (by first | decide | omega | (intro q9; dsimp only at q9; omega)) (by first | decide | omega | (intro q9; dsimp only at q9; omega)) (by first | decide | omega | (intro q9; dsimp only at q9; omega))
  have hS3_1 : SetW X (gup σ (b 23) (1, gI (X.2.1 0) 18 (cpZ 18 (U 20) (U 23)))) 3 (b 24) n3 cd3 := hS3.keep (gKeep.up hX.c23 rfl : gKeep (fun t => t = 1) σ (gup σ (b 23) (1, gI (X.2.1 0) 18 (cpZ 18 (U 20) (U 23))))) (by first | decide | omega | (intro q9; dsimp only at q9; omega)) (by first | decide | omega | (intro q9; dsimp only at q9; omega)) (by first | decide | omega | (intro q9; dsimp only at q9; omega)) (by first | decide | omega | (intro q9; dsimp only at q9; omega))
  have hkp1 : gKeep (fun t => t = 1 ∨ t = 2 ∨ t = 3 ∨ t = 15) σ (gup σ (b 23) (1, gI (X.2.1 0) 18 (cpZ 18 (U 20) (U 23)))) := hkp.tr ((gKeep.up hX.c23 rfl : gKeep (fun t => t = 1) σ (gup σ (b 23) (1, gI (X.2.1 0) 18 (cpZ 18 (U 20) (U 23))))).mono (fun t (h : t = 1) => (by show t = 1 ∨ t = 2 ∨ t = 3 ∨ t = 15; omega)))
  generalize (gup σ (b 23) (1, gI (X.2.1 0) 18 (cpZ 18 (U 20) (U 23)))) = σ1 at hG hX1 hS2_1 hS3_1 hkp1
  refine lv_aload_n hx hb dX1_like_18 rfl (lv_at hl 0 rfl) ?_
  refine lv_aload_n hx hb dX1_like_19 rfl (lv_at hl 1 rfl) ?_
  refine g_get (C := RX1) (T := TX1) (N := 4) (v := .ref (b 21)) hx hb hts hown hK hG hX1.c1 rfl in_X1 1 (by decide) q188 rfl rfl dX1_like_20 ?_
  refine g_callV (As := [.ref (b 21)]) (rest := []) 1 hx hb hml hown hts hK hG hS hl.1 (mX1_becomes_i l X σ1 b U1 J R hX1 hT1 n3 cd3 hS3_1 2 (b 21) n2 cd2 hS2_1 (by first | assumption | decide | omega) (by first | assumption | decide | omega) (by first | assumption | decide | omega)) hX1.c2 rfl q1938 q1578 q1579 q70 q1580 (by decide +kernel) rfl ⟨Nat.le_of_ble_eq_true rfl, Nat.le_of_ble_eq_true rfl⟩ ⟨Nat.le_of_ble_eq_true rfl, Nat.le_of_ble_eq_true rfl⟩ (Nat.le_of_ble_eq_true rfl) dX1_like_23 (kV (fun σr2 H locs hp hG hS => ?_))
  obtain ⟨kq3, hrel3⟩ := hp
  have hX_4 : XW X σr2 b U1 J R := hX1.keep kq3 (by first | decide | omega | (intro q9; dsimp only at q9; omega))
  have hkp4 : gKeep (fun t => t = 1 ∨ t = 2 ∨ t = 3 ∨ t = 15) σ σr2 := hkp1.tr (kq3.mono (fun t (h : t = 3 ∨ t = 2 ∨ t = 15) => (by show t = 1 ∨ t = 2 ∨ t = 3 ∨ t = 15; omega)))
  obtain ⟨hT_3, m3, ce3, hD_3, hm3, hin3⟩ := hrel3
  refine lv_aload_n hx hb dX1_like_26 rfl (lv_at hl 1 rfl) ?_
  refine g_get (C := RX1) (T := TX1) (N := 4) (v := .ref (b 22)) hx hb hts hown hK hG hX_4.c1 rfl in_X1 2 (by decide) q190 rfl rfl dX1_like_27 ?_
  refine g_iconst hx hb dX1_like_30 ?_
  refine lv_aload_n hx hb dX1_like_31 rfl (lv_at hl 0 rfl) ?_
  refine g_get (C := RX1) (T := TX1) (N := 4) (v := .ref (b 25)) hx hb hts hown hK hG hX_4.c2 rfl in_X1 2 (by decide) q190 rfl rfl dX1_like_32 ?_
  refine g_iconst hx hb dX1_like_35 ?_
  refine lv_aload_n hx hb dX1_like_36 rfl (lv_at hl 0 rfl) ?_
  refine g_get (C := RX1) (T := TX1) (N := 4) (v := .ref (b 25)) hx hb hts hown hK hG hX_4.c2 rfl in_X1 2 (by decide) q190 rfl rfl dX1_like_37 ?_
  refine g_alen (n := 16) hx hb 0 hK hG hX_4.c25 rfl rfl dX1_like_40 ?_
  refine g_rw (b := 16) rfl ?_
  refine g_copy (N := 16) hx hb hml hown hts hK hG hS hl.1 q1937 q586 q585 q89 hX_4.c22 hX_4.c25 (by decide) (by decide) (by decide) (Nat.le_of_ble_eq_true rfl) (Nat.le_of_ble_eq_true rfl) dX1_like_41 (fun H locs hG hS => ?_)
  obtain ⟨U5, eU5⟩ : ∃ z : Nat → Int → Int, z = va_up U1 25 (cpZ 16 (U1 22) (U1 25)) := ⟨_, rfl⟩
  have u25_5 : U5 25 = (cpZ 16 (U1 22) (U1 25)) := by rw [eU5, va_up_self]
  have fU5 : ∀ j, j ≠ 25 → U5 j = U1 j := fun j hj => by rw [eU5, va_up_ne _ _ hj]
  have hX5 : XW X (gup σr2 (b 25) (1, gI (X.2.1 0) 16 (cpZ 16 (U1 22) (U1 25)))) b U5 J R := by rw [eU5]; exact hX_4.set 25 rfl (cpZ 16 (U1 22) (U1 25))
  have hT5 : okT (U5 20) := by rw [fU5 20 (by decide)]; exact hT1
  have hS2_5 : SetW X (gup σr2 (b 25) (1, gI (X.2.1 0) 16 (cpZ 16 (U1 22) (U1 25)))) 2 (b 21) n2 cd2 := hT_3.keep (gKeep.up hX_4.c25 rfl : gKeep (fun t => t = 1) σr2 (gup σr2 (b 25) (1, gI (X.2.1 0) 16 (cpZ 16 (U1 22) (U1 25))))) (by first | decide | omega | (intro q9; dsimp only at q9; omega)) (by first | decide | omega | (intro q9; dsimp only at q9; omega)) (by first | decide | omega | (intro q9; dsimp only at q9; omega)) (by first | decide | omega | (intro q9; dsimp only at q9; omega))
  have hS3_5 : SetW X (gup σr2 (b 25) (1, gI (X.2.1 0) 16 (cpZ 16 (U1 22) (U1 25)))) 3 (b 24) m3 ce3 := hD_3.keep (gKeep.up hX_4.c25 rfl : gKeep (fun t => t = 1) σr2 (gup σr2 (b 25) (1, gI (X.2.1 0) 16 (cpZ 16 (U1 22) (U1 25))))) (by first | decide | omega | (intro q9; dsimp only at q9; omega)) (by first | decide | omega | (intro q9; dsimp only at q9; omega)) (by first | decide | omega | (intro q9; dsimp only at q9; omega)) (by first | decide | omega | (intro q9; dsimp only at q9; omega))
  have hkp5 : gKeep (fun t => t = 1 ∨ t = 2 ∨ t = 3 ∨ t = 15) σ (gup σr2 (b 25) (1, gI (X.2.1 0) 16 (cpZ 16 (U1 22) (U1 25)))) := hkp4.tr ((gKeep.up hX_4.c25 rfl : gKeep (fun t => t = 1) σr2 (gup σr2 (b 25) (1, gI (X.2.1 0) 16 (cpZ 16 (U1 22) (U1 25))))).mono (fun t (h : t = 1) => (by show t = 1 ∨ t = 2 ∨ t = 3 ∨ t = 15; omega)))
  generalize (gup σr2 (b 25) (1, gI (X.2.1 0) 16 (cpZ 16 (U1 22) (U1 25)))) = σ5 at hG hX5 hS2_5 hS3_5 hkp5
  refine lv_aload_n hx hb dX1_like_44 rfl (lv_at hl 0 rfl) ?_
  refine lv_aload_n hx hb dX1_like_45 rfl (lv_at hl 1 rfl) ?_
  refine g_get (C := RX1) (T := TX1) (N := 4) (v := .int (iI (J 30))) hx hb hts hown hK hG hX5.c1 rfl in_X1 3 (by decide) q192 rfl rfl dX1_like_46 ?_
  refine g_put (C := RX1) (T := TX1) (N := 4) (ty0 := tyX1) (v := .int (iI (J 30))) hx hb hts hown hK hG hS hX5.c2 rfl in_X1 tyX1_ok nmX1 3 (by decide) q192 rfl (by decide) rfl rfl (Nat.le_of_ble_eq_true rfl) dX1_like_49 (fun H locs hG hS => ?_)
  obtain ⟨J6, eJ6⟩ : ∃ z : Nat → Int, z = va_up J 31 (J 30) := ⟨_, rfl⟩
  have j31_6 : J6 31 = (J 30) := by rw [eJ6, va_up_self]
  have fJ6 : ∀ j, j ≠ 31 → J6 j = J j := fun j hj => by rw [eJ6, va_up_ne _ _ hj]
  have hX6 : XW X (gup σ5 (b 2) (1, gO 1 ([.ref (b 23), .ref (b 24), .ref (b 25), .int (iI (J 31))].set 3 (.int (iI (J 30)))))) b U5 J6 R := by rw [eJ6]; exact hX5.num 31 rfl (J 30)
  have hS2_6 : SetW X (gup σ5 (b 2) (1, gO 1 ([.ref (b 23), .ref (b 24), .ref (b 25), .int (iI (J 31))].set 3 (.int (iI (J 30)))))) 2 (b 21) n2 cd2 := hS2_5.keep (gKeep.up hX5.c2 rfl : gKeep (fun t => t = 1) σ5 (gup σ5 (b 2) (1, gO 1 ([.ref (b 23), .ref (b 24), .ref (b 25), .int (iI (J 31))].set 3 (.int (iI (J 30))))))) (by first | decide | omega | (intro q9; dsimp only at q9; omega)) (by first | decide | omega | (intro q9; dsimp only at q9; omega)) (by first | decide | omega | (intro q9; dsimp only at q9; omega)) (by first | decide | omega | (intro q9; dsimp only at q9; omega))
  have hS3_6 : SetW X (gup σ5 (b 2) (1, gO 1 ([.ref (b 23), .ref (b 24), .ref (b 25), .int (iI (J 31))].set 3 (.int (iI (J 30)))))) 3 (b 24) m3 ce3 := hS3_5.keep (gKeep.up hX5.c2 rfl : gKeep (fun t => t = 1) σ5 (gup σ5 (b 2) (1, gO 1 ([.ref (b 23), .ref (b 24), .ref (b 25), .int (iI (J 31))].set 3 (.int (iI (J 30))))))) (by first | decide | omega | (intro q9; dsimp only at q9; omega)) (by first | decide | omega | (intro q9; dsimp only at q9; omega)) (by first | decide | omega | (intro q9; dsimp only at q9; omega)) (by first | decide | omega | (intro q9; dsimp only at q9; omega))
  have hkp6 : gKeep (fun t => t = 1 ∨ t = 2 ∨ t = 3 ∨ t = 15) σ (gup σ5 (b 2) (1, gO 1 ([.ref (b 23), .ref (b 24), .ref (b 25), .int (iI (J 31))].set 3 (.int (iI (J 30)))))) := hkp5.tr ((gKeep.up hX5.c2 rfl : gKeep (fun t => t = 1) σ5 (gup σ5 (b 2) (1, gO 1 ([.ref (b 23), .ref (b 24), .ref (b 25), .int (iI (J 31))].set 3 (.int (iI (J 30))))))).mono (fun t (h : t = 1) => (by show t = 1 ∨ t = 2 ∨ t = 3 ∨ t = 15; omega)))
  generalize (gup σ5 (b 2) (1, gO 1 ([.ref (b 23), .ref (b 24), .ref (b 25), .int (iI (J 31))].set 3 (.int (iI (J 30)))))) = σ6 at hG hX6 hS2_6 hS3_6 hkp6
  exact g_vret hx hb hr hlocks hQ hG hS (Nat.le_of_ble_eq_true rfl) (Nat.le_of_ble_eq_true rfl) ⟨rfl, hkp6, (⟨U5, J6, hX6, hT5, (⟨hS2_6, m3, ce3, hS3_6, hm3, hin3, by rw [fU5 23 (by decide), u23_1], by rw [u25_5, fU1 25 (by decide), fU1 22 (by decide)], fun q h1 h2 => (fU5 q h2).trans (fU1 q h1), eJ6⟩)⟩)⟩ dX1_like_52

set_option maxHeartbeats 8000000 in
theorem mX1_like_w (l : Launch) (X : gX) (σ : gS) (b : Nat → Nat) (U : Nat → Int → Int) (J : Nat → Int) (R : Int → Option Nat) (hX : XW X σ b U J R) (hT : okT (U 20)) (n2 : Nat) (cd2 : Nat → Int) (hS2 : SetW X σ 2 (b 21) n2 cd2) (n3 : Nat) (cd3 : Nat → Int) (hS3 : SetW X σ 3 (b 24) n3 cd3)   (h0 : n2 ≤ 12) (h1 : n3 ≤ 12) (h2 : okT (U 23)) : gMet l X yX1_like cX1_like 2 none 9 14 77 202 σ [.ref (b 1), .ref (b 2)] (oV (fun σ' => gKeep (fun t => t = 1 ∨ t = 2 ∨ t = 3 ∨ t = 15) σ σ' ∧ (∃ (U' : Nat → Int → Int) (J' : Nat → Int), XW X σ' b U' J' R ∧ okT (U' 20) ∧ (SetW X σ' 3 (b 24) n3 cd3 ∧ ∃ m ce, SetW X σ' 2 (b 21) m ce ∧ m ≤ n3 ∧ (∀ v, inQ m ce v ↔ inQ n3 cd3 v) ∧ U' 20 = cpZ 18 (U 23) (U 20) ∧ U' 22 = cpZ 16 (U 25) (U 22) ∧ (∀ q, q ≠ 20 → q ≠ 22 → U' q = U q) ∧ J' = va_up J 30 (J 31))))) := by
  refine gMet.of (by decide) (Nat.le_of_ble_eq_true rfl) ?_
  intro pp ee ss mm args below meth cd Q H locs ls hargs hx hb hr hlocks hml hown hnm hts hK hG hS hQ hl
  have hown : ss.vm.findClass RX1 = some mm.cls := hown
  have hl : lv_has ls 2 [(0, .ref (b 1)), (1, .ref (b 2))] := hl
  have hkp : gKeep (fun t => t = 1 ∨ t = 2 ∨ t = 3 ∨ t = 15) σ σ := gKeep.rf
  have hT3 := h2
  refine lv_aload_n hx hb dX1_like_0 rfl (lv_at hl 1 rfl) ?_
  refine g_get (C := RX1) (T := TX1) (N := 4) (v := .ref (b 23)) hx hb hts hown hK hG hX.c2 rfl in_X1 0 (by decide) q186 rfl rfl dX1_like_1 ?_
  refine g_iconst hx hb dX1_like_4 ?_
  refine lv_aload_n hx hb dX1_like_5 rfl (lv_at hl 0 rfl) ?_
  refine g_get (C := RX1) (T := TX1) (N := 4) (v := .ref (b 20)) hx hb hts hown hK hG hX.c1 rfl in_X1 0 (by decide) q186 rfl rfl dX1_like_6 ?_
  refine g_iconst hx hb dX1_like_9 ?_
  refine lv_aload_n hx hb dX1_like_10 rfl (lv_at hl 0 rfl) ?_
  refine g_get (C := RX1) (T := TX1) (N := 4) (v := .ref (b 20)) hx hb hts hown hK hG hX.c1 rfl in_X1 0 (by decide) q186 rfl rfl dX1_like_11 ?_
  refine g_alen (n := 18) hx hb 0 hK hG hX.c20 rfl rfl dX1_like_14 ?_
  refine g_rw (b := 18) rfl ?_
  refine g_copy (N := 18) hx hb hml hown hts hK hG hS hl.1 q1937 q586 q585 q89 hX.c23 hX.c20 (by decide) (by decide) (by decide) (Nat.le_of_ble_eq_true rfl) (Nat.le_of_ble_eq_true rfl) dX1_like_15 (fun H locs hG hS => ?_)
  obtain ⟨U1, eU1⟩ : ∃ z : Nat → Int → Int, z = va_up U 20 (cpZ 18 (U 23) (U 20)) := ⟨_, rfl⟩
  have u20_1 : U1 20 = (cpZ 18 (U 23) (U 20)) := by rw [eU1, va_up_self]
  have fU1 : ∀ j, j ≠ 20 → U1 j = U j := fun j hj => by rw [eU1, va_up_ne _ _ hj]
  have hX1 : XW X (gup σ (b 20) (1, gI (X.2.1 0) 18 (cpZ 18 (U 23) (U 20)))) b U1 J R := by rw [eU1]; exact hX.set 20 rfl (cpZ 18 (U 23) (U 20))
  have hT1 : okT (U1 20) := by rw [u20_1]; exact okT_cp hT (by exact hT3)
  have hS2_1 : SetW X (gup σ (b 20) (1, gI (X.2.1 0) 18 (cpZ 18 (U 23) (U 20)))) 2 (b 21) n2 cd2 := hS2.keep (gKeep.up hX.c20 rfl : gKeep (fun t => t = 1) σ (gup σ (b 20) (1, gI (X.2.1 0) 18 (cpZ 18 (U 23) (U 20))))) (by first | decide | omega | (intro q9; dsimp only at q9; omega)) (by first | decide | omega | (intro q9; dsimp only at q9; omega)) (by first | decide | omega | (intro q9; dsimp only at q9; omega)) (by first | decide | omega | (intro q9; dsimp only at q9; omega))
  have hS3_1 : SetW X (gup σ (b 20) (1, gI (X.2.1 0) 18 (cpZ 18 (U 23) (U 20)))) 3 (b 24) n3 cd3 := hS3.keep (gKeep.up hX.c20 rfl : gKeep (fun t => t = 1) σ (gup σ (b 20) (1, gI (X.2.1 0) 18 (cpZ 18 (U 23) (U 20))))) (by first | decide | omega | (intro q9; dsimp only at q9; omega)) (by first | decide | omega | (intro q9; dsimp only at q9; omega)) (by first | decide | omega | (intro q9; dsimp only at q9; omega)) (by first | decide | omega | (intro q9; dsimp only at q9; omega))
  have hkp1 : gKeep (fun t => t = 1 ∨ t = 2 ∨ t = 3 ∨ t = 15) σ (gup σ (b 20) (1, gI (X.2.1 0) 18 (cpZ 18 (U 23) (U 20)))) := hkp.tr ((gKeep.up hX.c20 rfl : gKeep (fun t => t = 1) σ (gup σ (b 20) (1, gI (X.2.1 0) 18 (cpZ 18 (U 23) (U 20))))).mono (fun t (h : t = 1) => (by show t = 1 ∨ t = 2 ∨ t = 3 ∨ t = 15; omega)))
  generalize (gup σ (b 20) (1, gI (X.2.1 0) 18 (cpZ 18 (U 23) (U 20)))) = σ1 at hG hX1 hS2_1 hS3_1 hkp1
  refine lv_aload_n hx hb dX1_like_18 rfl (lv_at hl 0 rfl) ?_
  refine lv_aload_n hx hb dX1_like_19 rfl (lv_at hl 1 rfl) ?_
  refine g_get (C := RX1) (T := TX1) (N := 4) (v := .ref (b 24)) hx hb hts hown hK hG hX1.c2 rfl in_X1 1 (by decide) q188 rfl rfl dX1_like_20 ?_
  refine g_callV (As := [.ref (b 24)]) (rest := []) 1 hx hb hml hown hts hK hG hS hl.1 (mX1_becomes_w l X σ1 b U1 J R hX1 hT1 n2 cd2 hS2_1 3 (b 24) n3 cd3 hS3_1 (by first | assumption | decide | omega) (by first | assumption | decide | omega) (by first | assumption | decide | omega)) hX1.c1 rfl q1938 q1578 q1579 q70 q1580 (by decide +kernel) rfl ⟨Nat.le_of_ble_eq_true rfl, Nat.le_of_ble_eq_true rfl⟩ ⟨Nat.le_of_ble_eq_true rfl, Nat.le_of_ble_eq_true rfl⟩ (Nat.le_of_ble_eq_true rfl) dX1_like_23 (kV (fun σr2 H locs hp hG hS => ?_))
  obtain ⟨kq3, hrel3⟩ := hp
  have hX_4 : XW X σr2 b U1 J R := hX1.keep kq3 (by first | decide | omega | (intro q9; dsimp only at q9; omega))
  have hkp4 : gKeep (fun t => t = 1 ∨ t = 2 ∨ t = 3 ∨ t = 15) σ σr2 := hkp1.tr (kq3.mono (fun t (h : t = 2 ∨ t = 3 ∨ t = 15) => (by show t = 1 ∨ t = 2 ∨ t = 3 ∨ t = 15; omega)))
  obtain ⟨hT_3, m3, ce3, hD_3, hm3, hin3⟩ := hrel3
  refine lv_aload_n hx hb dX1_like_26 rfl (lv_at hl 1 rfl) ?_
  refine g_get (C := RX1) (T := TX1) (N := 4) (v := .ref (b 25)) hx hb hts hown hK hG hX_4.c2 rfl in_X1 2 (by decide) q190 rfl rfl dX1_like_27 ?_
  refine g_iconst hx hb dX1_like_30 ?_
  refine lv_aload_n hx hb dX1_like_31 rfl (lv_at hl 0 rfl) ?_
  refine g_get (C := RX1) (T := TX1) (N := 4) (v := .ref (b 22)) hx hb hts hown hK hG hX_4.c1 rfl in_X1 2 (by decide) q190 rfl rfl dX1_like_32 ?_
  refine g_iconst hx hb dX1_like_35 ?_
  refine lv_aload_n hx hb dX1_like_36 rfl (lv_at hl 0 rfl) ?_
  refine g_get (C := RX1) (T := TX1) (N := 4) (v := .ref (b 22)) hx hb hts hown hK hG hX_4.c1 rfl in_X1 2 (by decide) q190 rfl rfl dX1_like_37 ?_
  refine g_alen (n := 16) hx hb 0 hK hG hX_4.c22 rfl rfl dX1_like_40 ?_
  refine g_rw (b := 16) rfl ?_
  refine g_copy (N := 16) hx hb hml hown hts hK hG hS hl.1 q1937 q586 q585 q89 hX_4.c25 hX_4.c22 (by decide) (by decide) (by decide) (Nat.le_of_ble_eq_true rfl) (Nat.le_of_ble_eq_true rfl) dX1_like_41 (fun H locs hG hS => ?_)
  obtain ⟨U5, eU5⟩ : ∃ z : Nat → Int → Int, z = va_up U1 22 (cpZ 16 (U1 25) (U1 22)) := ⟨_, rfl⟩
  have u22_5 : U5 22 = (cpZ 16 (U1 25) (U1 22)) := by rw [eU5, va_up_self]
  have fU5 : ∀ j, j ≠ 22 → U5 j = U1 j := fun j hj => by rw [eU5, va_up_ne _ _ hj]
  have hX5 : XW X (gup σr2 (b 22) (1, gI (X.2.1 0) 16 (cpZ 16 (U1 25) (U1 22)))) b U5 J R := by rw [eU5]; exact hX_4.set 22 rfl (cpZ 16 (U1 25) (U1 22))
  have hT5 : okT (U5 20) := by rw [fU5 20 (by decide)]; exact hT1
  have hS2_5 : SetW X (gup σr2 (b 22) (1, gI (X.2.1 0) 16 (cpZ 16 (U1 25) (U1 22)))) 2 (b 21) m3 ce3 := hD_3.keep (gKeep.up hX_4.c22 rfl : gKeep (fun t => t = 1) σr2 (gup σr2 (b 22) (1, gI (X.2.1 0) 16 (cpZ 16 (U1 25) (U1 22))))) (by first | decide | omega | (intro q9; dsimp only at q9; omega)) (by first | decide | omega | (intro q9; dsimp only at q9; omega)) (by first | decide | omega | (intro q9; dsimp only at q9; omega)) (by first | decide | omega | (intro q9; dsimp only at q9; omega))
  have hS3_5 : SetW X (gup σr2 (b 22) (1, gI (X.2.1 0) 16 (cpZ 16 (U1 25) (U1 22)))) 3 (b 24) n3 cd3 := hT_3.keep (gKeep.up hX_4.c22 rfl : gKeep (fun t => t = 1) σr2 (gup σr2 (b 22) (1, gI (X.2.1 0) 16 (cpZ 16 (U1 25) (U1 22))))) (by first | decide | omega | (intro q9; dsimp only at q9; omega)) (by first | decide | omega | (intro q9; dsimp only at q9; omega)) (by first | decide | omega | (intro q9; dsimp only at q9; omega)) (by first | decide | omega | (intro q9; dsimp only at q9; omega))
  have hkp5 : gKeep (fun t => t = 1 ∨ t = 2 ∨ t = 3 ∨ t = 15) σ (gup σr2 (b 22) (1, gI (X.2.1 0) 16 (cpZ 16 (U1 25) (U1 22)))) := hkp4.tr ((gKeep.up hX_4.c22 rfl : gKeep (fun t => t = 1) σr2 (gup σr2 (b 22) (1, gI (X.2.1 0) 16 (cpZ 16 (U1 25) (U1 22))))).mono (fun t (h : t = 1) => (by show t = 1 ∨ t = 2 ∨ t = 3 ∨ t = 15; omega)))
  generalize (gup σr2 (b 22) (1, gI (X.2.1 0) 16 (cpZ 16 (U1 25) (U1 22)))) = σ5 at hG hX5 hS2_5 hS3_5 hkp5
  refine lv_aload_n hx hb dX1_like_44 rfl (lv_at hl 0 rfl) ?_
  refine lv_aload_n hx hb dX1_like_45 rfl (lv_at hl 1 rfl) ?_
  refine g_get (C := RX1) (T := TX1) (N := 4) (v := .int (iI (J 31))) hx hb hts hown hK hG hX5.c2 rfl in_X1 3 (by decide) q192 rfl rfl dX1_like_46 ?_
  refine g_put (C := RX1) (T := TX1) (N := 4) (ty0 := tyX1) (v := .int (iI (J 31))) hx hb hts hown hK hG hS hX5.c1 rfl in_X1 tyX1_ok nmX1 3 (by decide) q192 rfl (by decide) rfl rfl (Nat.le_of_ble_eq_true rfl) dX1_like_49 (fun H locs hG hS => ?_)
  obtain ⟨J6, eJ6⟩ : ∃ z : Nat → Int, z = va_up J 30 (J 31) := ⟨_, rfl⟩
  have j30_6 : J6 30 = (J 31) := by rw [eJ6, va_up_self]
  have fJ6 : ∀ j, j ≠ 30 → J6 j = J j := fun j hj => by rw [eJ6, va_up_ne _ _ hj]
  have hX6 : XW X (gup σ5 (b 1) (1, gO 1 ([.ref (b 20), .ref (b 21), .ref (b 22), .int (iI (J 30))].set 3 (.int (iI (J 31)))))) b U5 J6 R := by rw [eJ6]; exact hX5.num 30 rfl (J 31)
  have hS2_6 : SetW X (gup σ5 (b 1) (1, gO 1 ([.ref (b 20), .ref (b 21), .ref (b 22), .int (iI (J 30))].set 3 (.int (iI (J 31)))))) 2 (b 21) m3 ce3 := hS2_5.keep (gKeep.up hX5.c1 rfl : gKeep (fun t => t = 1) σ5 (gup σ5 (b 1) (1, gO 1 ([.ref (b 20), .ref (b 21), .ref (b 22), .int (iI (J 30))].set 3 (.int (iI (J 31))))))) (by first | decide | omega | (intro q9; dsimp only at q9; omega)) (by first | decide | omega | (intro q9; dsimp only at q9; omega)) (by first | decide | omega | (intro q9; dsimp only at q9; omega)) (by first | decide | omega | (intro q9; dsimp only at q9; omega))
  have hS3_6 : SetW X (gup σ5 (b 1) (1, gO 1 ([.ref (b 20), .ref (b 21), .ref (b 22), .int (iI (J 30))].set 3 (.int (iI (J 31)))))) 3 (b 24) n3 cd3 := hS3_5.keep (gKeep.up hX5.c1 rfl : gKeep (fun t => t = 1) σ5 (gup σ5 (b 1) (1, gO 1 ([.ref (b 20), .ref (b 21), .ref (b 22), .int (iI (J 30))].set 3 (.int (iI (J 31))))))) (by first | decide | omega | (intro q9; dsimp only at q9; omega)) (by first | decide | omega | (intro q9; dsimp only at q9; omega)) (by first | decide | omega | (intro q9; dsimp only at q9; omega)) (by first | decide | omega | (intro q9; dsimp only at q9; omega))
  have hkp6 : gKeep (fun t => t = 1 ∨ t = 2 ∨ t = 3 ∨ t = 15) σ (gup σ5 (b 1) (1, gO 1 ([.ref (b 20), .ref (b 21), .ref (b 22), .int (iI (J 30))].set 3 (.int (iI (J 31)))))) := hkp5.tr ((gKeep.up hX5.c1 rfl : gKeep (fun t => t = 1) σ5 (gup σ5 (b 1) (1, gO 1 ([.ref (b 20), .ref (b 21), .ref (b 22), .int (iI (J 30))].set 3 (.int (iI (J 31))))))).mono (fun t (h : t = 1) => (by show t = 1 ∨ t = 2 ∨ t = 3 ∨ t = 15; omega)))
  generalize (gup σ5 (b 1) (1, gO 1 ([.ref (b 20), .ref (b 21), .ref (b 22), .int (iI (J 30))].set 3 (.int (iI (J 31)))))) = σ6 at hG hX6 hS2_6 hS3_6 hkp6
  exact g_vret hx hb hr hlocks hQ hG hS (Nat.le_of_ble_eq_true rfl) (Nat.le_of_ble_eq_true rfl) ⟨rfl, hkp6, (⟨U5, J6, hX6, hT5, (⟨hS3_6, m3, ce3, hS2_6, hm3, hin3, by rw [fU5 20 (by decide), u20_1], by rw [u22_5, fU1 22 (by decide), fU1 25 (by decide)], fun q h1 h2 => (fU5 q h2).trans (fU1 q h1), eJ6⟩)⟩)⟩ dX1_like_52

set_option maxHeartbeats 8000000 in
theorem mX0_image (l : Launch) (X : gX) (σ : gS) (b : Nat → Nat) (U : Nat → Int → Int) (J : Nat → Int) (R : Int → Option Nat) (hX : XW X σ b U J R) (hT : okT (U 20)) (n2 : Nat) (cd2 : Nat → Int) (hS2 : SetW X σ 2 (b 21) n2 cd2) (n3 : Nat) (cd3 : Nat → Int) (hS3 : SetW X σ 3 (b 24) n3 cd3)   (h0 : n2 ≤ 12) (h1 : n3 ≤ 12) (h2 : okT (U 23)) : gMet l X yX0_image cX0_image 1 (some .int) 10 14 77 223 σ [.ref (b 0)] (oI (fun r σ' => gKeep (fun t => t = 1 ∨ t = 2 ∨ t = 3 ∨ t = 15) σ σ' ∧ (∃ (U' : Nat → Int → Int) (J' : Nat → Int), XW X σ' b U' J' R ∧ okT (U' 20) ∧ (r = (n2 : Int) ∧ SetW X σ' 2 (b 21) n2 cd2 ∧ ∃ m ce, SetW X σ' 3 (b 24) m ce ∧ m ≤ n2 ∧ (∀ v, inQ m ce v ↔ inQ n2 cd2 v) ∧ U' 23 = cpZ 18 (U 20) (U 23) ∧ U' 25 = cpZ 16 (U 22) (U 25) ∧ (∀ q, q ≠ 23 → q ≠ 25 → U' q = U q) ∧ J' = va_up (va_up J 31 (J 30)) 2 1)))) := by
  refine gMet.of (by decide) (Nat.le_of_ble_eq_true rfl) ?_
  intro pp ee ss mm args below meth cd Q H locs ls hargs hx hb hr hlocks hml hown hnm hts hK hG hS hQ hl
  have hown : ss.vm.findClass RX0 = some mm.cls := hown
  have hl : lv_has ls 1 [(0, .ref (b 0))] := hl
  have hkp : gKeep (fun t => t = 1 ∨ t = 2 ∨ t = 3 ∨ t = 15) σ σ := gKeep.rf
  refine lv_aload_n hx hb dX0_image_0 rfl (lv_at hl 0 rfl) ?_
  refine g_get (C := RX0) (T := TX0) (N := 20) (v := .ref (b 2)) hx hb hts hown hK hG hX.c0 rfl in_X0 1 (by decide) q421 rfl rfl dX0_image_1 ?_
  refine lv_aload_n hx hb dX0_image_4 rfl (lv_at hl 0 rfl) ?_
  refine g_get (C := RX0) (T := TX0) (N := 20) (v := .ref (b 1)) hx hb hts hown hK hG hX.c0 rfl in_X0 0 (by decide) q420 rfl rfl dX0_image_5 ?_
  refine g_callV (As := [.ref (b 1)]) (rest := []) 1 hx hb hml hown hts hK hG hS hl.1 (mX1_like_i l X σ b U J R hX hT n2 cd2 hS2 n3 cd3 hS3 (by first | assumption | decide | omega) (by first | assumption | decide | omega) (by first | assumption | decide | omega)) hX.c2 rfl q1933 q1934 q1935 q70 q1936 (by decide +kernel) rfl ⟨Nat.le_of_ble_eq_true rfl, Nat.le_of_ble_eq_true rfl⟩ ⟨Nat.le_of_ble_eq_true rfl, Nat.le_of_ble_eq_true rfl⟩ (Nat.le_of_ble_eq_true rfl) dX0_image_8 (kV (fun σr1 H locs hp hG hS => ?_))
  obtain ⟨kq2, U2, J2, hX2, hT2, hrel2⟩ := hp
  have hkp3 : gKeep (fun t => t = 1 ∨ t = 2 ∨ t = 3 ∨ t = 15) σ σr1 := hkp.tr (kq2.mono (fun t (h : t = 1 ∨ t = 2 ∨ t = 3 ∨ t = 15) => (by show t = 1 ∨ t = 2 ∨ t = 3 ∨ t = 15; omega)))
  obtain ⟨hs_2, m2, ce2, hd_2, hm2, hin2, u1_2, u2_2, u3_2, ej2⟩ := hrel2
  refine lv_aload_n hx hb dX0_image_11 rfl (lv_at hl 0 rfl) ?_
  refine g_iconst hx hb dX0_image_12 ?_
  refine g_put (C := RX0) (T := TX0) (N := 20) (ty0 := tyX0) (v := .int (iI 1)) hx hb hts hown hK hG hS hX2.c0 rfl in_X0 tyX0_ok nmX0 2 (by decide) q422 rfl (by decide) (by first | rfl | decide) (by first | rfl | decide) (Nat.le_of_ble_eq_true rfl) dX0_image_13 (fun H locs hG hS => ?_)
  obtain ⟨J4, eJ4⟩ : ∃ z : Nat → Int, z = va_up J2 2 1 := ⟨_, rfl⟩
  have j2_4 : J4 2 = 1 := by rw [eJ4, va_up_self]
  have fJ4 : ∀ j, j ≠ 2 → J4 j = J2 j := fun j hj => by rw [eJ4, va_up_ne _ _ hj]
  have hX4 : XW X (gup σr1 (b 0) (1, gO 0 ([.ref (b 1), .ref (b 2), .int (iI (J2 2)), .ref (b 3), .ref (b 4), .ref (b 5), .int (iI (J2 6)), .ref (b 7), .ref (b 8), .int (iI (J2 9)), .ref (b 10), .ref (b 11), .ref (b 12), .ref (b 13), .ref (b 14), .ref (b 56), .ref (b 57), .ref (b 58), .ref (b 18), .ref (b 19)].set 2 (.int (iI 1))))) b U2 J4 R := by rw [eJ4]; exact hX2.num 2 rfl 1
  have hS2_4 : SetW X (gup σr1 (b 0) (1, gO 0 ([.ref (b 1), .ref (b 2), .int (iI (J2 2)), .ref (b 3), .ref (b 4), .ref (b 5), .int (iI (J2 6)), .ref (b 7), .ref (b 8), .int (iI (J2 9)), .ref (b 10), .ref (b 11), .ref (b 12), .ref (b 13), .ref (b 14), .ref (b 56), .ref (b 57), .ref (b 58), .ref (b 18), .ref (b 19)].set 2 (.int (iI 1))))) 2 (b 21) n2 cd2 := hs_2.keep (gKeep.up hX2.c0 rfl : gKeep (fun t => t = 1) σr1 (gup σr1 (b 0) (1, gO 0 ([.ref (b 1), .ref (b 2), .int (iI (J2 2)), .ref (b 3), .ref (b 4), .ref (b 5), .int (iI (J2 6)), .ref (b 7), .ref (b 8), .int (iI (J2 9)), .ref (b 10), .ref (b 11), .ref (b 12), .ref (b 13), .ref (b 14), .ref (b 56), .ref (b 57), .ref (b 58), .ref (b 18), .ref (b 19)].set 2 (.int (iI 1)))))) (by first | decide | omega | (intro q9; dsimp only at q9; omega)) (by first | decide | omega | (intro q9; dsimp only at q9; omega)) (by first | decide | omega | (intro q9; dsimp only at q9; omega)) (by first | decide | omega | (intro q9; dsimp only at q9; omega))
  have hS3_4 : SetW X (gup σr1 (b 0) (1, gO 0 ([.ref (b 1), .ref (b 2), .int (iI (J2 2)), .ref (b 3), .ref (b 4), .ref (b 5), .int (iI (J2 6)), .ref (b 7), .ref (b 8), .int (iI (J2 9)), .ref (b 10), .ref (b 11), .ref (b 12), .ref (b 13), .ref (b 14), .ref (b 56), .ref (b 57), .ref (b 58), .ref (b 18), .ref (b 19)].set 2 (.int (iI 1))))) 3 (b 24) m2 ce2 := hd_2.keep (gKeep.up hX2.c0 rfl : gKeep (fun t => t = 1) σr1 (gup σr1 (b 0) (1, gO 0 ([.ref (b 1), .ref (b 2), .int (iI (J2 2)), .ref (b 3), .ref (b 4), .ref (b 5), .int (iI (J2 6)), .ref (b 7), .ref (b 8), .int (iI (J2 9)), .ref (b 10), .ref (b 11), .ref (b 12), .ref (b 13), .ref (b 14), .ref (b 56), .ref (b 57), .ref (b 58), .ref (b 18), .ref (b 19)].set 2 (.int (iI 1)))))) (by first | decide | omega | (intro q9; dsimp only at q9; omega)) (by first | decide | omega | (intro q9; dsimp only at q9; omega)) (by first | decide | omega | (intro q9; dsimp only at q9; omega)) (by first | decide | omega | (intro q9; dsimp only at q9; omega))
  have hkp4 : gKeep (fun t => t = 1 ∨ t = 2 ∨ t = 3 ∨ t = 15) σ (gup σr1 (b 0) (1, gO 0 ([.ref (b 1), .ref (b 2), .int (iI (J2 2)), .ref (b 3), .ref (b 4), .ref (b 5), .int (iI (J2 6)), .ref (b 7), .ref (b 8), .int (iI (J2 9)), .ref (b 10), .ref (b 11), .ref (b 12), .ref (b 13), .ref (b 14), .ref (b 56), .ref (b 57), .ref (b 58), .ref (b 18), .ref (b 19)].set 2 (.int (iI 1))))) := hkp3.tr ((gKeep.up hX2.c0 rfl : gKeep (fun t => t = 1) σr1 (gup σr1 (b 0) (1, gO 0 ([.ref (b 1), .ref (b 2), .int (iI (J2 2)), .ref (b 3), .ref (b 4), .ref (b 5), .int (iI (J2 6)), .ref (b 7), .ref (b 8), .int (iI (J2 9)), .ref (b 10), .ref (b 11), .ref (b 12), .ref (b 13), .ref (b 14), .ref (b 56), .ref (b 57), .ref (b 58), .ref (b 18), .ref (b 19)].set 2 (.int (iI 1)))))).mono (fun t (h : t = 1) => (by show t = 1 ∨ t = 2 ∨ t = 3 ∨ t = 15; omega)))
  generalize (gup σr1 (b 0) (1, gO 0 ([.ref (b 1), .ref (b 2), .int (iI (J2 2)), .ref (b 3), .ref (b 4), .ref (b 5), .int (iI (J2 6)), .ref (b 7), .ref (b 8), .int (iI (J2 9)), .ref (b 10), .ref (b 11), .ref (b 12), .ref (b 13), .ref (b 14), .ref (b 56), .ref (b 57), .ref (b 58), .ref (b 18), .ref (b 19)].set 2 (.int (iI 1))))) = σ4 at hG hX4 hS2_4 hS3_4 hkp4
  refine lv_aload_n hx hb dX0_image_16 rfl (lv_at hl 0 rfl) ?_
  refine g_get (C := RX0) (T := TX0) (N := 20) (v := .ref (b 1)) hx hb hts hown hK hG hX4.c0 rfl in_X0 0 (by decide) q420 rfl rfl dX0_image_17 ?_
  refine g_getN (C := RX1) (T := TX1) (N := 4) (v := .ref (b 21)) hx hb hts hown hK hG hX4.c1 rfl in_X1 1 (by decide) q189 rfl rfl dX0_image_20 ?_
  obtain ⟨mq5, hq5⟩ := hS2_4.hsa
  obtain ⟨mq7, hq7⟩ := hS2_4.hsa
  refine g_callV (As := []) (rest := []) 0 hx hb hml hown hts hK hG hS hl.1 (mS_size hS2_4) hq7 rfl q1508 q1509 q1510 q73 q1511 (by decide +kernel) rfl ⟨Nat.le_of_ble_eq_true rfl, Nat.le_of_ble_eq_true rfl⟩ ⟨Nat.le_of_ble_eq_true rfl, Nat.le_of_ble_eq_true rfl⟩ (Nat.le_of_ble_eq_true rfl) dX0_image_23 (kI (fun r6 σr6 H locs hp hG hS => ?_))
  obtain ⟨rfl, rfl⟩ := hp
  exact g_iret hx hb hr hlocks hQ hG hS (Nat.le_of_ble_eq_true rfl) (Nat.le_of_ble_eq_true rfl) ⟨_, rfl, hkp4, (⟨U2, J4, hX4, hT2, (⟨rfl, hS2_4, m2, ce2, hS3_4, hm2, hin2, u1_2, u2_2, u3_2, by rw [eJ4, ej2]⟩)⟩)⟩ dX0_image_26

set_option maxHeartbeats 8000000 in
theorem mX0_undo (l : Launch) (X : gX) (σ : gS) (b : Nat → Nat) (U : Nat → Int → Int) (J : Nat → Int) (R : Int → Option Nat) (hX : XW X σ b U J R) (hT : okT (U 20)) (n2 : Nat) (cd2 : Nat → Int) (hS2 : SetW X σ 2 (b 21) n2 cd2) (n3 : Nat) (cd3 : Nat → Int) (hS3 : SetW X σ 3 (b 24) n3 cd3)   (h0 : n2 ≤ 12) (h1 : n3 ≤ 12) (h2 : okT (U 23)) (h3 : J 2 = 0 ∨ J 2 = 1) : gMet l X yX0_undo cX0_undo 1 (some .int) 10 14 77 223 σ [.ref (b 0)] (oI (fun r σ' => gKeep (fun t => t = 1 ∨ t = 2 ∨ t = 3 ∨ t = 15) σ σ' ∧ (∃ (U' : Nat → Int → Int) (J' : Nat → Int), XW X σ' b U' J' R ∧ okT (U' 20) ∧ (J 2 = 0 ∧ r = -3 ∧ SetW X σ' 2 (b 21) n2 cd2 ∧ SetW X σ' 3 (b 24) n3 cd3 ∧ U' = U ∧ J' = J ∨ J 2 = 1 ∧ SetW X σ' 3 (b 24) n3 cd3 ∧ ∃ (m : Nat) (ce : Nat → Int), r = (m : Int) ∧ SetW X σ' 2 (b 21) m ce ∧ m ≤ n3 ∧ (∀ v, inQ m ce v ↔ inQ n3 cd3 v) ∧ U' 20 = cpZ 18 (U 23) (U 20) ∧ U' 22 = cpZ 16 (U 25) (U 22) ∧ (∀ q, q ≠ 20 → q ≠ 22 → U' q = U q) ∧ J' = va_up J 30 (J 31))))) := by
  refine gMet.of (by decide) (Nat.le_of_ble_eq_true rfl) ?_
  intro pp ee ss mm args below meth cd Q H locs ls hargs hx hb hr hlocks hml hown hnm hts hK hG hS hQ hl
  have hown : ss.vm.findClass RX0 = some mm.cls := hown
  have hl : lv_has ls 1 [(0, .ref (b 0))] := hl
  have hkp : gKeep (fun t => t = 1 ∨ t = 2 ∨ t = 3 ∨ t = 15) σ σ := gKeep.rf
  refine lv_aload_n hx hb dX0_undo_0 rfl (lv_at hl 0 rfl) ?_
  refine g_get (C := RX0) (T := TX0) (N := 20) (v := .int (iI (J 2))) hx hb hts hown hK hG hX.c0 rfl in_X0 2 (by decide) q422 rfl rfl dX0_undo_1 ?_
  refine g_if_ne (tgt := 10) hx hb dX0_undo_4 (by decide) (by omega) (fun cq1 => ?_) (fun cq1 => ?_)
  · refine lv_aload_n hx hb dX0_undo_10 rfl (lv_at hl 0 rfl) ?_
    refine g_get (C := RX0) (T := TX0) (N := 20) (v := .ref (b 1)) hx hb hts hown hK hG hX.c0 rfl in_X0 0 (by decide) q420 rfl rfl dX0_undo_11 ?_
    refine lv_aload_n hx hb dX0_undo_14 rfl (lv_at hl 0 rfl) ?_
    refine g_get (C := RX0) (T := TX0) (N := 20) (v := .ref (b 2)) hx hb hts hown hK hG hX.c0 rfl in_X0 1 (by decide) q421 rfl rfl dX0_undo_15 ?_
    refine g_callV (As := [.ref (b 2)]) (rest := []) 1 hx hb hml hown hts hK hG hS hl.1 (mX1_like_w l X σ b U J R hX hT n2 cd2 hS2 n3 cd3 hS3 (by first | assumption | decide | omega) (by first | assumption | decide | omega) (by first | assumption | decide | omega)) hX.c1 rfl q1933 q1934 q1935 q70 q1936 (by decide +kernel) rfl ⟨Nat.le_of_ble_eq_true rfl, Nat.le_of_ble_eq_true rfl⟩ ⟨Nat.le_of_ble_eq_true rfl, Nat.le_of_ble_eq_true rfl⟩ (Nat.le_of_ble_eq_true rfl) dX0_undo_18 (kV (fun σr2 H locs hp hG hS => ?_))
    obtain ⟨kq3, U3, J3, hX3, hT3, hrel3⟩ := hp
    have hkp4 : gKeep (fun t => t = 1 ∨ t = 2 ∨ t = 3 ∨ t = 15) σ σr2 := hkp.tr (kq3.mono (fun t (h : t = 1 ∨ t = 2 ∨ t = 3 ∨ t = 15) => (by show t = 1 ∨ t = 2 ∨ t = 3 ∨ t = 15; omega)))
    obtain ⟨hs_3, m3, ce3, hd_3, hm3, hin3, u1_3, u2_3, u3_3, ej3⟩ := hrel3
    refine lv_aload_n hx hb dX0_undo_21 rfl (lv_at hl 0 rfl) ?_
    refine g_get (C := RX0) (T := TX0) (N := 20) (v := .ref (b 1)) hx hb hts hown hK hG hX3.c0 rfl in_X0 0 (by decide) q420 rfl rfl dX0_undo_22 ?_
    refine g_getN (C := RX1) (T := TX1) (N := 4) (v := .ref (b 21)) hx hb hts hown hK hG hX3.c1 rfl in_X1 1 (by decide) q189 rfl rfl dX0_undo_25 ?_
    obtain ⟨mq5, hq5⟩ := hd_3.hsa
    obtain ⟨mq7, hq7⟩ := hd_3.hsa
    refine g_callV (As := []) (rest := []) 0 hx hb hml hown hts hK hG hS hl.1 (mS_size hd_3) hq7 rfl q1508 q1509 q1510 q73 q1511 (by decide +kernel) rfl ⟨Nat.le_of_ble_eq_true rfl, Nat.le_of_ble_eq_true rfl⟩ ⟨Nat.le_of_ble_eq_true rfl, Nat.le_of_ble_eq_true rfl⟩ (Nat.le_of_ble_eq_true rfl) dX0_undo_28 (kI (fun r6 σr6 H locs hp hG hS => ?_))
    obtain ⟨rfl, rfl⟩ := hp
    exact g_iret hx hb hr hlocks hQ hG hS (Nat.le_of_ble_eq_true rfl) (Nat.le_of_ble_eq_true rfl) ⟨_, rfl, hkp4, (⟨U3, J3, hX3, hT3, (Or.inr ⟨by omega, hs_3, m3, ce3, rfl, hd_3, hm3, hin3, u1_3, u2_3, u3_3, ej3⟩)⟩)⟩ dX0_undo_31
  · refine g_bipush hx hb dX0_undo_7 (by decide) ?_
    exact g_iret hx hb hr hlocks hQ hG hS (Nat.zero_le _) (Nat.zero_le _) ⟨_, rfl, hkp, (⟨U, J, hX, hT, (Or.inl ⟨by omega, rfl, hS2, hS3, rfl, rfl⟩)⟩)⟩ dX0_undo_9

