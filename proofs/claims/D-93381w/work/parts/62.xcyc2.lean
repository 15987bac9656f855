set_option maxHeartbeats 8000000 in
theorem mX0_sumOf (l : Launch) (X : gX) (σ : gS) (mp nn : Nat) (ce : Nat → Int) (O : Int → Int) (hM : MapW σ mp nn ce O) (b9 : Int)  (h0 : b9 = 0 ∨ b9 = 1) : gMet l X yX0_sumOf cX0_sumOf 5 (some .int) 6 2 5 124 σ [.ref mp, .int (iI b9)] (oI (fun r σ' => gKeep (fun t => t = 7 ∨ t = 15) σ σ' ∧ (r = suQ (fun j => if b9 = 1 then j * O j else O j) ce nn ∧ MapW σ' mp nn ce O))) := by
  refine gMet.of (by decide) (Nat.le_of_ble_eq_true rfl) ?_
  intro pp ee ss mm args below meth cd Q H locs ls hargs hx hb hr hlocks hml hown hnm hts hK hG hS hQ hl
  have hown : ss.vm.findClass RX0 = some mm.cls := hown
  have hl : lv_has ls 5 [(0, .ref mp), (1, .int (iI b9))] := hl
  have hkp : gKeep (fun t => t = 7 ∨ t = 15) σ σ := gKeep.rf
  refine g_iconst hx hb dX0_sumOf_0 ?_
  refine lv_istore_n (lv' := [(2, .int (iI 0)), (0, .ref mp), (1, .int (iI b9))]) hx hb dX0_sumOf_1 rfl hl (by decide) rfl (fun ls hl => ?_)
  refine lv_aload_n hx hb dX0_sumOf_2 rfl (lv_at hl 1 rfl) ?_
  obtain ⟨fm1, hm1⟩ := hM.hm
  obtain ⟨fm3, hm3⟩ := hM.hm
  refine g_callV (As := []) (rest := []) 0 hx hb hml hown hts hK hG hS hl.1 (mM_entrySet hM) hm3 rfl q1237 q1238 q1239 q75 q1240 (by decide +kernel) rfl ⟨Nat.le_of_ble_eq_true rfl, Nat.le_of_ble_eq_true rfl⟩ ⟨Nat.le_of_ble_eq_true rfl, Nat.le_of_ble_eq_true rfl⟩ (Nat.le_of_ble_eq_true rfl) dX0_sumOf_3 (kA (fun r2 σr2 H locs hp hG hS => ?_))
  obtain ⟨es4, rfl, hS4, kq4⟩ := hp
  have hkp5 : gKeep (fun t => t = 7 ∨ t = 15) σ σr2 := hkp.tr (kq4.mono (fun t (h : t = 7) => (by show t = 7 ∨ t = 15; omega)))
  refine g_callF (As := []) (rest := []) 0 hx hb hml hown hts hK hG hS hl.1 (mM_iterator ⟨hS4.1, hS4.2⟩) hS4.2 rfl q1252 q1256 q1258 q109 q1260 q1254 q1253 q1259 q1257 q1255 (by decide +kernel) rfl ⟨Nat.le_of_ble_eq_true rfl, Nat.le_of_ble_eq_true rfl⟩ ⟨Nat.le_of_ble_eq_true rfl, Nat.le_of_ble_eq_true rfl⟩ (Nat.le_of_ble_eq_true rfl) dX0_sumOf_6 (kA (fun r6 σr6 H locs hp hG hS => ?_))
  obtain ⟨it7, rfl, hI7, kq7⟩ := hp
  have hkp8 : gKeep (fun t => t = 7 ∨ t = 15) σ σr6 := hkp5.tr (kq7.mono (fun t (h : t = 15) => (by show t = 7 ∨ t = 15; omega)))
  refine lv_astore_n (lv' := [(3, .ref it7), (2, .int (iI 0)), (0, .ref mp), (1, .int (iI b9))]) hx hb dX0_sumOf_11 rfl hl (by decide) rfl (fun ls hl => ?_)
  have loop_12 : ∀ (nF : Nat) (σL : gS) (s9 : Int) (k9 : Nat), (nn - k9 : Nat) < nF → (gKeep (fun t => t = 7 ∨ t = 15) σ σL) → (MapI σL mp nn ce O it7 k9) → (k9 ≤ nn) → (s9 = suQ (fun j => if b9 = 1 then j * O j else O j) ce k9) → ∀ (H : Heap) (locs : List Loc) (ls : Array Slot), gSat X σL H → va_S (gA X) ss.heap H locs → lv_has ls 5 [(3, .ref it7), (2, .int (iI s9)), (0, .ref mp), (1, .int (iI b9))] → W pp l ee (gR 6 2 5 124) ss mm args below meth cd H locs 2 5 Q (F0 mm 12 ls []) := by
    intro nF
    induction nF with
    | zero => intro σL s9 k9 hm; exact absurd hm (Nat.not_lt_zero _)
    | succ nF ih_12 =>
      intro σL s9 k9 hm hkL hIL hk9 hs9 H locs ls hG hS hl
      refine lv_aload_n hx hb dX0_sumOf_12 rfl (lv_at hl 0 rfl) ?_
      obtain ⟨fm9, hm9⟩ := hIL.it
      refine g_callF (As := []) (rest := []) 0 hx hb hml hown hts hK hG hS hl.1 (mM_hasNext hIL) hm9 rfl q1349 q1353 q1355 q110 q1357 q1351 q1350 q1356 q1354 q1352 (by decide +kernel) rfl ⟨Nat.le_of_ble_eq_true rfl, Nat.le_of_ble_eq_true rfl⟩ ⟨Nat.le_of_ble_eq_true rfl, Nat.le_of_ble_eq_true rfl⟩ (Nat.le_of_ble_eq_true rfl) dX0_sumOf_13 (kI (fun r10 σr10 H locs hp hG hS => ?_))
      obtain ⟨hr10, rfl⟩ := hp
      have kr10 : r10 = 0 ∨ r10 = 1 := by rcases hr10 with ⟨h, -⟩ | ⟨h, -⟩ <;> omega
      refine g_if_eq (tgt := 85) hx hb dX0_sumOf_18 (by decide) (by omega) (fun cq11 => ?_) (fun cq11 => ?_)
      · refine lv_iload_n hx hb dX0_sumOf_85 rfl (lv_at hl 1 rfl) ?_
        have hke : k9 = nn := by rcases hr10 with ⟨q, -⟩ | ⟨-, q⟩ <;> omega
        rw [hke] at hs9
        exact g_iret hx hb hr hlocks hQ hG hS (Nat.le_of_ble_eq_true rfl) (Nat.le_of_ble_eq_true rfl) ⟨_, rfl, hkL, (⟨hs9, hIL.W⟩)⟩ dX0_sumOf_86
      · refine lv_aload_n hx hb dX0_sumOf_21 rfl (lv_at hl 0 rfl) ?_
        obtain ⟨fm12, hm12⟩ := hIL.it
        have hlt13 : k9 < nn := by rcases hr10 with ⟨-, h⟩ | ⟨h, -⟩; exact h; omega
        refine g_callF (As := []) (rest := []) 0 hx hb hml hown hts hK hG hS hl.1 (mM_next hIL hlt13) hm12 rfl q1362 q1365 q1367 q111 q1369 q1364 q1363 q1368 q1366 q1352 (by decide +kernel) rfl ⟨Nat.le_of_ble_eq_true rfl, Nat.le_of_ble_eq_true rfl⟩ ⟨Nat.le_of_ble_eq_true rfl, Nat.le_of_ble_eq_true rfl⟩ (Nat.le_of_ble_eq_true rfl) dX0_sumOf_22 (kA (fun r14 σr14 H locs hp hG hS => ?_))
        obtain ⟨en15, rfl, hE15, kq15⟩ := hp
        have hkp16 : gKeep (fun t => t = 7 ∨ t = 15) σ σr14 := hkL.tr (kq15.mono (fun t (h : t = 15) => (by show t = 7 ∨ t = 15; omega)))
        have hrg15 := hE15.I.W.rng hlt13
        obtain ⟨fm17, hm17⟩ := hE15.he
        refine g_castY hx hb hts hown hK hG hm17 rfl q1391 q1396 dX0_sumOf_27 ?_
        refine lv_astore (lv' := [(4, .ref en15), (3, .ref it7), (2, .int (iI s9)), (0, .ref mp), (1, .int (iI b9))]) hx hb dX0_sumOf_30 hl (by decide) rfl (fun ls hl => ?_)
        refine lv_iload_n hx hb dX0_sumOf_32 rfl (lv_at hl 2 rfl) ?_
        refine lv_iload_n hx hb dX0_sumOf_33 rfl (lv_at hl 4 rfl) ?_
        refine g_if_eq (tgt := 67) hx hb dX0_sumOf_34 (by decide) (by omega) (fun cq18 => ?_) (fun cq18 => ?_)
        · refine lv_aload hx hb dX0_sumOf_67 (lv_at hl 0 rfl) ?_
          obtain ⟨fm19, hm19⟩ := hE15.he
          refine g_callF (As := []) (rest := [.int (iI s9)]) 0 hx hb hml hown hts hK hG hS hl.1 (mM_getValue hE15) hm19 rfl q1403 q1406 q1408 q108 q1410 q1405 q1404 q1409 q1407 q1396 (by decide +kernel) rfl ⟨Nat.le_of_ble_eq_true rfl, Nat.le_of_ble_eq_true rfl⟩ ⟨Nat.le_of_ble_eq_true rfl, Nat.le_of_ble_eq_true rfl⟩ (Nat.le_of_ble_eq_true rfl) dX0_sumOf_69 (kA (fun r20 σr20 H locs hp hG hS => ?_))
          obtain ⟨⟨κ21, rfl, hκ21⟩, rfl⟩ := hp
          refine g_castS hx hb hts hown hK hG hκ21 rfl q1143 dX0_sumOf_74 ?_
          refine g_getN (C := RX10) (T := TX10) (N := 1) (v := .int (iI (O (ce k9)))) hx hb hts hown hK hG hκ21 rfl in_X10 0 (by decide) q1149 rfl rfl dX0_sumOf_77 ?_
          refine g_iadd hx hb dX0_sumOf_80 ?_
          refine lv_istore_n (lv' := [(2, .int (iI (s9 + (O (ce k9))))), (4, .ref en15), (3, .ref it7), (0, .ref mp), (1, .int (iI b9))]) hx hb dX0_sumOf_81 rfl hl (by decide) rfl (fun ls hl => ?_)
          refine lv_goto (tgt := 12) hx hb dX0_sumOf_82 (by decide) ?_
          exact ih_12 σr14 (s9 + (O (ce k9))) (k9 + 1) (by omega) (hkp16) (hE15.I) (hlt13) (by rw [suQ, hs9]; first | rw [if_pos (by omega)] | rw [if_neg (by omega)])  _ _ _ hG hS (lv_sub hl [2, 0, 3, 4] rfl)
        · refine lv_aload hx hb dX0_sumOf_37 (lv_at hl 0 rfl) ?_
          obtain ⟨fm22, hm22⟩ := hE15.he
          refine g_callF (As := []) (rest := [.int (iI s9)]) 0 hx hb hml hown hts hK hG hS hl.1 (mM_getKey hE15) hm22 rfl q1393 q1397 q1399 q108 q1401 q1395 q1394 q1400 q1398 q1396 (by decide +kernel) rfl ⟨Nat.le_of_ble_eq_true rfl, Nat.le_of_ble_eq_true rfl⟩ ⟨Nat.le_of_ble_eq_true rfl, Nat.le_of_ble_eq_true rfl⟩ (Nat.le_of_ble_eq_true rfl) dX0_sumOf_39 (kA (fun r23 σr23 H locs hp hG hS => ?_))
          obtain ⟨⟨κ24, rfl, hκ24⟩, rfl⟩ := hp
          refine g_castS hx hb hts hown hK hG hκ24 rfl q1110 dX0_sumOf_44 ?_
          refine g_getN (C := RX9) (T := TX9) (N := 1) (v := .int (iI (ce k9))) hx hb hts hown hK hG hκ24 rfl in_X9 0 (by decide) q1117 rfl rfl dX0_sumOf_47 ?_
          refine lv_aload hx hb dX0_sumOf_50 (lv_at hl 0 rfl) ?_
          obtain ⟨fm25, hm25⟩ := hE15.he
          refine g_callF (As := []) (rest := [.int (iI (ce k9)), .int (iI s9)]) 0 hx hb hml hown hts hK hG hS hl.1 (mM_getValue hE15) hm25 rfl q1403 q1406 q1408 q108 q1410 q1405 q1404 q1409 q1407 q1396 (by decide +kernel) rfl ⟨Nat.le_of_ble_eq_true rfl, Nat.le_of_ble_eq_true rfl⟩ ⟨Nat.le_of_ble_eq_true rfl, Nat.le_of_ble_eq_true rfl⟩ (Nat.le_of_ble_eq_true rfl) dX0_sumOf_52 (kA (fun r26 σr26 H locs hp hG hS => ?_))
          obtain ⟨⟨κ27, rfl, hκ27⟩, rfl⟩ := hp
          refine g_castS hx hb hts hown hK hG hκ27 rfl q1143 dX0_sumOf_57 ?_
          refine g_getN (C := RX10) (T := TX10) (N := 1) (v := .int (iI (O (ce k9)))) hx hb hts hown hK hG hκ27 rfl in_X10 0 (by decide) q1149 rfl rfl dX0_sumOf_60 ?_
          refine g_imul hx hb dX0_sumOf_63 ?_
          refine lv_goto (tgt := 80) hx hb dX0_sumOf_64 (by decide) ?_
          refine g_iadd hx hb dX0_sumOf_80 ?_
          refine lv_istore_n (lv' := [(2, .int (iI (s9 + ((ce k9) * (O (ce k9)))))), (4, .ref en15), (3, .ref it7), (0, .ref mp), (1, .int (iI b9))]) hx hb dX0_sumOf_81 rfl hl (by decide) rfl (fun ls hl => ?_)
          refine lv_goto (tgt := 12) hx hb dX0_sumOf_82 (by decide) ?_
          exact ih_12 σr14 (s9 + ((ce k9) * (O (ce k9)))) (k9 + 1) (by omega) (hkp16) (hE15.I) (hlt13) (by rw [suQ, hs9]; first | rw [if_pos (by omega)] | rw [if_neg (by omega)])  _ _ _ hG hS (lv_sub hl [2, 0, 3, 4] rfl)
  exact loop_12 _ σr6 0 0 (Nat.lt_succ_self _) (hkp8) (hI7) (Nat.zero_le _) (rfl)  _ _ _ hG hS (lv_sub hl [0, 1, 2, 3] rfl)

set_option maxHeartbeats 8000000 in
theorem mX0_nthOf (l : Launch) (X : gX) (σ : gS) (mp nn : Nat) (ce : Nat → Int) (O : Int → Int) (hM : MapW σ mp nn ce O) (i : Int) (b9 : Int)  (h0 : -2147483648 ≤ i ∧ i ≤ 2147483647) (h1 : b9 = 0 ∨ b9 = 1) (h2 : nn ≤ 1024) : gMet l X yX0_nthOf cX0_nthOf 6 (some .int) 6 2 5 124 σ [.ref mp, .int (iI i), .int (iI b9)] (oI (fun r σ' => gKeep (fun t => t = 7 ∨ t = 15) σ σ' ∧ (r = (if 0 ≤ i ∧ i < (nn : Int) then (if b9 = 1 then ce i.toNat else O (ce i.toNat)) else -5) ∧ MapW σ' mp nn ce O))) := by
  refine gMet.of (by decide) (Nat.le_of_ble_eq_true rfl) ?_
  intro pp ee ss mm args below meth cd Q H locs ls hargs hx hb hr hlocks hml hown hnm hts hK hG hS hQ hl
  have hown : ss.vm.findClass RX0 = some mm.cls := hown
  have hl : lv_has ls 6 [(0, .ref mp), (1, .int (iI i)), (2, .int (iI b9))] := hl
  have hkp : gKeep (fun t => t = 7 ∨ t = 15) σ σ := gKeep.rf
  refine g_iconst hx hb dX0_nthOf_0 ?_
  refine lv_istore_n (lv' := [(3, .int (iI 0)), (0, .ref mp), (1, .int (iI i)), (2, .int (iI b9))]) hx hb dX0_nthOf_1 rfl hl (by decide) rfl (fun ls hl => ?_)
  refine lv_aload_n hx hb dX0_nthOf_2 rfl (lv_at hl 1 rfl) ?_
  obtain ⟨fm1, hm1⟩ := hM.hm
  obtain ⟨fm3, hm3⟩ := hM.hm
  refine g_callV (As := []) (rest := []) 0 hx hb hml hown hts hK hG hS hl.1 (mM_entrySet hM) hm3 rfl q1237 q1238 q1239 q75 q1240 (by decide +kernel) rfl ⟨Nat.le_of_ble_eq_true rfl, Nat.le_of_ble_eq_true rfl⟩ ⟨Nat.le_of_ble_eq_true rfl, Nat.le_of_ble_eq_true rfl⟩ (Nat.le_of_ble_eq_true rfl) dX0_nthOf_3 (kA (fun r2 σr2 H locs hp hG hS => ?_))
  obtain ⟨es4, rfl, hS4, kq4⟩ := hp
  have hkp5 : gKeep (fun t => t = 7 ∨ t = 15) σ σr2 := hkp.tr (kq4.mono (fun t (h : t = 7) => (by show t = 7 ∨ t = 15; omega)))
  refine g_callF (As := []) (rest := []) 0 hx hb hml hown hts hK hG hS hl.1 (mM_iterator ⟨hS4.1, hS4.2⟩) hS4.2 rfl q1252 q1256 q1258 q109 q1260 q1254 q1253 q1259 q1257 q1255 (by decide +kernel) rfl ⟨Nat.le_of_ble_eq_true rfl, Nat.le_of_ble_eq_true rfl⟩ ⟨Nat.le_of_ble_eq_true rfl, Nat.le_of_ble_eq_true rfl⟩ (Nat.le_of_ble_eq_true rfl) dX0_nthOf_6 (kA (fun r6 σr6 H locs hp hG hS => ?_))
  obtain ⟨it7, rfl, hI7, kq7⟩ := hp
  have hkp8 : gKeep (fun t => t = 7 ∨ t = 15) σ σr6 := hkp5.tr (kq7.mono (fun t (h : t = 15) => (by show t = 7 ∨ t = 15; omega)))
  refine lv_astore (lv' := [(4, .ref it7), (3, .int (iI 0)), (0, .ref mp), (1, .int (iI i)), (2, .int (iI b9))]) hx hb dX0_nthOf_11 hl (by decide) rfl (fun ls hl => ?_)
  have loop_13 : ∀ (nF : Nat) (σL : gS) (i9 : Int) (k9 : Nat), (nn - k9 : Nat) < nF → (gKeep (fun t => t = 7 ∨ t = 15) σ σL) → (MapI σL mp nn ce O it7 k9) → (i9 = (k9 : Int)) → (k9 ≤ nn) → (∀ j : Nat, j < k9 → (j : Int) ≠ i) → ∀ (H : Heap) (locs : List Loc) (ls : Array Slot), gSat X σL H → va_S (gA X) ss.heap H locs → lv_has ls 6 [(4, .ref it7), (3, .int (iI i9)), (0, .ref mp), (1, .int (iI i)), (2, .int (iI b9))] → W pp l ee (gR 6 2 5 124) ss mm args below meth cd H locs 2 5 Q (F0 mm 13 ls []) := by
    intro nF
    induction nF with
    | zero => intro σL i9 k9 hm; exact absurd hm (Nat.not_lt_zero _)
    | succ nF ih_13 =>
      intro σL i9 k9 hm hkL hIL hi9 hk9 hno H locs ls hG hS hl
      refine lv_aload hx hb dX0_nthOf_13 (lv_at hl 0 rfl) ?_
      obtain ⟨fm9, hm9⟩ := hIL.it
      refine g_callF (As := []) (rest := []) 0 hx hb hml hown hts hK hG hS hl.1 (mM_hasNext hIL) hm9 rfl q1349 q1353 q1355 q110 q1357 q1351 q1350 q1356 q1354 q1352 (by decide +kernel) rfl ⟨Nat.le_of_ble_eq_true rfl, Nat.le_of_ble_eq_true rfl⟩ ⟨Nat.le_of_ble_eq_true rfl, Nat.le_of_ble_eq_true rfl⟩ (Nat.le_of_ble_eq_true rfl) dX0_nthOf_15 (kI (fun r10 σr10 H locs hp hG hS => ?_))
      obtain ⟨hr10, rfl⟩ := hp
      have kr10 : r10 = 0 ∨ r10 = 1 := by rcases hr10 with ⟨h, -⟩ | ⟨h, -⟩ <;> omega
      refine g_if_eq (tgt := 80) hx hb dX0_nthOf_20 (by decide) (by omega) (fun cq11 => ?_) (fun cq11 => ?_)
      · refine g_bipush hx hb dX0_nthOf_80 (by decide) ?_
        exact g_iret hx hb hr hlocks hQ hG hS (Nat.le_of_ble_eq_true rfl) (Nat.le_of_ble_eq_true rfl) ⟨_, rfl, hkL, (⟨by
                  have hk : k9 = nn := by rcases hr10 with ⟨q, -⟩ | ⟨-, q⟩ <;> omega
                  rw [if_neg (fun q => hno i.toNat (by omega) (by omega))], hIL.W⟩)⟩ dX0_nthOf_82
      · refine lv_aload hx hb dX0_nthOf_23 (lv_at hl 0 rfl) ?_
        obtain ⟨fm12, hm12⟩ := hIL.it
        have hlt13 : k9 < nn := by rcases hr10 with ⟨-, h⟩ | ⟨h, -⟩; exact h; omega
        refine g_callF (As := []) (rest := []) 0 hx hb hml hown hts hK hG hS hl.1 (mM_next hIL hlt13) hm12 rfl q1362 q1365 q1367 q111 q1369 q1364 q1363 q1368 q1366 q1352 (by decide +kernel) rfl ⟨Nat.le_of_ble_eq_true rfl, Nat.le_of_ble_eq_true rfl⟩ ⟨Nat.le_of_ble_eq_true rfl, Nat.le_of_ble_eq_true rfl⟩ (Nat.le_of_ble_eq_true rfl) dX0_nthOf_25 (kA (fun r14 σr14 H locs hp hG hS => ?_))
        obtain ⟨en15, rfl, hE15, kq15⟩ := hp
        have hkp16 : gKeep (fun t => t = 7 ∨ t = 15) σ σr14 := hkL.tr (kq15.mono (fun t (h : t = 15) => (by show t = 7 ∨ t = 15; omega)))
        have hrg15 := hE15.I.W.rng hlt13
        obtain ⟨fm17, hm17⟩ := hE15.he
        refine g_castY hx hb hts hown hK hG hm17 rfl q1391 q1396 dX0_nthOf_30 ?_
        refine lv_astore (lv' := [(5, .ref en15), (4, .ref it7), (3, .int (iI i9)), (0, .ref mp), (1, .int (iI i)), (2, .int (iI b9))]) hx hb dX0_nthOf_33 hl (by decide) rfl (fun ls hl => ?_)
        refine lv_iload_n hx hb dX0_nthOf_35 rfl (lv_at hl 2 rfl) ?_
        refine lv_iload_n hx hb dX0_nthOf_36 rfl (lv_at hl 4 rfl) ?_
        refine g_icmp_ne (tgt := 74) hx hb dX0_nthOf_37 (by decide) (by omega) (by omega) (fun cq18 => ?_) (fun cq18 => ?_)
        · refine g_iinc (lv' := [(3, .int (iI (i9 + 1))), (5, .ref en15), (4, .ref it7), (0, .ref mp), (1, .int (iI i)), (2, .int (iI b9))]) hx hb dX0_nthOf_74 hl (k := 2) rfl (by decide) rfl (fun ls hl => ?_)
          refine lv_goto (tgt := 13) hx hb dX0_nthOf_77 (by decide) ?_
          exact ih_13 σr14 (i9 + 1) (k9 + 1) (by omega) (hkp16) (hE15.I) (by omega) (hlt13) (fun j h => by by_cases e : j = k9; omega; exact hno j (by omega))  _ _ _ hG hS (lv_sub hl [2, 0, 3, 4, 5] rfl)
        · refine lv_iload_n hx hb dX0_nthOf_40 rfl (lv_at hl 5 rfl) ?_
          refine g_if_eq (tgt := 60) hx hb dX0_nthOf_41 (by decide) (by omega) (fun cq19 => ?_) (fun cq19 => ?_)
          · refine lv_aload hx hb dX0_nthOf_60 (lv_at hl 0 rfl) ?_
            obtain ⟨fm20, hm20⟩ := hE15.he
            refine g_callF (As := []) (rest := []) 0 hx hb hml hown hts hK hG hS hl.1 (mM_getValue hE15) hm20 rfl q1403 q1406 q1408 q108 q1410 q1405 q1404 q1409 q1407 q1396 (by decide +kernel) rfl ⟨Nat.le_of_ble_eq_true rfl, Nat.le_of_ble_eq_true rfl⟩ ⟨Nat.le_of_ble_eq_true rfl, Nat.le_of_ble_eq_true rfl⟩ (Nat.le_of_ble_eq_true rfl) dX0_nthOf_62 (kA (fun r21 σr21 H locs hp hG hS => ?_))
            obtain ⟨⟨κ22, rfl, hκ22⟩, rfl⟩ := hp
            refine g_castS hx hb hts hown hK hG hκ22 rfl q1143 dX0_nthOf_67 ?_
            refine g_getN (C := RX10) (T := TX10) (N := 1) (v := .int (iI (O (ce k9)))) hx hb hts hown hK hG hκ22 rfl in_X10 0 (by decide) q1149 rfl rfl dX0_nthOf_70 ?_
            exact g_iret hx hb hr hlocks hQ hG hS (Nat.le_of_ble_eq_true rfl) (Nat.le_of_ble_eq_true rfl) ⟨_, rfl, hkp16, (⟨by rw [if_pos (by omega), show i.toNat = k9 by omega]; first | rw [if_pos (by omega)] | rw [if_neg (by omega)], hE15.I.W⟩)⟩ dX0_nthOf_73
          · refine lv_aload hx hb dX0_nthOf_44 (lv_at hl 0 rfl) ?_
            obtain ⟨fm23, hm23⟩ := hE15.he
            refine g_callF (As := []) (rest := []) 0 hx hb hml hown hts hK hG hS hl.1 (mM_getKey hE15) hm23 rfl q1393 q1397 q1399 q108 q1401 q1395 q1394 q1400 q1398 q1396 (by decide +kernel) rfl ⟨Nat.le_of_ble_eq_true rfl, Nat.le_of_ble_eq_true rfl⟩ ⟨Nat.le_of_ble_eq_true rfl, Nat.le_of_ble_eq_true rfl⟩ (Nat.le_of_ble_eq_true rfl) dX0_nthOf_46 (kA (fun r24 σr24 H locs hp hG hS => ?_))
            obtain ⟨⟨κ25, rfl, hκ25⟩, rfl⟩ := hp
            refine g_castS hx hb hts hown hK hG hκ25 rfl q1110 dX0_nthOf_51 ?_
            refine g_getN (C := RX9) (T := TX9) (N := 1) (v := .int (iI (ce k9))) hx hb hts hown hK hG hκ25 rfl in_X9 0 (by decide) q1117 rfl rfl dX0_nthOf_54 ?_
            refine lv_goto (tgt := 73) hx hb dX0_nthOf_57 (by decide) ?_
            exact g_iret hx hb hr hlocks hQ hG hS (Nat.le_of_ble_eq_true rfl) (Nat.le_of_ble_eq_true rfl) ⟨_, rfl, hkp16, (⟨by rw [if_pos (by omega), show i.toNat = k9 by omega]; first | rw [if_pos (by omega)] | rw [if_neg (by omega)], hE15.I.W⟩)⟩ dX0_nthOf_73
  exact loop_13 _ σr6 0 0 (Nat.lt_succ_self _) (hkp8) (hI7) (rfl) (Nat.zero_le _) (fun j h => absurd h (Nat.not_lt_zero _))  _ _ _ hG hS (lv_sub hl [0, 1, 2, 3, 4] rfl)

set_option maxHeartbeats 8000000 in
theorem mX0_cycles (l : Launch) (X : gX) (σ : gS) (b : Nat → Nat) (U : Nat → Int → Int) (J : Nat → Int) (R : Int → Option Nat) (hX : XW X σ b U J R) (hT : okT (U 20)) (k : Int) (w9 : Int)  (h0 : -2147483648 ≤ k ∧ k ≤ 2147483647) (h1 : -2147483648 ≤ w9 ∧ w9 ≤ 2147483647) : gMet l X yX0_cycles cX0_cycles 4 (some .int) 11 3082 8215 3147 σ [.ref (b 0), .int (iI k), .int (iI w9)] (oI (fun r σ' => gKeep (fun t => t = 1 ∨ t = 7 ∨ t = 12 ∨ t = 15) σ σ' ∧ (∃ (U' : Nat → Int → Int) (J' : Nat → Int), XW X σ' b U' J' R ∧ okT (U' 20) ∧ (r = (if ((0 ≤ k ∧ k ≤ 31) ∧ (0 ≤ w9 ∧ w9 ≤ 2 ∨ 10 ≤ w9 ∧ w9 ≤ 89)) then cycZ (U 20) k w9 else -1) ∧ (∀ q, q ≠ 8 → q ≠ 10 → U' q = U q) ∧ (∀ q, q ≠ 9 → J' q = J q))))) := by
  refine gMet.of (by decide) (Nat.le_of_ble_eq_true rfl) ?_
  intro pp ee ss mm args below meth cd Q H locs ls hargs hx hb hr hlocks hml hown hnm hts hK hG hS hQ hl
  have hown : ss.vm.findClass RX0 = some mm.cls := hown
  have hl : lv_has ls 4 [(0, .ref (b 0)), (1, .int (iI k)), (2, .int (iI w9))] := hl
  have hkp : gKeep (fun t => t = 1 ∨ t = 7 ∨ t = 12 ∨ t = 15) σ σ := gKeep.rf
  refine lv_iload_n hx hb dX0_cycles_0 rfl (lv_at hl 1 rfl) ?_
  refine g_callS (As := [.int (iI k)]) (rest := []) 1 hx hb hml hown hts hK hG hS hl.1 (mX0_isCoordinate l X σ  k (by omega)) q594 q595 q69 q596 (by decide +kernel) rfl ⟨Nat.le_of_ble_eq_true rfl, Nat.le_of_ble_eq_true rfl⟩ ⟨Nat.le_of_ble_eq_true rfl, Nat.le_of_ble_eq_true rfl⟩ (Nat.le_of_ble_eq_true rfl) dX0_cycles_1 (kI (fun r1 σr1 H locs hp hG hS => ?_))
  obtain ⟨hr1, rfl⟩ := hp
  refine g_if_eq (tgt := 47) hx hb dX0_cycles_4 (by decide) (by omega) (fun cq2 => ?_) (fun cq2 => ?_)
  · refine g_iconst hx hb dX0_cycles_47 ?_
    exact g_iret hx hb hr hlocks hQ hG hS (Nat.zero_le _) (Nat.zero_le _) ⟨_, rfl, hkp, (⟨U, J, hX, hT, (⟨by rw [if_neg (by omega)], fun q h1 h2 => rfl, fun q h => rfl⟩)⟩)⟩ dX0_cycles_48
  · refine lv_iload_n hx hb dX0_cycles_7 rfl (lv_at hl 2 rfl) ?_
    refine g_i2l hx hb dX0_cycles_8 (by omega) ?_
    refine lv_lconst (v := lI 0) hx hb dX0_cycles_9 (by decide) ?_
    refine g_ldc2 hx hb (2) hown (hts _ q500) (by decide) dX0_cycles_10 ?_
    refine g_callS (As := [.long (lI w9), .long (lI 0), .long (lI (2))]) (rest := []) 3 hx hb hml hown hts hK hG hS hl.1 (mX0_isIn l X σ  w9 0 (2) (by omega) (by omega) (by omega)) q494 q495 q69 q496 (by decide +kernel) rfl ⟨Nat.le_of_ble_eq_true rfl, Nat.le_of_ble_eq_true rfl⟩ ⟨Nat.le_of_ble_eq_true rfl, Nat.le_of_ble_eq_true rfl⟩ (Nat.le_of_ble_eq_true rfl) dX0_cycles_13 (kI (fun r3 σr3 H locs hp hG hS => ?_))
    obtain ⟨hr3, rfl⟩ := hp
    refine g_if_ne (tgt := 49) hx hb dX0_cycles_16 (by decide) (by omega) (fun cq4 => ?_) (fun cq4 => ?_)
    · refine lv_aload_n hx hb dX0_cycles_49 rfl (lv_at hl 0 rfl) ?_
      refine lv_iload_n hx hb dX0_cycles_50 rfl (lv_at hl 1 rfl) ?_
      refine g_callV (As := [.int (iI k)]) (rest := []) 1 hx hb hml hown hts hK hG hS hl.1 (mX0_cyclesOf l X σ b U J R hX hT k (by omega)) hX.c0 rfl q1100 q1102 qs27 q69 q1103 (by decide +kernel) rfl ⟨Nat.le_of_ble_eq_true rfl, Nat.le_of_ble_eq_true rfl⟩ ⟨Nat.le_of_ble_eq_true rfl, Nat.le_of_ble_eq_true rfl⟩ (Nat.le_of_ble_eq_true rfl) dX0_cycles_51 (kA (fun r5 σr5 H locs hp hG hS => ?_))
      obtain ⟨kq6, mp6, n6, cd6, rfl, hM6, hcy6, hn6, U6, J6, hX6, hT6, hu6, hj6⟩ := hp
      have hkp7 : gKeep (fun t => t = 1 ∨ t = 7 ∨ t = 12 ∨ t = 15) σ σr5 := hkp.tr (kq6.mono (fun t (h : t = 1 ∨ t = 7 ∨ t = 12) => (by show t = 1 ∨ t = 7 ∨ t = 12 ∨ t = 15; omega)))
      obtain ⟨hL1, hL2⟩ := cyK_L hM6 hcy6
      refine lv_astore_n (lv' := [(3, .ref mp6), (0, .ref (b 0)), (1, .int (iI k)), (2, .int (iI w9))]) hx hb dX0_cycles_54 rfl hl (by decide) rfl (fun ls hl => ?_)
      refine lv_iload_n hx hb dX0_cycles_55 rfl (lv_at hl 3 rfl) ?_
      refine g_iconst hx hb dX0_cycles_56 ?_
      refine g_icmp_ne (tgt := 65) hx hb dX0_cycles_57 (by decide) (by omega) (by omega) (fun cq8 => ?_) (fun cq8 => ?_)
      · refine lv_iload_n hx hb dX0_cycles_65 rfl (lv_at hl 3 rfl) ?_
        refine g_iconst hx hb dX0_cycles_66 ?_
        refine g_icmp_ge (tgt := 85) hx hb dX0_cycles_67 (by decide) (by omega) (by omega) (fun cq9 => ?_) (fun cq9 => ?_)
        · refine lv_iload_n hx hb dX0_cycles_85 rfl (lv_at hl 3 rfl) ?_
          refine g_bipush hx hb dX0_cycles_86 (by decide) ?_
          refine g_icmp_ge (tgt := 103) hx hb dX0_cycles_88 (by decide) (by omega) (by omega) (fun cq10 => ?_) (fun cq10 => ?_)
          · refine lv_aload_n hx hb dX0_cycles_103 rfl (lv_at hl 0 rfl) ?_
            refine lv_iload_n hx hb dX0_cycles_104 rfl (lv_at hl 3 rfl) ?_
            refine g_bipush hx hb dX0_cycles_105 (by decide) ?_
            refine g_isub hx hb dX0_cycles_107 ?_
            refine g_iconst hx hb dX0_cycles_108 ?_
            refine g_callS (As := [.ref mp6, .int (iI (w9 - 50)), .int (iI 0)]) (rest := []) 3 hx hb hml hown hts hK hG hS hl.1 (mX0_nthOf l X σr5 mp6 n6 cd6 ((cyA (U 20) k 1024).2) hM6 (w9 - 50) 0 (by first | assumption | omega) (by first | assumption | omega) (by first | assumption | omega)) q1411 q1412 q69 q1413 (by decide +kernel) rfl ⟨Nat.le_of_ble_eq_true rfl, Nat.le_of_ble_eq_true rfl⟩ ⟨Nat.le_of_ble_eq_true rfl, Nat.le_of_ble_eq_true rfl⟩ (Nat.le_of_ble_eq_true rfl) dX0_cycles_109 (kI (fun r11 σr11 H locs hp hG hS => ?_))
            obtain ⟨kq12, hv12, hM_12⟩ := hp
            have hX_13 : XW X σr11 b U6 J6 R := hX6.keep kq12 (by first | decide | omega | (intro q9; dsimp only at q9; omega))
            have hkp13 : gKeep (fun t => t = 1 ∨ t = 7 ∨ t = 12 ∨ t = 15) σ σr11 := hkp7.tr (kq12.mono (fun t (h : t = 7 ∨ t = 15) => (by show t = 1 ∨ t = 7 ∨ t = 12 ∨ t = 15; omega)))
            exact g_iret hx hb hr hlocks hQ hG hS (Nat.le_of_ble_eq_true rfl) (Nat.le_of_ble_eq_true rfl) ⟨_, rfl, hkp13, (⟨U6, J6, hX_13, hT6, (⟨by
                      rw [if_pos (by omega)]; unfold cycZ cycA; 
                      rw [if_neg (by omega), if_neg (by omega), if_neg (by omega), if_neg (by omega), hv12, ← hL1]
                      by_cases hq : w9 - 50 < (n6 : Int)
                      · rw [if_pos ⟨by omega, hq⟩, if_pos hq, hL2 _ (by omega)]; rfl
                      · rw [if_neg (by omega), if_neg hq], hu6, hj6⟩)⟩)⟩ dX0_cycles_112
          · refine lv_aload_n hx hb dX0_cycles_91 rfl (lv_at hl 0 rfl) ?_
            refine lv_iload_n hx hb dX0_cycles_92 rfl (lv_at hl 3 rfl) ?_
            refine g_bipush hx hb dX0_cycles_93 (by decide) ?_
            refine g_isub hx hb dX0_cycles_95 ?_
            refine g_iconst hx hb dX0_cycles_96 ?_
            refine g_callS (As := [.ref mp6, .int (iI (w9 - 10)), .int (iI 1)]) (rest := []) 3 hx hb hml hown hts hK hG hS hl.1 (mX0_nthOf l X σr5 mp6 n6 cd6 ((cyA (U 20) k 1024).2) hM6 (w9 - 10) 1 (by first | assumption | omega) (by first | assumption | omega) (by first | assumption | omega)) q1411 q1412 q69 q1413 (by decide +kernel) rfl ⟨Nat.le_of_ble_eq_true rfl, Nat.le_of_ble_eq_true rfl⟩ ⟨Nat.le_of_ble_eq_true rfl, Nat.le_of_ble_eq_true rfl⟩ (Nat.le_of_ble_eq_true rfl) dX0_cycles_97 (kI (fun r14 σr14 H locs hp hG hS => ?_))
            obtain ⟨kq15, hv15, hM_15⟩ := hp
            have hX_16 : XW X σr14 b U6 J6 R := hX6.keep kq15 (by first | decide | omega | (intro q9; dsimp only at q9; omega))
            have hkp16 : gKeep (fun t => t = 1 ∨ t = 7 ∨ t = 12 ∨ t = 15) σ σr14 := hkp7.tr (kq15.mono (fun t (h : t = 7 ∨ t = 15) => (by show t = 1 ∨ t = 7 ∨ t = 12 ∨ t = 15; omega)))
            refine lv_goto (tgt := 112) hx hb dX0_cycles_100 (by decide) ?_
            exact g_iret hx hb hr hlocks hQ hG hS (Nat.le_of_ble_eq_true rfl) (Nat.le_of_ble_eq_true rfl) ⟨_, rfl, hkp16, (⟨U6, J6, hX_16, hT6, (⟨by
                      rw [if_pos (by omega)]; unfold cycZ cycA; 
                      rw [if_neg (by omega), if_neg (by omega), if_neg (by omega), if_pos (by omega), hv15, ← hL1]
                      by_cases hq : w9 - 10 < (n6 : Int)
                      · rw [if_pos ⟨by omega, hq⟩, if_pos hq, hL2 _ (by omega)]; rfl
                      · rw [if_neg (by omega), if_neg hq], hu6, hj6⟩)⟩)⟩ dX0_cycles_112
        · refine lv_aload_n hx hb dX0_cycles_70 rfl (lv_at hl 0 rfl) ?_
          refine lv_iload_n hx hb dX0_cycles_71 rfl (lv_at hl 3 rfl) ?_
          refine g_iconst hx hb dX0_cycles_72 ?_
          refine g_icmp_ne (tgt := 80) hx hb dX0_cycles_73 (by decide) (by omega) (by omega) (fun cq17 => ?_) (fun cq17 => ?_)
          · refine g_iconst hx hb dX0_cycles_80 ?_
            refine g_callS (As := [.ref mp6, .int (iI 0)]) (rest := []) 2 hx hb hml hown hts hK hG hS hl.1 (mX0_sumOf l X σr5 mp6 n6 cd6 ((cyA (U 20) k 1024).2) hM6 0 (by first | assumption | omega)) q1234 q1235 q69 q1236 (by decide +kernel) rfl ⟨Nat.le_of_ble_eq_true rfl, Nat.le_of_ble_eq_true rfl⟩ ⟨Nat.le_of_ble_eq_true rfl, Nat.le_of_ble_eq_true rfl⟩ (Nat.le_of_ble_eq_true rfl) dX0_cycles_81 (kI (fun r18 σr18 H locs hp hG hS => ?_))
            obtain ⟨kq19, hv19, hM_19⟩ := hp
            have hX_20 : XW X σr18 b U6 J6 R := hX6.keep kq19 (by first | decide | omega | (intro q9; dsimp only at q9; omega))
            have hkp20 : gKeep (fun t => t = 1 ∨ t = 7 ∨ t = 12 ∨ t = 15) σ σr18 := hkp7.tr (kq19.mono (fun t (h : t = 7 ∨ t = 15) => (by show t = 1 ∨ t = 7 ∨ t = 12 ∨ t = 15; omega)))
            exact g_iret hx hb hr hlocks hQ hG hS (Nat.le_of_ble_eq_true rfl) (Nat.le_of_ble_eq_true rfl) ⟨_, rfl, hkp20, (⟨U6, J6, hX_20, hT6, (⟨by
                      rw [if_pos (by omega)]; unfold cycZ cycA; 
                      rw [if_pos (by omega), hv19, suQ_eq _ hL2, hL1, suQ_L]; congr 1, hu6, hj6⟩)⟩)⟩ dX0_cycles_84
          · refine g_iconst hx hb dX0_cycles_76 ?_
            refine lv_goto (tgt := 81) hx hb dX0_cycles_77 (by decide) ?_
            refine g_callS (As := [.ref mp6, .int (iI 1)]) (rest := []) 2 hx hb hml hown hts hK hG hS hl.1 (mX0_sumOf l X σr5 mp6 n6 cd6 ((cyA (U 20) k 1024).2) hM6 1 (by first | assumption | omega)) q1234 q1235 q69 q1236 (by decide +kernel) rfl ⟨Nat.le_of_ble_eq_true rfl, Nat.le_of_ble_eq_true rfl⟩ ⟨Nat.le_of_ble_eq_true rfl, Nat.le_of_ble_eq_true rfl⟩ (Nat.le_of_ble_eq_true rfl) dX0_cycles_81 (kI (fun r21 σr21 H locs hp hG hS => ?_))
            obtain ⟨kq22, hv22, hM_22⟩ := hp
            have hX_23 : XW X σr21 b U6 J6 R := hX6.keep kq22 (by first | decide | omega | (intro q9; dsimp only at q9; omega))
            have hkp23 : gKeep (fun t => t = 1 ∨ t = 7 ∨ t = 12 ∨ t = 15) σ σr21 := hkp7.tr (kq22.mono (fun t (h : t = 7 ∨ t = 15) => (by show t = 1 ∨ t = 7 ∨ t = 12 ∨ t = 15; omega)))
            exact g_iret hx hb hr hlocks hQ hG hS (Nat.le_of_ble_eq_true rfl) (Nat.le_of_ble_eq_true rfl) ⟨_, rfl, hkp23, (⟨U6, J6, hX_23, hT6, (⟨by
                      rw [if_pos (by omega)]; unfold cycZ cycA; 
                      rw [if_neg (by omega), if_pos (by omega), hv22, suQ_eq _ hL2, hL1, suQ_L]; congr 1, hu6, hj6⟩)⟩)⟩ dX0_cycles_84
      · refine lv_aload_n hx hb dX0_cycles_60 rfl (lv_at hl 0 rfl) ?_
        obtain ⟨fm24, hm24⟩ := hM6.hm
        obtain ⟨fm26, hm26⟩ := hM6.hm
        refine g_callV (As := []) (rest := []) 0 hx hb hml hown hts hK hG hS hl.1 (mM_size hM6) hm26 rfl q1230 q1231 q1232 q75 q1233 (by decide +kernel) rfl ⟨Nat.le_of_ble_eq_true rfl, Nat.le_of_ble_eq_true rfl⟩ ⟨Nat.le_of_ble_eq_true rfl, Nat.le_of_ble_eq_true rfl⟩ (Nat.le_of_ble_eq_true rfl) dX0_cycles_61 (kI (fun r25 σr25 H locs hp hG hS => ?_))
        obtain ⟨rfl, rfl⟩ := hp
        exact g_iret hx hb hr hlocks hQ hG hS (Nat.le_of_ble_eq_true rfl) (Nat.le_of_ble_eq_true rfl) ⟨_, rfl, hkp7, (⟨U6, J6, hX6, hT6, (⟨by rw [if_pos (by omega)]; unfold cycZ cycA; rw [if_neg (by omega), if_neg (by omega), if_pos (by omega), hL1], hu6, hj6⟩)⟩)⟩ dX0_cycles_64
    · refine lv_iload_n hx hb dX0_cycles_19 rfl (lv_at hl 2 rfl) ?_
      refine g_i2l hx hb dX0_cycles_20 (by omega) ?_
      refine g_ldc2 hx hb (10) hown (hts _ q1096) (by decide) dX0_cycles_21 ?_
      refine g_ldc2 hx hb (49) hown (hts _ q1097) (by decide) dX0_cycles_24 ?_
      refine g_callS (As := [.long (lI w9), .long (lI (10)), .long (lI (49))]) (rest := []) 3 hx hb hml hown hts hK hG hS hl.1 (mX0_isIn l X σ  w9 (10) (49) (by omega) (by omega) (by omega)) q494 q495 q69 q496 (by decide +kernel) rfl ⟨Nat.le_of_ble_eq_true rfl, Nat.le_of_ble_eq_true rfl⟩ ⟨Nat.le_of_ble_eq_true rfl, Nat.le_of_ble_eq_true rfl⟩ (Nat.le_of_ble_eq_true rfl) dX0_cycles_27 (kI (fun r27 σr27 H locs hp hG hS => ?_))
      obtain ⟨hr27, rfl⟩ := hp
      refine g_if_ne (tgt := 49) hx hb dX0_cycles_30 (by decide) (by omega) (fun cq28 => ?_) (fun cq28 => ?_)
      · refine lv_aload_n hx hb dX0_cycles_49 rfl (lv_at hl 0 rfl) ?_
        refine lv_iload_n hx hb dX0_cycles_50 rfl (lv_at hl 1 rfl) ?_
        refine g_callV (As := [.int (iI k)]) (rest := []) 1 hx hb hml hown hts hK hG hS hl.1 (mX0_cyclesOf l X σ b U J R hX hT k (by omega)) hX.c0 rfl q1100 q1102 qs27 q69 q1103 (by decide +kernel) rfl ⟨Nat.le_of_ble_eq_true rfl, Nat.le_of_ble_eq_true rfl⟩ ⟨Nat.le_of_ble_eq_true rfl, Nat.le_of_ble_eq_true rfl⟩ (Nat.le_of_ble_eq_true rfl) dX0_cycles_51 (kA (fun r29 σr29 H locs hp hG hS => ?_))
        obtain ⟨kq30, mp30, n30, cd30, rfl, hM30, hcy30, hn30, U30, J30, hX30, hT30, hu30, hj30⟩ := hp
        have hkp31 : gKeep (fun t => t = 1 ∨ t = 7 ∨ t = 12 ∨ t = 15) σ σr29 := hkp.tr (kq30.mono (fun t (h : t = 1 ∨ t = 7 ∨ t = 12) => (by show t = 1 ∨ t = 7 ∨ t = 12 ∨ t = 15; omega)))
        obtain ⟨hL1, hL2⟩ := cyK_L hM30 hcy30
        refine lv_astore_n (lv' := [(3, .ref mp30), (0, .ref (b 0)), (1, .int (iI k)), (2, .int (iI w9))]) hx hb dX0_cycles_54 rfl hl (by decide) rfl (fun ls hl => ?_)
        refine lv_iload_n hx hb dX0_cycles_55 rfl (lv_at hl 3 rfl) ?_
        refine g_iconst hx hb dX0_cycles_56 ?_
        refine g_icmp_ne (tgt := 65) hx hb dX0_cycles_57 (by decide) (by omega) (by omega) (fun cq32 => ?_) (fun cq32 => ?_)
        · refine lv_iload_n hx hb dX0_cycles_65 rfl (lv_at hl 3 rfl) ?_
          refine g_iconst hx hb dX0_cycles_66 ?_
          refine g_icmp_ge (tgt := 85) hx hb dX0_cycles_67 (by decide) (by omega) (by omega) (fun cq33 => ?_) (fun cq33 => ?_)
          · refine lv_iload_n hx hb dX0_cycles_85 rfl (lv_at hl 3 rfl) ?_
            refine g_bipush hx hb dX0_cycles_86 (by decide) ?_
            refine g_icmp_ge (tgt := 103) hx hb dX0_cycles_88 (by decide) (by omega) (by omega) (fun cq34 => ?_) (fun cq34 => ?_)
            · refine lv_aload_n hx hb dX0_cycles_103 rfl (lv_at hl 0 rfl) ?_
              refine lv_iload_n hx hb dX0_cycles_104 rfl (lv_at hl 3 rfl) ?_
              refine g_bipush hx hb dX0_cycles_105 (by decide) ?_
              refine g_isub hx hb dX0_cycles_107 ?_
              refine g_iconst hx hb dX0_cycles_108 ?_
              refine g_callS (As := [.ref mp30, .int (iI (w9 - 50)), .int (iI 0)]) (rest := []) 3 hx hb hml hown hts hK hG hS hl.1 (mX0_nthOf l X σr29 mp30 n30 cd30 ((cyA (U 20) k 1024).2) hM30 (w9 - 50) 0 (by first | assumption | omega) (by first | assumption | omega) (by first | assumption | omega)) q1411 q1412 q69 q1413 (by decide +kernel) rfl ⟨Nat.le_of_ble_eq_true rfl, Nat.le_of_ble_eq_true rfl⟩ ⟨Nat.le_of_ble_eq_true rfl, Nat.le_of_ble_eq_true rfl⟩ (Nat.le_of_ble_eq_true rfl) dX0_cycles_109 (kI (fun r35 σr35 H locs hp hG hS => ?_))
              obtain ⟨kq36, hv36, hM_36⟩ := hp
              have hX_37 : XW X σr35 b U30 J30 R := hX30.keep kq36 (by first | decide | omega | (intro q9; dsimp only at q9; omega))
              have hkp37 : gKeep (fun t => t = 1 ∨ t = 7 ∨ t = 12 ∨ t = 15) σ σr35 := hkp31.tr (kq36.mono (fun t (h : t = 7 ∨ t = 15) => (by show t = 1 ∨ t = 7 ∨ t = 12 ∨ t = 15; omega)))
              exact g_iret hx hb hr hlocks hQ hG hS (Nat.le_of_ble_eq_true rfl) (Nat.le_of_ble_eq_true rfl) ⟨_, rfl, hkp37, (⟨U30, J30, hX_37, hT30, (⟨by
                        rw [if_pos (by omega)]; unfold cycZ cycA; 
                        rw [if_neg (by omega), if_neg (by omega), if_neg (by omega), if_neg (by omega), hv36, ← hL1]
                        by_cases hq : w9 - 50 < (n30 : Int)
                        · rw [if_pos ⟨by omega, hq⟩, if_pos hq, hL2 _ (by omega)]; rfl
                        · rw [if_neg (by omega), if_neg hq], hu30, hj30⟩)⟩)⟩ dX0_cycles_112
            · refine lv_aload_n hx hb dX0_cycles_91 rfl (lv_at hl 0 rfl) ?_
              refine lv_iload_n hx hb dX0_cycles_92 rfl (lv_at hl 3 rfl) ?_
              refine g_bipush hx hb dX0_cycles_93 (by decide) ?_
              refine g_isub hx hb dX0_cycles_95 ?_
              refine g_iconst hx hb dX0_cycles_96 ?_
              refine g_callS (As := [.ref mp30, .int (iI (w9 - 10)), .int (iI 1)]) (rest := []) 3 hx hb hml hown hts hK hG hS hl.1 (mX0_nthOf l X σr29 mp30 n30 cd30 ((cyA (U 20) k 1024).2) hM30 (w9 - 10) 1 (by first | assumption | omega) (by first | assumption | omega) (by first | assumption | omega)) q1411 q1412 q69 q1413 (by decide +kernel) rfl ⟨Nat.le_of_ble_eq_true rfl, Nat.le_of_ble_eq_true rfl⟩ ⟨Nat.le_of_ble_eq_true rfl, Nat.le_of_ble_eq_true rfl⟩ (Nat.le_of_ble_eq_true rfl) dX0_cycles_97 (kI (fun r38 σr38 H locs hp hG hS => ?_))
              obtain ⟨kq39, hv39, hM_39⟩ := hp
              have hX_40 : XW X σr38 b U30 J30 R := hX30.keep kq39 (by first | decide | omega | (intro q9; dsimp only at q9; omega))
              have hkp40 : gKeep (fun t => t = 1 ∨ t = 7 ∨ t = 12 ∨ t = 15) σ σr38 := hkp31.tr (kq39.mono (fun t (h : t = 7 ∨ t = 15) => (by show t = 1 ∨ t = 7 ∨ t = 12 ∨ t = 15; omega)))
              refine lv_goto (tgt := 112) hx hb dX0_cycles_100 (by decide) ?_
              exact g_iret hx hb hr hlocks hQ hG hS (Nat.le_of_ble_eq_true rfl) (Nat.le_of_ble_eq_true rfl) ⟨_, rfl, hkp40, (⟨U30, J30, hX_40, hT30, (⟨by
                        rw [if_pos (by omega)]; unfold cycZ cycA; 
                        rw [if_neg (by omega), if_neg (by omega), if_neg (by omega), if_pos (by omega), hv39, ← hL1]
                        by_cases hq : w9 - 10 < (n30 : Int)
                        · rw [if_pos ⟨by omega, hq⟩, if_pos hq, hL2 _ (by omega)]; rfl
                        · rw [if_neg (by omega), if_neg hq], hu30, hj30⟩)⟩)⟩ dX0_cycles_112
          · refine lv_aload_n hx hb dX0_cycles_70 rfl (lv_at hl 0 rfl) ?_
            refine lv_iload_n hx hb dX0_cycles_71 rfl (lv_at hl 3 rfl) ?_
            refine g_iconst hx hb dX0_cycles_72 ?_
            refine g_icmp_ne (tgt := 80) hx hb dX0_cycles_73 (by decide) (by omega) (by omega) (fun cq41 => ?_) (fun cq41 => ?_)
            · refine g_iconst hx hb dX0_cycles_80 ?_
              refine g_callS (As := [.ref mp30, .int (iI 0)]) (rest := []) 2 hx hb hml hown hts hK hG hS hl.1 (mX0_sumOf l X σr29 mp30 n30 cd30 ((cyA (U 20) k 1024).2) hM30 0 (by first | assumption | omega)) q1234 q1235 q69 q1236 (by decide +kernel) rfl ⟨Nat.le_of_ble_eq_true rfl, Nat.le_of_ble_eq_true rfl⟩ ⟨Nat.le_of_ble_eq_true rfl, Nat.le_of_ble_eq_true rfl⟩ (Nat.le_of_ble_eq_true rfl) dX0_cycles_81 (kI (fun r42 σr42 H locs hp hG hS => ?_))
              obtain ⟨kq43, hv43, hM_43⟩ := hp
              have hX_44 : XW X σr42 b U30 J30 R := hX30.keep kq43 (by first | decide | omega | (intro q9; dsimp only at q9; omega))
              have hkp44 : gKeep (fun t => t = 1 ∨ t = 7 ∨ t = 12 ∨ t = 15) σ σr42 := hkp31.tr (kq43.mono (fun t (h : t = 7 ∨ t = 15) => (by show t = 1 ∨ t = 7 ∨ t = 12 ∨ t = 15; omega)))
              exact g_iret hx hb hr hlocks hQ hG hS (Nat.le_of_ble_eq_true rfl) (Nat.le_of_ble_eq_true rfl) ⟨_, rfl, hkp44, (⟨U30, J30, hX_44, hT30, (⟨by
                        rw [if_pos (by omega)]; unfold cycZ cycA; 
                        rw [if_pos (by omega), hv43, suQ_eq _ hL2, hL1, suQ_L]; congr 1, hu30, hj30⟩)⟩)⟩ dX0_cycles_84
            · refine g_iconst hx hb dX0_cycles_76 ?_
              refine lv_goto (tgt := 81) hx hb dX0_cycles_77 (by decide) ?_
              refine g_callS (As := [.ref mp30, .int (iI 1)]) (rest := []) 2 hx hb hml hown hts hK hG hS hl.1 (mX0_sumOf l X σr29 mp30 n30 cd30 ((cyA (U 20) k 1024).2) hM30 1 (by first | assumption | omega)) q1234 q1235 q69 q1236 (by decide +kernel) rfl ⟨Nat.le_of_ble_eq_true rfl, Nat.le_of_ble_eq_true rfl⟩ ⟨Nat.le_of_ble_eq_true rfl, Nat.le_of_ble_eq_true rfl⟩ (Nat.le_of_ble_eq_true rfl) dX0_cycles_81 (kI (fun r45 σr45 H locs hp hG hS => ?_))
              obtain ⟨kq46, hv46, hM_46⟩ := hp
              have hX_47 : XW X σr45 b U30 J30 R := hX30.keep kq46 (by first | decide | omega | (intro q9; dsimp only at q9; omega))
              have hkp47 : gKeep (fun t => t = 1 ∨ t = 7 ∨ t = 12 ∨ t = 15) σ σr45 := hkp31.tr (kq46.mono (fun t (h : t = 7 ∨ t = 15) => (by show t = 1 ∨ t = 7 ∨ t = 12 ∨ t = 15; omega)))
              exact g_iret hx hb hr hlocks hQ hG hS (Nat.le_of_ble_eq_true rfl) (Nat.le_of_ble_eq_true rfl) ⟨_, rfl, hkp47, (⟨U30, J30, hX_47, hT30, (⟨by
                        rw [if_pos (by omega)]; unfold cycZ cycA; 
                        rw [if_neg (by omega), if_pos (by omega), hv46, suQ_eq _ hL2, hL1, suQ_L]; congr 1, hu30, hj30⟩)⟩)⟩ dX0_cycles_84
        · refine lv_aload_n hx hb dX0_cycles_60 rfl (lv_at hl 0 rfl) ?_
          obtain ⟨fm48, hm48⟩ := hM30.hm
          obtain ⟨fm50, hm50⟩ := hM30.hm
          refine g_callV (As := []) (rest := []) 0 hx hb hml hown hts hK hG hS hl.1 (mM_size hM30) hm50 rfl q1230 q1231 q1232 q75 q1233 (by decide +kernel) rfl ⟨Nat.le_of_ble_eq_true rfl, Nat.le_of_ble_eq_true rfl⟩ ⟨Nat.le_of_ble_eq_true rfl, Nat.le_of_ble_eq_true rfl⟩ (Nat.le_of_ble_eq_true rfl) dX0_cycles_61 (kI (fun r49 σr49 H locs hp hG hS => ?_))
          obtain ⟨rfl, rfl⟩ := hp
          exact g_iret hx hb hr hlocks hQ hG hS (Nat.le_of_ble_eq_true rfl) (Nat.le_of_ble_eq_true rfl) ⟨_, rfl, hkp31, (⟨U30, J30, hX30, hT30, (⟨by rw [if_pos (by omega)]; unfold cycZ cycA; rw [if_neg (by omega), if_neg (by omega), if_pos (by omega), hL1], hu30, hj30⟩)⟩)⟩ dX0_cycles_64
      · refine lv_iload_n hx hb dX0_cycles_33 rfl (lv_at hl 2 rfl) ?_
        refine g_i2l hx hb dX0_cycles_34 (by omega) ?_
        refine g_ldc2 hx hb (50) hown (hts _ q1098) (by decide) dX0_cycles_35 ?_
        refine g_ldc2 hx hb (89) hown (hts _ q1099) (by decide) dX0_cycles_38 ?_
        refine g_callS (As := [.long (lI w9), .long (lI (50)), .long (lI (89))]) (rest := []) 3 hx hb hml hown hts hK hG hS hl.1 (mX0_isIn l X σ  w9 (50) (89) (by omega) (by omega) (by omega)) q494 q495 q69 q496 (by decide +kernel) rfl ⟨Nat.le_of_ble_eq_true rfl, Nat.le_of_ble_eq_true rfl⟩ ⟨Nat.le_of_ble_eq_true rfl, Nat.le_of_ble_eq_true rfl⟩ (Nat.le_of_ble_eq_true rfl) dX0_cycles_41 (kI (fun r51 σr51 H locs hp hG hS => ?_))
        obtain ⟨hr51, rfl⟩ := hp
        refine g_if_ne (tgt := 49) hx hb dX0_cycles_44 (by decide) (by omega) (fun cq52 => ?_) (fun cq52 => ?_)
        · refine lv_aload_n hx hb dX0_cycles_49 rfl (lv_at hl 0 rfl) ?_
          refine lv_iload_n hx hb dX0_cycles_50 rfl (lv_at hl 1 rfl) ?_
          refine g_callV (As := [.int (iI k)]) (rest := []) 1 hx hb hml hown hts hK hG hS hl.1 (mX0_cyclesOf l X σ b U J R hX hT k (by omega)) hX.c0 rfl q1100 q1102 qs27 q69 q1103 (by decide +kernel) rfl ⟨Nat.le_of_ble_eq_true rfl, Nat.le_of_ble_eq_true rfl⟩ ⟨Nat.le_of_ble_eq_true rfl, Nat.le_of_ble_eq_true rfl⟩ (Nat.le_of_ble_eq_true rfl) dX0_cycles_51 (kA (fun r53 σr53 H locs hp hG hS => ?_))
          obtain ⟨kq54, mp54, n54, cd54, rfl, hM54, hcy54, hn54, U54, J54, hX54, hT54, hu54, hj54⟩ := hp
          have hkp55 : gKeep (fun t => t = 1 ∨ t = 7 ∨ t = 12 ∨ t = 15) σ σr53 := hkp.tr (kq54.mono (fun t (h : t = 1 ∨ t = 7 ∨ t = 12) => (by show t = 1 ∨ t = 7 ∨ t = 12 ∨ t = 15; omega)))
          obtain ⟨hL1, hL2⟩ := cyK_L hM54 hcy54
          refine lv_astore_n (lv' := [(3, .ref mp54), (0, .ref (b 0)), (1, .int (iI k)), (2, .int (iI w9))]) hx hb dX0_cycles_54 rfl hl (by decide) rfl (fun ls hl => ?_)
          refine lv_iload_n hx hb dX0_cycles_55 rfl (lv_at hl 3 rfl) ?_
          refine g_iconst hx hb dX0_cycles_56 ?_
          refine g_icmp_ne (tgt := 65) hx hb dX0_cycles_57 (by decide) (by omega) (by omega) (fun cq56 => ?_) (fun cq56 => ?_)
          · refine lv_iload_n hx hb dX0_cycles_65 rfl (lv_at hl 3 rfl) ?_
            refine g_iconst hx hb dX0_cycles_66 ?_
            refine g_icmp_ge (tgt := 85) hx hb dX0_cycles_67 (by decide) (by omega) (by omega) (fun cq57 => ?_) (fun cq57 => ?_)
            · refine lv_iload_n hx hb dX0_cycles_85 rfl (lv_at hl 3 rfl) ?_
              refine g_bipush hx hb dX0_cycles_86 (by decide) ?_
              refine g_icmp_ge (tgt := 103) hx hb dX0_cycles_88 (by decide) (by omega) (by omega) (fun cq58 => ?_) (fun cq58 => ?_)
              · refine lv_aload_n hx hb dX0_cycles_103 rfl (lv_at hl 0 rfl) ?_
                refine lv_iload_n hx hb dX0_cycles_104 rfl (lv_at hl 3 rfl) ?_
                refine g_bipush hx hb dX0_cycles_105 (by decide) ?_
                refine g_isub hx hb dX0_cycles_107 ?_
                refine g_iconst hx hb dX0_cycles_108 ?_
                refine g_callS (As := [.ref mp54, .int (iI (w9 - 50)), .int (iI 0)]) (rest := []) 3 hx hb hml hown hts hK hG hS hl.1 (mX0_nthOf l X σr53 mp54 n54 cd54 ((cyA (U 20) k 1024).2) hM54 (w9 - 50) 0 (by first | assumption | omega) (by first | assumption | omega) (by first | assumption | omega)) q1411 q1412 q69 q1413 (by decide +kernel) rfl ⟨Nat.le_of_ble_eq_true rfl, Nat.le_of_ble_eq_true rfl⟩ ⟨Nat.le_of_ble_eq_true rfl, Nat.le_of_ble_eq_true rfl⟩ (Nat.le_of_ble_eq_true rfl) dX0_cycles_109 (kI (fun r59 σr59 H locs hp hG hS => ?_))
                obtain ⟨kq60, hv60, hM_60⟩ := hp
                have hX_61 : XW X σr59 b U54 J54 R := hX54.keep kq60 (by first | decide | omega | (intro q9; dsimp only at q9; omega))
                have hkp61 : gKeep (fun t => t = 1 ∨ t = 7 ∨ t = 12 ∨ t = 15) σ σr59 := hkp55.tr (kq60.mono (fun t (h : t = 7 ∨ t = 15) => (by show t = 1 ∨ t = 7 ∨ t = 12 ∨ t = 15; omega)))
                exact g_iret hx hb hr hlocks hQ hG hS (Nat.le_of_ble_eq_true rfl) (Nat.le_of_ble_eq_true rfl) ⟨_, rfl, hkp61, (⟨U54, J54, hX_61, hT54, (⟨by
                          rw [if_pos (by omega)]; unfold cycZ cycA; 
                          rw [if_neg (by omega), if_neg (by omega), if_neg (by omega), if_neg (by omega), hv60, ← hL1]
                          by_cases hq : w9 - 50 < (n54 : Int)
                          · rw [if_pos ⟨by omega, hq⟩, if_pos hq, hL2 _ (by omega)]; rfl
                          · rw [if_neg (by omega), if_neg hq], hu54, hj54⟩)⟩)⟩ dX0_cycles_112
              · refine lv_aload_n hx hb dX0_cycles_91 rfl (lv_at hl 0 rfl) ?_
                refine lv_iload_n hx hb dX0_cycles_92 rfl (lv_at hl 3 rfl) ?_
                refine g_bipush hx hb dX0_cycles_93 (by decide) ?_
                refine g_isub hx hb dX0_cycles_95 ?_
                refine g_iconst hx hb dX0_cycles_96 ?_
                refine g_callS (As := [.ref mp54, .int (iI (w9 - 10)), .int (iI 1)]) (rest := []) 3 hx hb hml hown hts hK hG hS hl.1 (mX0_nthOf l X σr53 mp54 n54 cd54 ((cyA (U 20) k 1024).2) hM54 (w9 - 10) 1 (by first | assumption | omega) (by first | assumption | omega) (by first | assumption | omega)) q1411 q1412 q69 q1413 (by decide +kernel) rfl ⟨Nat.le_of_ble_eq_true rfl, Nat.le_of_ble_eq_true rfl⟩ ⟨Nat.le_of_ble_eq_true rfl, Nat.le_of_ble_eq_true rfl⟩ (Nat.le_of_ble_eq_true rfl) dX0_cycles_97 (kI (fun r62 σr62 H locs hp hG hS => ?_))
                obtain ⟨kq63, hv63, hM_63⟩ := hp
                have hX_64 : XW X σr62 b U54 J54 R := hX54.keep kq63 (by first | decide | omega | (intro q9; dsimp only at q9; omega))
                have hkp64 : gKeep (fun t => t = 1 ∨ t = 7 ∨ t = 12 ∨ t = 15) σ σr62 := hkp55.tr (kq63.mono (fun t (h : t = 7 ∨ t = 15) => (by show t = 1 ∨ t = 7 ∨ t = 12 ∨ t = 15; omega)))
                refine lv_goto (tgt := 112) hx hb dX0_cycles_100 (by decide) ?_
                exact g_iret hx hb hr hlocks hQ hG hS (Nat.le_of_ble_eq_true rfl) (Nat.le_of_ble_eq_true rfl) ⟨_, rfl, hkp64, (⟨U54, J54, hX_64, hT54, (⟨by
                          rw [if_pos (by omega)]; unfold cycZ cycA; 
                          rw [if_neg (by omega), if_neg (by omega), if_neg (by omega), if_pos (by omega), hv63, ← hL1]
                          by_cases hq : w9 - 10 < (n54 : Int)
                          · rw [if_pos ⟨by omega, hq⟩, if_pos hq, hL2 _ (by omega)]; rfl
                          · rw [if_neg (by omega), if_neg hq], hu54, hj54⟩)⟩)⟩ dX0_cycles_112
            · refine lv_aload_n hx hb dX0_cycles_70 rfl (lv_at hl 0 rfl) ?_
              refine lv_iload_n hx hb dX0_cycles_71 rfl (lv_at hl 3 rfl) ?_
              refine g_iconst hx hb dX0_cycles_72 ?_
              refine g_icmp_ne (tgt := 80) hx hb dX0_cycles_73 (by decide) (by omega) (by omega) (fun cq65 => ?_) (fun cq65 => ?_)
              · refine g_iconst hx hb dX0_cycles_80 ?_
                refine g_callS (As := [.ref mp54, .int (iI 0)]) (rest := []) 2 hx hb hml hown hts hK hG hS hl.1 (mX0_sumOf l X σr53 mp54 n54 cd54 ((cyA (U 20) k 1024).2) hM54 0 (by first | assumption | omega)) q1234 q1235 q69 q1236 (by decide +kernel) rfl ⟨Nat.le_of_ble_eq_true rfl, Nat.le_of_ble_eq_true rfl⟩ ⟨Nat.le_of_ble_eq_true rfl, Nat.le_of_ble_eq_true rfl⟩ (Nat.le_of_ble_eq_true rfl) dX0_cycles_81 (kI (fun r66 σr66 H locs hp hG hS => ?_))
                obtain ⟨kq67, hv67, hM_67⟩ := hp
                have hX_68 : XW X σr66 b U54 J54 R := hX54.keep kq67 (by first | decide | omega | (intro q9; dsimp only at q9; omega))
                have hkp68 : gKeep (fun t => t = 1 ∨ t = 7 ∨ t = 12 ∨ t = 15) σ σr66 := hkp55.tr (kq67.mono (fun t (h : t = 7 ∨ t = 15) => (by show t = 1 ∨ t = 7 ∨ t = 12 ∨ t = 15; omega)))
                exact g_iret hx hb hr hlocks hQ hG hS (Nat.le_of_ble_eq_true rfl) (Nat.le_of_ble_eq_true rfl) ⟨_, rfl, hkp68, (⟨U54, J54, hX_68, hT54, (⟨by
                          rw [if_pos (by omega)]; unfold cycZ cycA; 
                          rw [if_pos (by omega), hv67, suQ_eq _ hL2, hL1, suQ_L]; congr 1, hu54, hj54⟩)⟩)⟩ dX0_cycles_84
              · refine g_iconst hx hb dX0_cycles_76 ?_
                refine lv_goto (tgt := 81) hx hb dX0_cycles_77 (by decide) ?_
                refine g_callS (As := [.ref mp54, .int (iI 1)]) (rest := []) 2 hx hb hml hown hts hK hG hS hl.1 (mX0_sumOf l X σr53 mp54 n54 cd54 ((cyA (U 20) k 1024).2) hM54 1 (by first | assumption | omega)) q1234 q1235 q69 q1236 (by decide +kernel) rfl ⟨Nat.le_of_ble_eq_true rfl, Nat.le_of_ble_eq_true rfl⟩ ⟨Nat.le_of_ble_eq_true rfl, Nat.le_of_ble_eq_true rfl⟩ (Nat.le_of_ble_eq_true rfl) dX0_cycles_81 (kI (fun r69 σr69 H locs hp hG hS => ?_))
                obtain ⟨kq70, hv70, hM_70⟩ := hp
                have hX_71 : XW X σr69 b U54 J54 R := hX54.keep kq70 (by first | decide | omega | (intro q9; dsimp only at q9; omega))
                have hkp71 : gKeep (fun t => t = 1 ∨ t = 7 ∨ t = 12 ∨ t = 15) σ σr69 := hkp55.tr (kq70.mono (fun t (h : t = 7 ∨ t = 15) => (by show t = 1 ∨ t = 7 ∨ t = 12 ∨ t = 15; omega)))
                exact g_iret hx hb hr hlocks hQ hG hS (Nat.le_of_ble_eq_true rfl) (Nat.le_of_ble_eq_true rfl) ⟨_, rfl, hkp71, (⟨U54, J54, hX_71, hT54, (⟨by
                          rw [if_pos (by omega)]; unfold cycZ cycA; 
                          rw [if_neg (by omega), if_pos (by omega), hv70, suQ_eq _ hL2, hL1, suQ_L]; congr 1, hu54, hj54⟩)⟩)⟩ dX0_cycles_84
          · refine lv_aload_n hx hb dX0_cycles_60 rfl (lv_at hl 0 rfl) ?_
            obtain ⟨fm72, hm72⟩ := hM54.hm
            obtain ⟨fm74, hm74⟩ := hM54.hm
            refine g_callV (As := []) (rest := []) 0 hx hb hml hown hts hK hG hS hl.1 (mM_size hM54) hm74 rfl q1230 q1231 q1232 q75 q1233 (by decide +kernel) rfl ⟨Nat.le_of_ble_eq_true rfl, Nat.le_of_ble_eq_true rfl⟩ ⟨Nat.le_of_ble_eq_true rfl, Nat.le_of_ble_eq_true rfl⟩ (Nat.le_of_ble_eq_true rfl) dX0_cycles_61 (kI (fun r73 σr73 H locs hp hG hS => ?_))
            obtain ⟨rfl, rfl⟩ := hp
            exact g_iret hx hb hr hlocks hQ hG hS (Nat.le_of_ble_eq_true rfl) (Nat.le_of_ble_eq_true rfl) ⟨_, rfl, hkp55, (⟨U54, J54, hX54, hT54, (⟨by rw [if_pos (by omega)]; unfold cycZ cycA; rw [if_neg (by omega), if_neg (by omega), if_pos (by omega), hL1], hu54, hj54⟩)⟩)⟩ dX0_cycles_64
        · refine g_iconst hx hb dX0_cycles_47 ?_
          exact g_iret hx hb hr hlocks hQ hG hS (Nat.zero_le _) (Nat.zero_le _) ⟨_, rfl, hkp, (⟨U, J, hX, hT, (⟨by rw [if_neg (by omega)], fun q h1 h2 => rfl, fun q h => rfl⟩)⟩)⟩ dX0_cycles_48

