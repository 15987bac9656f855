/-- growth's start from a row of codes -/
def stC (cd : Nat → Int) : Nat → gSt
  | 0 => (fun _ => 0, fun _ => 0, 0)
  | n + 1 => seeA (cd n) (stC cd n)
theorem stC_set {cd : Nat → Int} {G : Int → Int} {m : Nat} (h : ∀ i, i < m → cd i = G (19 + i)) : ∀ n, n ≤ m → stC cd n = setA G n := by
  intro n
  induction n with
  | zero => intro _; rfl
  | succ n ih => intro hn; rw [stC, setA, ih (by omega), h n (by omega)]
theorem stC_wf {cd : Nat → Int} {m : Nat} (h : ∀ i, i < m → 0 ≤ cd i ∧ cd i ≤ 1023) : ∀ n, n ≤ m → gWf (stC cd n) := by
  intro n
  induction n with
  | zero => intro _; exact gWf_0
  | succ n ih => intro hn; exact (ih (by omega)).see (h n (by omega))

set_option maxHeartbeats 8000000 in
theorem mX0_sees (l : Launch) (X : gX) (σ : gS) (b : Nat → Nat) (U : Nat → Int → Int) (J : Nat → Int) (R : Int → Option Nat) (hX : XW X σ b U J R) (hT : okT (U 20)) (sp : Int) (x : gSt) (hw : gWf x) (hh : gHd x (U 10) (U 8) (J 9)) (h0 : 0 ≤ sp ∧ sp ≤ 1023) : gMet l X yX0_sees cX0_sees 2 none 1 0 0 21 σ [.ref (b 0), .int (iI sp)] (oV (fun σ' => gKeep (fun t => t = 1) σ σ' ∧ (∃ (U' : Nat → Int → Int) (J' : Nat → Int), XW X σ' b U' J' R ∧ okT (U' 20) ∧ (gHd (seeA sp x) (U' 10) (U' 8) (J' 9) ∧ (∀ q, q ≠ 8 → q ≠ 10 → U' q = U q) ∧ (∀ q, q ≠ 9 → J' q = J q))))) := by
  refine gMet.of (by decide) (Nat.le_of_ble_eq_true rfl) ?_
  intro pp ee ss mm args below meth cd Q H locs ls hargs hx hb hr hlocks hml hown hnm hts hK hG hS hQ hl
  have hown : ss.vm.findClass RX0 = some mm.cls := hown
  have hl : lv_has ls 2 [(0, .ref (b 0)), (1, .int (iI sp))] := hl
  have hkp : gKeep (fun t => t = 1) σ σ := gKeep.rf
  refine lv_aload_n hx hb dX0_sees_0 rfl (lv_at hl 0 rfl) ?_
  refine g_get (C := RX0) (T := TX0) (N := 20) (v := .ref (b 10)) hx hb hts hown hK hG hX.c0 rfl in_X0 10 (by decide) q433 rfl rfl dX0_sees_1 ?_
  refine lv_iload_n hx hb dX0_sees_4 rfl (lv_at hl 1 rfl) ?_
  refine g_zald hx hb hK hG hX.c10 dX0_sees_5 (by omega) ?_
  have hb9 : U 10 sp = 0 ∨ U 10 sp = 1 := by rw [hh.2.1 _ (by omega) (by omega)]; exact hw.1 _
  refine g_if_ne (tgt := 21) hx hb dX0_sees_6 (by decide) (by omega) (fun cq1 => ?_) (fun cq1 => ?_)
  · exact g_vret hx hb hr hlocks hQ hG hS (Nat.zero_le _) (Nat.zero_le _) ⟨rfl, hkp, (⟨U, J, hX, hT, (⟨hh.not (by omega) (by assumption), fun q h1 h2 => rfl, fun q h => rfl⟩)⟩)⟩ dX0_sees_21
  · have h0c : U 10 sp = 0 := by omega
    have hj9 := hw.lt (by omega) (by rw [← hh.2.1 _ (by omega) (by omega)]; exact h0c)
    rw [← hh.1] at hj9
    refine lv_aload_n hx hb dX0_sees_9 rfl (lv_at hl 0 rfl) ?_
    refine g_get (C := RX0) (T := TX0) (N := 20) (v := .ref (b 10)) hx hb hts hown hK hG hX.c0 rfl in_X0 10 (by decide) q433 rfl rfl dX0_sees_10 ?_
    refine lv_iload_n hx hb dX0_sees_13 rfl (lv_at hl 1 rfl) ?_
    refine g_iconst hx hb dX0_sees_14 ?_
    refine g_zast hx hb hK hG hS hX.c10 dX0_sees_15 (by first | rfl | decide) (by omega) (fun H locs hG hS => ?_)
    obtain ⟨U2, eU2⟩ : ∃ z : Nat → Int → Int, z = va_up U 10 (iup (U 10) sp 1) := ⟨_, rfl⟩
    have u10_2 : U2 10 = (iup (U 10) sp 1) := by rw [eU2, va_up_self]
    have fU2 : ∀ j, j ≠ 10 → U2 j = U j := fun j hj => by rw [eU2, va_up_ne _ _ hj]
    have hX2 : XW X (gup σ (b 10) (1, gI (X.2.1 1) 1024 (iup (U 10) sp 1))) b U2 J R := by rw [eU2]; exact hX.set 10 rfl (iup (U 10) sp 1)
    have hT2 : okT (U2 20) := by rw [fU2 20 (by decide)]; exact hT
    have hkp2 : gKeep (fun t => t = 1) σ (gup σ (b 10) (1, gI (X.2.1 1) 1024 (iup (U 10) sp 1))) := hkp.tr ((gKeep.up hX.c10 rfl : gKeep (fun t => t = 1) σ (gup σ (b 10) (1, gI (X.2.1 1) 1024 (iup (U 10) sp 1)))).mono (fun t (h : t = 1) => (by show t = 1; omega)))
    generalize (gup σ (b 10) (1, gI (X.2.1 1) 1024 (iup (U 10) sp 1))) = σ2 at hG hX2 hkp2
    refine lv_aload_n hx hb dX0_sees_16 rfl (lv_at hl 0 rfl) ?_
    refine lv_iload_n hx hb dX0_sees_17 rfl (lv_at hl 1 rfl) ?_
    refine g_callV (As := [.int (iI sp)]) (rest := []) 1 hx hb hml hown hts hK hG hS hl.1 (mX0_adds l X σ2 b U2 J R hX2 hT2 sp (by omega)) hX2.c0 rfl q655 q657 qs22 q69 q658 (by decide +kernel) rfl ⟨Nat.le_of_ble_eq_true rfl, Nat.le_of_ble_eq_true rfl⟩ ⟨Nat.le_of_ble_eq_true rfl, Nat.le_of_ble_eq_true rfl⟩ (Nat.le_of_ble_eq_true rfl) dX0_sees_18 (kV (fun σr3 H locs hp hG hS => ?_))
    obtain ⟨U4, J4, hX4, kp4, hT4, hrel4⟩ := hp
    have hkp5 : gKeep (fun t => t = 1) σ σr3 := hkp2.tr (kp4.mono (fun t (h : t = 1) => (by show t = 1; omega)))
    exact g_vret hx hb hr hlocks hQ hG hS (Nat.zero_le _) (Nat.zero_le _) ⟨rfl, hkp5, (⟨U4, J4, hX4, hT4, (⟨by rw [hrel4.1, hrel4.2, va_up_self, va_up_ne _ _ (by decide), va_up_self, u10_2, fU2 8 (by decide)]; exact hh.see hw (by omega) h0c, fun q h1 h2 => by rw [hrel4.1, va_up_ne _ _ h1, fU2 q h2], fun q h => by rw [hrel4.2, va_up_ne _ _ h]⟩)⟩)⟩ dX0_sees_21

set_option maxHeartbeats 8000000 in
theorem mX0_grows (l : Launch) (X : gX) (σ : gS) (b : Nat → Nat) (U : Nat → Int → Int) (J : Nat → Int) (R : Int → Option Nat) (hX : XW X σ b U J R) (hT : okT (U 20)) (n2 : Nat) (cd2 : Nat → Int) (hS2 : SetW X σ 2 (b 21) n2 cd2) (n : Int)  (h0 : (-2147483648 ≤ n ∧ n ≤ 2147483647)) (h1 : n2 ≤ 12) : gMet l X yX0_grows cX0_grows 7 (some .int) 9 2 5 213 σ [.ref (b 0), .int (iI n)] (oI (fun r σ' => gKeep (fun t => t = 1 ∨ t = 2 ∨ t = 15) σ σ' ∧ (∃ (U' : Nat → Int → Int) (J' : Nat → Int), XW X σ' b U' J' R ∧ okT (U' 20) ∧ (r = (if 0 ≤ n ∧ n ≤ 40 then (grA (U 20) n.toNat 0 (stC cd2 n2)).2.2 else -2) ∧ (∀ q, q ≠ 8 → q ≠ 10 → U' q = U q) ∧ (∀ q, q ≠ 9 → J' q = J q) ∧ SetW X σ' 2 (b 21) n2 cd2)))) := by
  refine gMet.of (by decide) (Nat.le_of_ble_eq_true rfl) ?_
  intro pp ee ss mm args below meth cd Q H locs ls hargs hx hb hr hlocks hml hown hnm hts hK hG hS hQ hl
  have hown : ss.vm.findClass RX0 = some mm.cls := hown
  have hl : lv_has ls 7 [(0, .ref (b 0)), (1, .int (iI n))] := hl
  have hkp : gKeep (fun t => t = 1 ∨ t = 2 ∨ t = 15) σ σ := gKeep.rf
  refine lv_iload_n hx hb dX0_grows_0 rfl (lv_at hl 1 rfl) ?_
  refine g_i2l hx hb dX0_grows_1 (by omega) ?_
  refine lv_lconst (v := lI 0) hx hb dX0_grows_2 (by decide) ?_
  refine g_ldc2 hx hb (40) hown (hts _ q1604) (by decide) dX0_grows_3 ?_
  refine g_callS (As := [.long (lI n), .long (lI 0), .long (lI (40))]) (rest := []) 3 hx hb hml hown hts hK hG hS hl.1 (mX0_isIn l X σ  n 0 (40) (by omega) (by omega) (by omega)) q494 q495 q69 q496 (by decide +kernel) rfl ⟨Nat.le_of_ble_eq_true rfl, Nat.le_of_ble_eq_true rfl⟩ ⟨Nat.le_of_ble_eq_true rfl, Nat.le_of_ble_eq_true rfl⟩ (Nat.le_of_ble_eq_true rfl) dX0_grows_6 (kI (fun r1 σr1 H locs hp hG hS => ?_))
  obtain ⟨hr1, rfl⟩ := hp
  refine g_if_ne (tgt := 15) hx hb dX0_grows_9 (by decide) (by omega) (fun cq2 => ?_) (fun cq2 => ?_)
  · refine lv_aload_n hx hb dX0_grows_15 rfl (lv_at hl 0 rfl) ?_
    refine g_iconst hx hb dX0_grows_16 ?_
    refine g_put (C := RX0) (T := TX0) (N := 20) (ty0 := tyX0) (v := .int (iI 0)) hx hb hts hown hK hG hS hX.c0 rfl in_X0 tyX0_ok nmX0 9 (by decide) q432 rfl (by decide) rfl rfl (Nat.le_of_ble_eq_true rfl) dX0_grows_17 (fun H locs hG hS => ?_)
    obtain ⟨J3, eJ3⟩ : ∃ z : Nat → Int, z = va_up J 9 0 := ⟨_, rfl⟩
    have j9_3 : J3 9 = 0 := by rw [eJ3, va_up_self]
    have fJ3 : ∀ j, j ≠ 9 → J3 j = J j := fun j hj => by rw [eJ3, va_up_ne _ _ hj]
    have hX3 : XW X (gup σ (b 0) (1, gO 0 ([.ref (b 1), .ref (b 2), .int (iI (J 2)), .ref (b 3), .ref (b 4), .ref (b 5), .int (iI (J 6)), .ref (b 7), .ref (b 8), .int (iI (J 9)), .ref (b 10), .ref (b 11), .ref (b 12), .ref (b 13), .ref (b 14), .ref (b 56), .ref (b 57), .ref (b 58), .ref (b 18), .ref (b 19)].set 9 (.int (iI 0))))) b U J3 R := by rw [eJ3]; exact hX.num 9 rfl 0
    have hS2_3 : SetW X (gup σ (b 0) (1, gO 0 ([.ref (b 1), .ref (b 2), .int (iI (J 2)), .ref (b 3), .ref (b 4), .ref (b 5), .int (iI (J 6)), .ref (b 7), .ref (b 8), .int (iI (J 9)), .ref (b 10), .ref (b 11), .ref (b 12), .ref (b 13), .ref (b 14), .ref (b 56), .ref (b 57), .ref (b 58), .ref (b 18), .ref (b 19)].set 9 (.int (iI 0))))) 2 (b 21) n2 cd2 := hS2.keep (gKeep.up hX.c0 rfl : gKeep (fun t => t = 1) σ (gup σ (b 0) (1, gO 0 ([.ref (b 1), .ref (b 2), .int (iI (J 2)), .ref (b 3), .ref (b 4), .ref (b 5), .int (iI (J 6)), .ref (b 7), .ref (b 8), .int (iI (J 9)), .ref (b 10), .ref (b 11), .ref (b 12), .ref (b 13), .ref (b 14), .ref (b 56), .ref (b 57), .ref (b 58), .ref (b 18), .ref (b 19)].set 9 (.int (iI 0)))))) (by first | decide | omega | (intro q9; dsimp only at q9; omega)) (by first | decide | omega | (intro q9; dsimp only at q9; omega)) (by first | decide | omega | (intro q9; dsimp only at q9; omega)) (by first | decide | omega | (intro q9; dsimp only at q9; omega))
    have hkp3 : gKeep (fun t => t = 1 ∨ t = 2 ∨ t = 15) σ (gup σ (b 0) (1, gO 0 ([.ref (b 1), .ref (b 2), .int (iI (J 2)), .ref (b 3), .ref (b 4), .ref (b 5), .int (iI (J 6)), .ref (b 7), .ref (b 8), .int (iI (J 9)), .ref (b 10), .ref (b 11), .ref (b 12), .ref (b 13), .ref (b 14), .ref (b 56), .ref (b 57), .ref (b 58), .ref (b 18), .ref (b 19)].set 9 (.int (iI 0))))) := hkp.tr ((gKeep.up hX.c0 rfl : gKeep (fun t => t = 1) σ (gup σ (b 0) (1, gO 0 ([.ref (b 1), .ref (b 2), .int (iI (J 2)), .ref (b 3), .ref (b 4), .ref (b 5), .int (iI (J 6)), .ref (b 7), .ref (b 8), .int (iI (J 9)), .ref (b 10), .ref (b 11), .ref (b 12), .ref (b 13), .ref (b 14), .ref (b 56), .ref (b 57), .ref (b 58), .ref (b 18), .ref (b 19)].set 9 (.int (iI 0)))))).mono (fun t (h : t = 1) => (by show t = 1 ∨ t = 2 ∨ t = 15; omega)))
    generalize (gup σ (b 0) (1, gO 0 ([.ref (b 1), .ref (b 2), .int (iI (J 2)), .ref (b 3), .ref (b 4), .ref (b 5), .int (iI (J 6)), .ref (b 7), .ref (b 8), .int (iI (J 9)), .ref (b 10), .ref (b 11), .ref (b 12), .ref (b 13), .ref (b 14), .ref (b 56), .ref (b 57), .ref (b 58), .ref (b 18), .ref (b 19)].set 9 (.int (iI 0))))) = σ3 at hG hX3 hS2_3 hkp3
    refine g_iconst hx hb dX0_grows_20 ?_
    refine lv_istore_n (lv' := [(2, .int (iI 0)), (0, .ref (b 0)), (1, .int (iI n))]) hx hb dX0_grows_21 rfl hl (by decide) rfl (fun ls hl => ?_)
    have loop_22 : ∀ (nF : Nat) (σL : gS) (i9 : Int) (UL : Nat → Int → Int) (JL : Nat → Int), ((1024 - i9).toNat : Nat) < nF → (gKeep (fun t => t = 1 ∨ t = 2 ∨ t = 15) σ σL) → (XW X σL b UL JL R) → (SetW X σL 2 (b 21) n2 cd2) → (okT (UL 20)) → (0 ≤ i9 ∧ i9 ≤ 1024) → (∀ q : Int, 0 ≤ q → q < i9 → UL 10 q = 0) → (∀ q, q ≠ 8 → q ≠ 10 → UL q = U q) → (∀ q, q ≠ 9 → JL q = J q) → (JL 9 = 0) → ∀ (H : Heap) (locs : List Loc) (ls : Array Slot), gSat X σL H → va_S (gA X) ss.heap H locs → lv_has ls 7 [(2, .int (iI i9)), (0, .ref (b 0)), (1, .int (iI n))] → W pp l ee (gR 9 2 5 213) ss mm args below meth cd H locs 0 0 Q (F0 mm 22 ls []) := by
      intro nF
      induction nF with
      | zero => intro σL i9 UL JL hm; exact absurd hm (Nat.not_lt_zero _)
      | succ nF ih_22 =>
        intro σL i9 UL JL hm hkL hXL hS2L hTL hi22_4 hzr hfu hfj hj9 H locs ls hG hS hl
        refine lv_iload_n hx hb dX0_grows_22 rfl (lv_at hl 0 rfl) ?_
        refine g_sipush hx hb dX0_grows_23 (by decide) ?_
        refine g_icmp_ge (tgt := 42) hx hb dX0_grows_26 (by decide) (by omega) (by omega) (fun cq4 => ?_) (fun cq4 => ?_)
        · refine lv_aload_n hx hb dX0_grows_42 rfl (lv_at hl 1 rfl) ?_
          refine g_get (C := RX0) (T := TX0) (N := 20) (v := .ref (b 1)) hx hb hts hown hK hG hXL.c0 rfl in_X0 0 (by decide) q420 rfl rfl dX0_grows_43 ?_
          refine g_getN (C := RX1) (T := TX1) (N := 4) (v := .ref (b 21)) hx hb hts hown hK hG hXL.c1 rfl in_X1 1 (by decide) q189 rfl rfl dX0_grows_46 ?_
          obtain ⟨mq5, hq5⟩ := hS2L.hsa
          obtain ⟨mq7, hq7⟩ := hS2L.hsa
          refine g_callV (As := []) (rest := []) 0 hx hb hml hown hts hK hG hS hl.1 (mS_iterator hS2L) hq7 rfl q1562 q1317 q2346 q73 q1319 (by decide +kernel) rfl ⟨Nat.le_of_ble_eq_true rfl, Nat.le_of_ble_eq_true rfl⟩ ⟨Nat.le_of_ble_eq_true rfl, Nat.le_of_ble_eq_true rfl⟩ (Nat.le_of_ble_eq_true rfl) dX0_grows_49 (kA (fun r6 σr6 H locs hp hG hS => ?_))
          obtain ⟨it_8, rfl, hI_8, kq8⟩ := hp
          have hX_9 : XW X σr6 b UL JL R := hXL.keep kq8 (by first | decide | omega | (intro q9; dsimp only at q9; omega))
          have hkp9 : gKeep (fun t => t = 1 ∨ t = 2 ∨ t = 15) σ σr6 := hkL.tr (kq8.mono (fun t (h : t = 2) => (by show t = 1 ∨ t = 2 ∨ t = 15; omega)))
          refine lv_astore_n (lv' := [(2, .ref it_8), (0, .ref (b 0)), (1, .int (iI n))]) hx hb dX0_grows_52 rfl hl (by decide) rfl (fun ls hl => ?_)
          have loop_53 : ∀ (nF : Nat) (σM : gS) (k9 : Nat) (UM : Nat → Int → Int) (JM : Nat → Int), (n2 - k9 : Nat) < nF → (gKeep (fun t => t = 1 ∨ t = 2 ∨ t = 15) σ σM) → (XW X σM b UM JM R) → (SetI X σM 2 (b 21) n2 cd2 it_8 k9) → (okT (UM 20)) → (k9 ≤ n2) → (∀ q, q ≠ 8 → q ≠ 10 → UM q = U q) → (∀ q, q ≠ 9 → JM q = J q) → (gHd (stC cd2 k9) (UM 10) (UM 8) (JM 9)) → ∀ (H : Heap) (locs : List Loc) (ls : Array Slot), gSat X σM H → va_S (gA X) ss.heap H locs → lv_has ls 7 [(2, .ref it_8), (0, .ref (b 0)), (1, .int (iI n))] → W pp l ee (gR 9 2 5 213) ss mm args below meth cd H locs 2 5 Q (F0 mm 53 ls []) := by
            intro nF
            induction nF with
            | zero => intro σM k9 UM JM hm; exact absurd hm (Nat.not_lt_zero _)
            | succ nF ih_53 =>
              intro σM k9 UM JM hm hkM hXM hIM hTM hi53_4 hfuM hfjM hHd H locs ls hG hS hl
              have hwf : gWf (stC cd2 k9) := stC_wf (m := n2) (fun i hi => hIM.W.rng hi) _ (by omega)
              refine lv_aload_n hx hb dX0_grows_53 rfl (lv_at hl 0 rfl) ?_
              obtain ⟨fs10, hq10⟩ := hIM.it
              refine g_callF (As := []) (rest := []) 0 hx hb hml hown hts hK hG hS hl.1 (mS_hasNext hIM) hq10 rfl q1349 q1359 q1355 q110 q1357 q1351 q1350 q1356 q1360 q1358 (by decide +kernel) rfl ⟨Nat.le_of_ble_eq_true rfl, Nat.le_of_ble_eq_true rfl⟩ ⟨Nat.le_of_ble_eq_true rfl, Nat.le_of_ble_eq_true rfl⟩ (Nat.le_of_ble_eq_true rfl) dX0_grows_54 (kI (fun r11 σr11 H locs hp hG hS => ?_))
              obtain ⟨hr11, rfl⟩ := hp
              have kr11 : r11 = 0 ∨ r11 = 1 := by rcases hr11 with ⟨h, -⟩ | ⟨h, -⟩ <;> omega
              refine g_if_eq (tgt := 83) hx hb dX0_grows_59 (by decide) (by omega) (fun cq12 => ?_) (fun cq12 => ?_)
              · have hk9 : k9 = n2 := by rcases hr11 with ⟨q, -⟩ | ⟨-, q⟩ <;> omega
                rw [hk9] at hHd hwf
                refine g_iconst hx hb dX0_grows_83 ?_
                refine lv_istore_n (lv' := [(2, .int (iI 0)), (0, .ref (b 0)), (1, .int (iI n))]) hx hb dX0_grows_84 rfl hl (by decide) rfl (fun ls hl => ?_)
                refine g_iconst hx hb dX0_grows_85 ?_
                refine lv_istore_n (lv' := [(3, .int (iI 0)), (2, .int (iI 0)), (0, .ref (b 0)), (1, .int (iI n))]) hx hb dX0_grows_86 rfl hl (by decide) rfl (fun ls hl => ?_)
                have loop_87 : ∀ (nF : Nat) (σN : gS) (fr9 : Int) (i9 : Int) (x9 : gSt) (f : Nat) (UN : Nat → Int → Int) (JN : Nat → Int), (f : Nat) < nF → (gKeep (fun t => t = 1 ∨ t = 2 ∨ t = 15) σ σN) → (XW X σN b UN JN R) → (SetW X σN 2 (b 21) n2 cd2) → (okT (UN 20)) → (0 ≤ i9 ∧ i9 + (f : Int) = n) → (∀ q, q ≠ 8 → q ≠ 10 → UN q = U q) → (∀ q, q ≠ 9 → JN q = J q) → (gHd x9 (UN 10) (UN 8) (JN 9)) → (gWf x9) → (0 ≤ fr9 ∧ fr9 ≤ JN 9) → (grA (U 20) f fr9 x9 = grA (U 20) n.toNat 0 (stC cd2 n2)) → ∀ (H : Heap) (locs : List Loc) (ls : Array Slot), gSat X σN H → va_S (gA X) ss.heap H locs → lv_has ls 7 [(3, .int (iI i9)), (2, .int (iI fr9)), (0, .ref (b 0)), (1, .int (iI n))] → W pp l ee (gR 9 2 5 213) ss mm args below meth cd H locs 2 5 Q (F0 mm 87 ls []) := by
                  intro nF
                  induction nF with
                  | zero => intro σN fr9 i9 x9 f UN JN hm; exact absurd hm (Nat.not_lt_zero _)
                  | succ nF ih_87 =>
                    intro σN fr9 i9 x9 f UN JN hm hkN hXN hS2N hTN hi87_4 hfuN hfjN hHdN hwfN hi87_9 hgr H locs ls hG hS hl
                    have hm9r := hwfN.le
                    rw [← hHdN.1] at hm9r
                    refine lv_iload_n hx hb dX0_grows_87 rfl (lv_at hl 0 rfl) ?_
                    refine lv_iload_n hx hb dX0_grows_88 rfl (lv_at hl 3 rfl) ?_
                    refine g_icmp_ge (tgt := 149) hx hb dX0_grows_89 (by decide) (by omega) (by omega) (fun cq13 => ?_) (fun cq13 => ?_)
                    · refine lv_aload_n hx hb dX0_grows_149 rfl (lv_at hl 2 rfl) ?_
                      refine g_get (C := RX0) (T := TX0) (N := 20) (v := .int (iI (JN 9))) hx hb hts hown hK hG hXN.c0 rfl in_X0 9 (by decide) q432 rfl rfl dX0_grows_150 ?_
                      exact g_iret hx hb hr hlocks hQ hG hS (Nat.le_of_ble_eq_true rfl) (Nat.le_of_ble_eq_true rfl) ⟨_, rfl, hkN, (⟨UN, JN, hXN, hTN, (⟨by rw [if_pos (by omega), ← hgr, show f = 0 by omega]; exact hHdN.1, hfuN, hfjN, hS2N⟩)⟩)⟩ dX0_grows_153
                    · refine lv_aload_n hx hb dX0_grows_92 rfl (lv_at hl 2 rfl) ?_
                      refine g_get (C := RX0) (T := TX0) (N := 20) (v := .int (iI (JN 9))) hx hb hts hown hK hG hXN.c0 rfl in_X0 9 (by decide) q432 rfl rfl dX0_grows_93 ?_
                      refine lv_istore (lv' := [(4, .int (iI (JN 9))), (3, .int (iI i9)), (2, .int (iI fr9)), (0, .ref (b 0)), (1, .int (iI n))]) hx hb dX0_grows_96 hl (by decide) rfl (fun ls hl => ?_)
                      refine lv_iload_n hx hb dX0_grows_98 rfl (lv_at hl 2 rfl) ?_
                      refine lv_istore (lv' := [(5, .int (iI fr9)), (4, .int (iI (JN 9))), (3, .int (iI i9)), (2, .int (iI fr9)), (0, .ref (b 0)), (1, .int (iI n))]) hx hb dX0_grows_99 hl (by decide) rfl (fun ls hl => ?_)
                      have loop_101 : ∀ (nF : Nat) (σP : gS) (p9 : Int) (UP : Nat → Int → Int) (JP : Nat → Int), ((JN 9 - p9).toNat : Nat) < nF → (gKeep (fun t => t = 1 ∨ t = 2 ∨ t = 15) σ σP) → (XW X σP b UP JP R) → (SetW X σP 2 (b 21) n2 cd2) → (okT (UP 20)) → (fr9 ≤ p9 ∧ p9 ≤ JN 9) → (∀ q, q ≠ 8 → q ≠ 10 → UP q = U q) → (∀ q, q ≠ 9 → JP q = J q) → (gHd (lvA (U 20) fr9 (p9 - fr9).toNat x9) (UP 10) (UP 8) (JP 9)) → ∀ (H : Heap) (locs : List Loc) (ls : Array Slot), gSat X σP H → va_S (gA X) ss.heap H locs → lv_has ls 7 [(5, .int (iI p9)), (4, .int (iI (JN 9))), (3, .int (iI i9)), (2, .int (iI fr9)), (0, .ref (b 0)), (1, .int (iI n))] → W pp l ee (gR 9 2 5 213) ss mm args below meth cd H locs 2 5 Q (F0 mm 101 ls []) := by
                        intro nF
                        induction nF with
                        | zero => intro σP p9 UP JP hm; exact absurd hm (Nat.not_lt_zero _)
                        | succ nF ih_101 =>
                          intro σP p9 UP JP hm hkP hXP hS2P hTP hi101_4 hfuP hfjP hHdP H locs ls hG hS hl
                          have hT9 : UP 20 = U 20 := hfuP 20 (by decide) (by decide)
                          have hwl := lvA_wf (T := U 20) hwfN (fr := fr9) (by omega) (p9 - fr9).toNat (by rw [← hHdN.1]; omega)
                          have hwfP : gWf (lvA (U 20) fr9 (p9 - fr9).toNat x9) := hwl.1
                          have hm8 : JN 9 ≤ JP 9 := by rw [hHdP.1, hHdN.1]; exact hwl.2
                          have hm8r := hwfP.le
                          rw [← hHdP.1] at hm8r
                          refine lv_iload hx hb dX0_grows_101 (lv_at hl 0 rfl) ?_
                          refine lv_iload hx hb dX0_grows_103 (lv_at hl 1 rfl) ?_
                          refine g_icmp_ge (tgt := 140) hx hb dX0_grows_105 (by decide) (by omega) (by omega) (fun cq14 => ?_) (fun cq14 => ?_)
                          · refine lv_iload hx hb dX0_grows_140 (lv_at hl 1 rfl) ?_
                            refine lv_istore_n (lv' := [(2, .int (iI (JN 9))), (5, .int (iI p9)), (4, .int (iI (JN 9))), (3, .int (iI i9)), (0, .ref (b 0)), (1, .int (iI n))]) hx hb dX0_grows_142 rfl hl (by decide) rfl (fun ls hl => ?_)
                            refine g_iinc (lv' := [(3, .int (iI (i9 + 1))), (2, .int (iI (JN 9))), (5, .int (iI p9)), (4, .int (iI (JN 9))), (0, .ref (b 0)), (1, .int (iI n))]) hx hb dX0_grows_143 hl (k := 3) rfl (by decide) rfl (fun ls hl => ?_)
                            refine lv_goto (tgt := 87) hx hb dX0_grows_146 (by decide) ?_
                            exact ih_87 σP (JN 9) (i9 + 1) (lvA (U 20) fr9 (p9 - fr9).toNat x9) (f - 1) UP JP (by omega) (hkP) (hXP) (hS2P) (hTP) (by omega) (hfuP) (hfjP) (hHdP) (hwfP) (by omega) (by rw [← hgr, ← grA_s (show 0 < f by omega), hHdN.1, show (x9.2.2 - fr9).toNat = (p9 - fr9).toNat by rw [← hHdN.1]; omega])  _ _ _ hG hS (lv_sub hl [0, 1, 4, 5] rfl)
                          · refine lv_aload_n hx hb dX0_grows_108 rfl (lv_at hl 4 rfl) ?_
                            refine lv_aload_n hx hb dX0_grows_109 rfl (lv_at hl 4 rfl) ?_
                            refine g_get (C := RX0) (T := TX0) (N := 20) (v := .ref (b 8)) hx hb hts hown hK hG hXP.c0 rfl in_X0 8 (by decide) q431 rfl rfl dX0_grows_110 ?_
                            refine lv_iload hx hb dX0_grows_113 (lv_at hl 0 rfl) ?_
                            refine g_iald hx hb hK hG hXP.c8 dX0_grows_115 (by omega) ?_
                            refine g_name (fun w9 ew9 => ?_)
                            have hw9 : w9 = (lvA (U 20) fr9 (p9 - fr9).toNat x9).2.1 p9 := by rw [ew9]; exact hHdP.2.2 p9 (by omega) (by omega)
                            have hw9r := hwfP.2.2 p9 (by omega) (by rw [← hHdP.1]; omega)
                            rw [← hw9] at hw9r
                            refine g_callV (As := [.int (iI w9)]) (rest := []) 1 hx hb hml hown hts hK hG hS hl.1 (mX0_steps l X σP b UP JP R hXP hTP w9 (by omega)) hXP.c0 rfl q643 q394 qs7 q69 q395 (by decide +kernel) rfl ⟨Nat.le_of_ble_eq_true rfl, Nat.le_of_ble_eq_true rfl⟩ ⟨Nat.le_of_ble_eq_true rfl, Nat.le_of_ble_eq_true rfl⟩ (Nat.le_of_ble_eq_true rfl) dX0_grows_116 (kI (fun r15 σr15 H locs hp hG hS => ?_))
                            obtain ⟨⟨hr15, kr15⟩, rfl⟩ := hp
                            have hst : r15 = stpZ (U 20) w9 0 := by rw [hr15, hT9]
                            refine lv_istore (lv' := [(6, .int (iI r15)), (5, .int (iI p9)), (4, .int (iI (JN 9))), (3, .int (iI i9)), (2, .int (iI fr9)), (0, .ref (b 0)), (1, .int (iI n))]) hx hb dX0_grows_119 hl (by decide) rfl (fun ls hl => ?_)
                            refine lv_iload hx hb dX0_grows_121 (lv_at hl 0 rfl) ?_
                            refine g_bipush hx hb dX0_grows_123 (by decide) ?_
                            refine g_icmp_eq (tgt := 134) hx hb dX0_grows_125 (by decide) (by omega) (by omega) (fun cq16 => ?_) (fun cq16 => ?_)
                            · refine g_iinc (lv' := [(5, .int (iI (p9 + 1))), (6, .int (iI r15)), (4, .int (iI (JN 9))), (3, .int (iI i9)), (2, .int (iI fr9)), (0, .ref (b 0)), (1, .int (iI n))]) hx hb dX0_grows_134 hl (k := 1) rfl (by decide) rfl (fun ls hl => ?_)
                              refine lv_goto (tgt := 101) hx hb dX0_grows_137 (by decide) ?_
                              exact ih_101 σP (p9 + 1) UP JP (by omega) (hkP) (hXP) (hS2P) (hTP) (by omega) (hfuP) (hfjP) (by rw [show (p9 + 1 - fr9).toNat = (p9 - fr9).toNat + 1 by omega, lvA_l (i := p9) (by omega) (by rw [← hw9, ← hst]; omega)]; exact hHdP)  _ _ _ hG hS (lv_sub hl [0, 2, 3, 4, 5, 6] rfl)
                            · refine lv_aload_n hx hb dX0_grows_128 rfl (lv_at hl 5 rfl) ?_
                              refine lv_iload hx hb dX0_grows_129 (lv_at hl 0 rfl) ?_
                              refine g_callV (As := [.int (iI r15)]) (rest := []) 1 hx hb hml hown hts hK hG hS hl.1 (mX0_sees l X σP b UP JP R hXP hTP r15 (lvA (U 20) fr9 (p9 - fr9).toNat x9) hwfP hHdP (by omega)) hXP.c0 rfl q1605 q1607 qs43 q69 q1608 (by decide +kernel) rfl ⟨Nat.le_of_ble_eq_true rfl, Nat.le_of_ble_eq_true rfl⟩ ⟨Nat.le_of_ble_eq_true rfl, Nat.le_of_ble_eq_true rfl⟩ (Nat.le_of_ble_eq_true rfl) dX0_grows_131 (kV (fun σr17 H locs hp hG hS => ?_))
                              obtain ⟨kq18, U18, J18, hX18, hT18, hrel18⟩ := hp
                              have hS2_19 : SetW X σr17 2 (b 21) n2 cd2 := hS2P.keep kq18 (by first | decide | omega | (intro q9; dsimp only at q9; omega)) (by first | decide | omega | (intro q9; dsimp only at q9; omega)) (by first | decide | omega | (intro q9; dsimp only at q9; omega)) (by first | decide | omega | (intro q9; dsimp only at q9; omega))
                              have hkp19 : gKeep (fun t => t = 1 ∨ t = 2 ∨ t = 15) σ σr17 := hkP.tr (kq18.mono (fun t (h : t = 1) => (by show t = 1 ∨ t = 2 ∨ t = 15; omega)))
                              obtain ⟨hh18, fu18, fj18⟩ := hrel18
                              refine g_iinc (lv' := [(5, .int (iI (p9 + 1))), (6, .int (iI r15)), (4, .int (iI (JN 9))), (3, .int (iI i9)), (2, .int (iI fr9)), (0, .ref (b 0)), (1, .int (iI n))]) hx hb dX0_grows_134 hl (k := 1) rfl (by decide) rfl (fun ls hl => ?_)
                              refine lv_goto (tgt := 101) hx hb dX0_grows_137 (by decide) ?_
                              exact ih_101 σr17 (p9 + 1) U18 J18 (by omega) (hkp19) (hX18) (hS2_19) (hT18) (by omega) (fun q h1 h2 => (fu18 q h1 h2).trans (hfuP q h1 h2)) (fun q h => (fj18 q h).trans (hfjP q h)) (by rw [show (p9 + 1 - fr9).toNat = (p9 - fr9).toNat + 1 by omega, lvA_s (i := p9) (s := r15) (by omega) (by rw [← hw9]; exact hst) (by omega)]; exact hh18)  _ _ _ hG hS (lv_sub hl [0, 2, 3, 4, 5, 6] rfl)
                      exact loop_101 _ σN fr9 UN JN (Nat.lt_succ_self _) (hkN) (hXN) (hS2N) (hTN) (by omega) (hfuN) (hfjN) (by rw [show (fr9 - fr9).toNat = 0 by omega]; exact hHdN)  _ _ _ hG hS (lv_sub hl [0, 1, 2, 3, 4, 5] rfl)
                exact loop_87 _ σM 0 0 (stC cd2 n2) n.toNat UM JM (Nat.lt_succ_self _) (hkM) (hXM) (hIM.W) (hTM) (by omega) (hfuM) (hfjM) (hHd) (hwf) (⟨Int.le_refl _, by rw [hHd.1]; exact hwf.le.1⟩) (rfl)  _ _ _ hG hS (lv_sub hl [0, 1, 2, 3] rfl)
              · refine lv_aload_n hx hb dX0_grows_62 rfl (lv_at hl 0 rfl) ?_
                obtain ⟨fs20, hq20⟩ := hIM.it
                have hlt21 : k9 < n2 := by rcases hr11 with ⟨-, h⟩ | ⟨h, -⟩; exact h; omega
                refine g_callF (As := []) (rest := []) 0 hx hb hml hown hts hK hG hS hl.1 (mS_next hIM hlt21) hq20 rfl q1362 q1383 q1385 q112 q1387 q1364 q1363 q1386 q1384 q1358 (by decide +kernel) rfl ⟨Nat.le_of_ble_eq_true rfl, Nat.le_of_ble_eq_true rfl⟩ ⟨Nat.le_of_ble_eq_true rfl, Nat.le_of_ble_eq_true rfl⟩ (Nat.le_of_ble_eq_true rfl) dX0_grows_63 (kA (fun r22 σr22 H locs hp hG hS => ?_))
                obtain ⟨κ23, rfl, hκ23, hI_23, kq23⟩ := hp
                have hX_24 : XW X σr22 b UM JM R := hXM.keep kq23 (by first | decide | omega | (intro q9; dsimp only at q9; omega))
                have hkp24 : gKeep (fun t => t = 1 ∨ t = 2 ∨ t = 15) σ σr22 := hkM.tr (kq23.mono (fun t (h : t = 15) => (by show t = 1 ∨ t = 2 ∨ t = 15; omega)))
                have hrg23 := hI_23.W.rng hlt21
                refine g_castS hx hb hts hown hK hG hκ23 rfl q1485 dX0_grows_68 ?_
                refine lv_astore_n (lv' := [(3, .ref κ23), (2, .ref it_8), (0, .ref (b 0)), (1, .int (iI n))]) hx hb dX0_grows_71 rfl hl (by decide) rfl (fun ls hl => ?_)
                refine lv_aload_n hx hb dX0_grows_72 rfl (lv_at hl 2 rfl) ?_
                refine lv_aload_n hx hb dX0_grows_73 rfl (lv_at hl 0 rfl) ?_
                refine g_getN (C := RX11) (T := TX11) (N := 1) (v := .int (iI (cd2 k9))) hx hb hts hown hK hG hκ23 rfl in_X11 0 (by decide) q1492 rfl rfl dX0_grows_74 ?_
                refine g_callV (As := [.int (iI (cd2 k9))]) (rest := []) 1 hx hb hml hown hts hK hG hS hl.1 (mX0_sees l X σr22 b UM JM R hX_24 hTM (cd2 k9) (stC cd2 k9) hwf hHd (by omega)) hX_24.c0 rfl q1605 q1607 qs43 q69 q1608 (by decide +kernel) rfl ⟨Nat.le_of_ble_eq_true rfl, Nat.le_of_ble_eq_true rfl⟩ ⟨Nat.le_of_ble_eq_true rfl, Nat.le_of_ble_eq_true rfl⟩ (Nat.le_of_ble_eq_true rfl) dX0_grows_77 (kV (fun σr25 H locs hp hG hS => ?_))
                obtain ⟨kq26, U26, J26, hX26, hT26, hrel26⟩ := hp
                have hI_27 : SetI X σr25 2 (b 21) n2 cd2 it_8 (k9 + 1) := hI_23.keep kq26 (by first | decide | omega | (intro q9; dsimp only at q9; omega)) ⟨(by first | decide | omega | (intro q9; dsimp only at q9; omega)), (by first | decide | omega | (intro q9; dsimp only at q9; omega)), (by first | decide | omega | (intro q9; dsimp only at q9; omega)), (by first | decide | omega | (intro q9; dsimp only at q9; omega))⟩
                have hLc27_0 := kq26 _ _ _ hκ23 (by first | decide | omega | (intro q9; dsimp only at q9; omega))
                have hkp27 : gKeep (fun t => t = 1 ∨ t = 2 ∨ t = 15) σ σr25 := hkp24.tr (kq26.mono (fun t (h : t = 1) => (by show t = 1 ∨ t = 2 ∨ t = 15; omega)))
                obtain ⟨hh26, fu26, fj26⟩ := hrel26
                refine lv_goto (tgt := 53) hx hb dX0_grows_80 (by decide) ?_
                exact ih_53 σr25 (k9 + 1) U26 J26 (by omega) (hkp27) (hX26) (hI_27) (hT26) (by omega) (fun q h1 h2 => (fu26 q h1 h2).trans (hfuM q h1 h2)) (fun q h => (fj26 q h).trans (hfjM q h)) (hh26)  _ _ _ hG hS (lv_sub hl [1, 2, 3] rfl)
          exact loop_53 _ σr6 0 UL JL (Nat.lt_succ_self _) (hkp9) (hX_9) (hI_8) (hTL) (Nat.zero_le _) (hfu) (hfj) (⟨hj9, fun q h1 h2 => hzr q h1 (by omega), fun q h1 h2 => by omega⟩)  _ _ _ hG hS (lv_sub hl [0, 1, 2] rfl)
        · refine lv_aload_n hx hb dX0_grows_29 rfl (lv_at hl 1 rfl) ?_
          refine g_get (C := RX0) (T := TX0) (N := 20) (v := .ref (b 10)) hx hb hts hown hK hG hXL.c0 rfl in_X0 10 (by decide) q433 rfl rfl dX0_grows_30 ?_
          refine lv_iload_n hx hb dX0_grows_33 rfl (lv_at hl 0 rfl) ?_
          refine g_iconst hx hb dX0_grows_34 ?_
          refine g_zast hx hb hK hG hS hXL.c10 dX0_grows_35 (by first | rfl | decide) (by omega) (fun H locs hG hS => ?_)
          obtain ⟨U28, eU28⟩ : ∃ z : Nat → Int → Int, z = va_up UL 10 (iup (UL 10) i9 0) := ⟨_, rfl⟩
          have u10_28 : U28 10 = (iup (UL 10) i9 0) := by rw [eU28, va_up_self]
          have fU28 : ∀ j, j ≠ 10 → U28 j = UL j := fun j hj => by rw [eU28, va_up_ne _ _ hj]
          have hX28 : XW X (gup σL (b 10) (1, gI (X.2.1 1) 1024 (iup (UL 10) i9 0))) b U28 JL R := by rw [eU28]; exact hXL.set 10 rfl (iup (UL 10) i9 0)
          have hT28 : okT (U28 20) := by rw [fU28 20 (by decide)]; exact hTL
          have hS2_28 : SetW X (gup σL (b 10) (1, gI (X.2.1 1) 1024 (iup (UL 10) i9 0))) 2 (b 21) n2 cd2 := hS2L.keep (gKeep.up hXL.c10 rfl : gKeep (fun t => t = 1) σL (gup σL (b 10) (1, gI (X.2.1 1) 1024 (iup (UL 10) i9 0)))) (by first | decide | omega | (intro q9; dsimp only at q9; omega)) (by first | decide | omega | (intro q9; dsimp only at q9; omega)) (by first | decide | omega | (intro q9; dsimp only at q9; omega)) (by first | decide | omega | (intro q9; dsimp only at q9; omega))
          have hkp28 : gKeep (fun t => t = 1 ∨ t = 2 ∨ t = 15) σ (gup σL (b 10) (1, gI (X.2.1 1) 1024 (iup (UL 10) i9 0))) := hkL.tr ((gKeep.up hXL.c10 rfl : gKeep (fun t => t = 1) σL (gup σL (b 10) (1, gI (X.2.1 1) 1024 (iup (UL 10) i9 0)))).mono (fun t (h : t = 1) => (by show t = 1 ∨ t = 2 ∨ t = 15; omega)))
          generalize (gup σL (b 10) (1, gI (X.2.1 1) 1024 (iup (UL 10) i9 0))) = σ28 at hG hX28 hS2_28 hkp28
          refine g_iinc (lv' := [(2, .int (iI (i9 + 1))), (0, .ref (b 0)), (1, .int (iI n))]) hx hb dX0_grows_36 hl (k := 0) rfl (by decide) rfl (fun ls hl => ?_)
          refine lv_goto (tgt := 22) hx hb dX0_grows_39 (by decide) ?_
          exact ih_22 σ28 (i9 + 1) U28 JL (by omega) (hkp28) (hX28) (hS2_28) (hT28) (by omega) (fun q h1 h2 => by
                    rw [u10_28]
                    by_cases e : q = i9
                    · rw [e, iup_s]
                    · rw [iup_n e]; exact hzr q h1 (by omega)) (fun q h1 h2 => (fU28 q h2).trans (hfu q h1 h2)) (hfj) (hj9)  _ _ _ hG hS (lv_sub hl [0, 1, 2] rfl)
    exact loop_22 _ σ3 0 U J3 (Nat.lt_succ_self _) (hkp3) (hX3) (hS2_3) (hT) (by omega) (fun q h1 h2 => by omega) (fun q h1 h2 => rfl) (fJ3) (j9_3)  _ _ _ hG hS (lv_sub hl [0, 1, 2] rfl)
  · refine g_bipush hx hb dX0_grows_12 (by decide) ?_
    exact g_iret hx hb hr hlocks hQ hG hS (Nat.zero_le _) (Nat.zero_le _) ⟨_, rfl, hkp, (⟨U, J, hX, hT, (⟨by rw [if_neg (by omega)], fun q h1 h2 => rfl, fun q h => rfl, hS2⟩)⟩)⟩ dX0_grows_14

