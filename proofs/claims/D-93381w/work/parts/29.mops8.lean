set_option maxHeartbeats 4000000 in
theorem mX4_here (l : Launch) (X : gX) (σ : gS) (o : Nat) (a : Nat → Nat) (V : Nat → Int → Int) (Iv : Nat → Int) (hM : MW X σ o a V Iv) (hTp : 0 ≤ Iv 23 ∧ Iv 23 ≤ 60) (hTv : ∀ q : Int, 0 ≤ q → q < Iv 23 → 1 ≤ V 22 q ∧ V 22 q ≤ 127) (hAt : 0 ≤ Iv 24 ∧ Iv 24 ≤ Iv 23)   : gMet l X yX4_here cX4_here 1 (some .int) 0 0 0 0 σ [.ref o] (oI (fun r σ' => (r = hrZ (V 22) (Iv 23) (Iv 24) ∧ (0 ≤ r ∧ r ≤ 127)) ∧ σ = σ')) := by
  refine gMet.of (by decide) (Nat.le_of_ble_eq_true rfl) ?_
  intro pp ee ss mm args below meth cd Q H locs ls hargs hx hb hr hlocks hml hown hnm hts hK hG hS hQ hl
  have hown : ss.vm.findClass RX4 = some mm.cls := hown
  have hl : lv_has ls 1 [(0, .ref o)] := hl
  refine lv_aload_n hx hb dX4_here_0 rfl (lv_at hl 0 rfl) ?_
  refine g_get (C := RX4) (T := TX4) (N := 30) (v := .int (iI (Iv 24))) hx hb hts hown hK hG hM.o rfl in_X4 24 (by decide) q1982 rfl rfl dX4_here_1 ?_
  refine lv_aload_n hx hb dX4_here_4 rfl (lv_at hl 0 rfl) ?_
  refine g_get (C := RX4) (T := TX4) (N := 30) (v := .int (iI (Iv 23))) hx hb hts hown hK hG hM.o rfl in_X4 23 (by decide) q1981 rfl rfl dX4_here_5 ?_
  refine g_icmp_ge (tgt := 23) hx hb dX4_here_8 (by decide) (by omega) (by omega) (fun cq1 => ?_) (fun cq1 => ?_)
  · refine g_iconst hx hb dX4_here_23 ?_
    exact g_iret hx hb hr hlocks hQ hG hS (Nat.zero_le _) (Nat.zero_le _) ⟨_, rfl, ⟨(by unfold hrZ; first | rw [if_pos (by omega)] | rw [if_neg (by omega)]), (by omega)⟩, rfl⟩ dX4_here_24
  · refine lv_aload_n hx hb dX4_here_11 rfl (lv_at hl 0 rfl) ?_
    refine g_get (C := RX4) (T := TX4) (N := 30) (v := .ref (a 22)) hx hb hts hown hK hG hM.o rfl in_X4 22 (by decide) q1980 rfl rfl dX4_here_12 ?_
    refine lv_aload_n hx hb dX4_here_15 rfl (lv_at hl 0 rfl) ?_
    refine g_get (C := RX4) (T := TX4) (N := 30) (v := .int (iI (Iv 24))) hx hb hts hown hK hG hM.o rfl in_X4 24 (by decide) q1982 rfl rfl dX4_here_16 ?_
    refine g_iald hx hb hK hG hM.a22 dX4_here_19 (by omega) ?_
    have hvr := hTv (Iv 24) (by omega) (by omega)
    refine lv_goto (tgt := 24) hx hb dX4_here_20 (by decide) ?_
    exact g_iret hx hb hr hlocks hQ hG hS (Nat.zero_le _) (Nat.zero_le _) ⟨_, rfl, ⟨(by unfold hrZ; first | rw [if_pos (by omega)] | rw [if_neg (by omega)]), (by omega)⟩, rfl⟩ dX4_here_24

set_option maxHeartbeats 4000000 in
theorem mX4_often (l : Launch) (X : gX) (σ : gS) (o : Nat) (a : Nat → Nat) (V : Nat → Int → Int) (Iv : Nat → Int) (hM : MW X σ o a V Iv) (hTp : 0 ≤ Iv 23 ∧ Iv 23 ≤ 60) (hTv : ∀ q : Int, 0 ≤ q → q < Iv 23 → 1 ≤ V 22 q ∧ V 22 q ≤ 127) (hAt : 0 ≤ Iv 24 ∧ Iv 24 ≤ Iv 23) (c : Int)  (h0 : 1 ≤ c ∧ c ≤ 127) : gMet l X yX4_often cX4_often 3 (some .int) 1 0 0 20 σ [.ref o, .int (iI c)] (oI (fun r σ' => ∃ (V' : Nat → Int → Int) (I' : Nat → Int), MW X σ' o a V' I' ∧ gKeep (fun t => t = 10) σ σ' ∧ (r = cntZ (V 22) (Iv 23) c (Iv 24) ∧ V' = V ∧ I' 24 = Iv 24 + r ∧ (∀ j, j ≠ 24 → I' j = Iv j)))) := by
  refine gMet.of (by decide) (Nat.le_of_ble_eq_true rfl) ?_
  intro pp ee ss mm args below meth cd Q H locs ls hargs hx hb hr hlocks hml hown hnm hts hK hG hS hQ hl
  have hown : ss.vm.findClass RX4 = some mm.cls := hown
  have hl : lv_has ls 3 [(0, .ref o), (1, .int (iI c))] := hl
  have hkp : gKeep (fun t => t = 10) σ σ := gKeep.rf
  refine g_iconst hx hb dX4_often_0 ?_
  refine lv_istore_n (lv' := [(2, .int (iI 0)), (0, .ref o), (1, .int (iI c))]) hx hb dX4_often_1 rfl hl (by decide) rfl (fun ls hl => ?_)
  have loop_2 : ∀ (nF : Nat) (σL : gS) (VL : Nat → Int → Int) (IL : Nat → Int) (n9 : Int), ((2 - n9).toNat : Nat) < nF → (MW X σL o a VL IL) → (gKeep (fun t => t = 10) σ σL) → (0 ≤ n9 ∧ n9 ≤ 2) → (VL = V) → (∀ j, j ≠ 24 → IL j = Iv j) → (IL 24 = Iv 24 + n9) → (n9 = 0 ∨ (n9 = 1 ∧ hrZ (V 22) (Iv 23) (Iv 24) = c) ∨ (n9 = 2 ∧ hrZ (V 22) (Iv 23) (Iv 24) = c ∧ hrZ (V 22) (Iv 23) (Iv 24 + 1) = c)) → (IL 24 ≤ IL 23) → ∀ (H : Heap) (locs : List Loc) (ls : Array Slot), gSat X σL H → va_S (gA X) ss.heap H locs → lv_has ls 3 [(2, .int (iI n9)), (0, .ref o), (1, .int (iI c))] → W pp l ee (gR 1 0 0 20) ss mm args below meth cd H locs 0 0 Q (F0 mm 2 ls []) := by
    intro nF
    induction nF with
    | zero => intro σL VL IL n9 hm; exact absurd hm (Nat.not_lt_zero _)
    | succ nF ih_2 =>
      intro σL VL IL n9 hm hML hkL hi2_2 hV hI h24 hc hle H locs ls hG hS hl
      have hI23 : IL 23 = Iv 23 := hI 23 (by decide)
      refine lv_iload_n hx hb dX4_often_2 rfl (lv_at hl 0 rfl) ?_
      refine g_iconst hx hb dX4_often_3 ?_
      refine g_icmp_ge (tgt := 31) hx hb dX4_often_4 (by decide) (by omega) (by omega) (fun cq1 => ?_) (fun cq1 => ?_)
      · refine lv_iload_n hx hb dX4_often_31 rfl (lv_at hl 0 rfl) ?_
        exact g_iret hx hb hr hlocks hQ hG hS (Nat.zero_le _) (Nat.zero_le _) ⟨_, rfl, VL, IL, hML, hkL, (⟨by
                  unfold cntZ
                  rcases hc with hc | hc | hc
                  · first | (exfalso; omega) | (subst hc; rw [show Iv 24 + 0 = Iv 24 by omega] at hh; rw [if_neg (by omega)])
                  · first | (exfalso; omega) | (obtain ⟨e1, e2⟩ := hc; subst e1; rw [if_pos e2, if_neg (by omega)])
                  · first | (exfalso; omega) | (obtain ⟨e1, e2, e3⟩ := hc; rw [if_pos e2, if_pos e3]; omega), hV, h24, hI⟩)⟩ dX4_often_32
      · refine lv_aload_n hx hb dX4_often_7 rfl (lv_at hl 1 rfl) ?_
        refine g_callV (As := []) (rest := []) 0 hx hb hml hown hts hK hG hS hl.1 (mX4_here l X σL o a VL IL hML (by omega) (fun q h1 h2 => by rw [hV]; exact hTv q h1 (by omega)) (by omega)  ) hML.o rfl q2286 q2288 qs64 q86 q2289 (by decide +kernel) rfl ⟨Nat.le_of_ble_eq_true rfl, Nat.le_of_ble_eq_true rfl⟩ ⟨Nat.le_of_ble_eq_true rfl, Nat.le_of_ble_eq_true rfl⟩ (Nat.le_of_ble_eq_true rfl) dX4_often_8 (kI (fun r2 σr2 H locs hp hG hS => ?_))
        obtain ⟨⟨hr2, kr2⟩, rfl⟩ := hp
        have hh : r2 = hrZ (V 22) (Iv 23) (Iv 24 + n9) := by rw [hr2, hV, hI23, h24]
        refine lv_iload_n hx hb dX4_often_11 rfl (lv_at hl 2 rfl) ?_
        refine g_icmp_ne (tgt := 31) hx hb dX4_often_12 (by decide) (by omega) (by omega) (fun cq3 => ?_) (fun cq3 => ?_)
        · refine lv_iload_n hx hb dX4_often_31 rfl (lv_at hl 0 rfl) ?_
          exact g_iret hx hb hr hlocks hQ hG hS (Nat.zero_le _) (Nat.zero_le _) ⟨_, rfl, VL, IL, hML, hkL, (⟨by
                    unfold cntZ
                    rcases hc with hc | hc | hc
                    · first | (exfalso; omega) | (subst hc; rw [show Iv 24 + 0 = Iv 24 by omega] at hh; rw [if_neg (by omega)])
                    · first | (exfalso; omega) | (obtain ⟨e1, e2⟩ := hc; subst e1; rw [if_pos e2, if_neg (by omega)])
                    · first | (exfalso; omega) | (obtain ⟨e1, e2, e3⟩ := hc; rw [if_pos e2, if_pos e3]; omega), hV, h24, hI⟩)⟩ dX4_often_32
        · refine g_iinc (lv' := [(2, .int (iI (n9 + 1))), (0, .ref o), (1, .int (iI c))]) hx hb dX4_often_15 hl (k := 0) rfl (by decide) rfl (fun ls hl => ?_)
          refine lv_aload_n hx hb dX4_often_18 rfl (lv_at hl 1 rfl) ?_
          refine lv_dup hx hb dX4_often_19 rfl ?_
          refine g_get (C := RX4) (T := TX4) (N := 30) (v := .int (iI (IL 24))) hx hb hts hown hK hG hML.o rfl in_X4 24 (by decide) q1982 rfl rfl dX4_often_20 ?_
          refine g_iconst hx hb dX4_often_23 ?_
          refine g_iadd hx hb dX4_often_24 ?_
          refine g_put (C := RX4) (T := TX4) (N := 30) (ty0 := tyX4) (v := .int (iI ((IL 24) + 1))) hx hb hts hown hK hG hS hML.o rfl in_X4 tyX4_ok nmX4 24 (by decide) q1982 rfl (by decide) rfl rfl (Nat.le_of_ble_eq_true rfl) dX4_often_25 (fun H locs hG hS => ?_)
          obtain ⟨I4, eI4⟩ : ∃ J : Nat → Int, J = va_up IL 24 ((IL 24) + 1) := ⟨_, rfl⟩
          have i24_4 : I4 24 = (IL 24) + 1 := by rw [eI4, va_up_self]
          have fI4 : ∀ j, j ≠ 24 → I4 j = IL j := fun j hj => by rw [eI4, va_up_ne _ _ hj]
          have hM4 : MW X (gup σL o (10, gO 4 ((mfs a IL).set 24 (.int (iI ((IL 24) + 1)))))) o a VL I4 := by rw [eI4]; exact hML.num (mfs_24 a IL _)
          have hkp4 : gKeep (fun t => t = 10) σ (gup σL o (10, gO 4 ((mfs a IL).set 24 (.int (iI ((IL 24) + 1)))))) := hkL.tr (gKeep.up hML.o rfl)
          generalize (gup σL o (10, gO 4 ((mfs a IL).set 24 (.int (iI ((IL 24) + 1)))))) = σ4 at hG hM4 hkp4
          refine lv_goto (tgt := 2) hx hb dX4_often_28 (by decide) ?_
          exact ih_2 σ4 VL I4 (n9 + 1) (by omega) (hM4) (hkp4) (by omega) (hV) (fun j h => (fI4 j h).trans (hI j h)) (by rw [i24_4, h24]; omega) (by
                    rcases hc with hc | hc | hc
                    · subst hc; rw [show Iv 24 + 0 = Iv 24 by omega] at hh; exact Or.inr (Or.inl ⟨by omega, by omega⟩)
                    · obtain ⟨e1, e2⟩ := hc; subst e1; exact Or.inr (Or.inr ⟨by omega, e2, by omega⟩)
                    · omega) (by rw [i24_4, fI4 23 (by decide)]; have := hrZ_lt (t := V 22) (n := Iv 23) (p := Iv 24 + n9) (by omega); rw [hI 23 (by decide)]; omega)  _ _ _ hG hS (lv_sub hl [0, 1, 2] rfl)
  exact loop_2 _ σ V Iv 0 (Nat.lt_succ_self _) (hM) (hkp) (by omega) (rfl) (fun j h => rfl) (by omega) (Or.inl rfl) (hAt.2)  _ _ _ hG hS (lv_sub hl [0, 1, 2] rfl)

set_option maxHeartbeats 4000000 in
theorem mX4_isTerm (l : Launch) (X : gX) (σ : gS) (o : Nat) (a : Nat → Nat) (V : Nat → Int → Int) (Iv : Nat → Int) (hM : MW X σ o a V Iv) (hTp : 0 ≤ Iv 23 ∧ Iv 23 ≤ 60) (hTv : ∀ q : Int, 0 ≤ q → q < Iv 23 → 1 ≤ V 22 q ∧ V 22 q ≤ 127) (hAt : 0 ≤ Iv 24 ∧ Iv 24 ≤ Iv 23) (hRd : ∀ q : Int, 0 ≤ q → q < 9 → 0 ≤ V 25 q ∧ V 25 q ≤ 30)    : gMet l X yX4_isTerm cX4_isTerm 4 (some .boolean) 2 0 0 42 σ [.ref o] (oI (fun r σ' => ∃ (V' : Nat → Int → Int) (I' : Nat → Int), MW X σ' o a V' I' ∧ gKeep (fun t => t = 10) σ σ' ∧ (r = (trmZ (V 22) (Iv 23) (Iv 24)).1 ∧ I' 24 = (trmZ (V 22) (Iv 23) (Iv 24)).2.1 ∧ (∀ j, j ≠ 24 → I' j = Iv j) ∧ (∀ q, q ≠ 25 → V' q = V q) ∧ (r = 1 → V' 25 = addR (V 25) (trmZ (V 22) (Iv 23) (Iv 24))) ∧ (r = 0 → V' 25 = V 25)))) := by
  refine gMet.of (by decide) (Nat.le_of_ble_eq_true rfl) ?_
  intro pp ee ss mm args below meth cd Q H locs ls hargs hx hb hr hlocks hml hown hnm hts hK hG hS hQ hl
  have hown : ss.vm.findClass RX4 = some mm.cls := hown
  have hl : lv_has ls 4 [(0, .ref o)] := hl
  have hkp : gKeep (fun t => t = 10) σ σ := gKeep.rf
  refine lv_aload_n hx hb dX4_isTerm_0 rfl (lv_at hl 0 rfl) ?_
  refine g_callV (As := []) (rest := []) 0 hx hb hml hown hts hK hG hS hl.1 (mX4_here l X σ o a V Iv hM hTp hTv hAt  ) hM.o rfl q2286 q2288 qs64 q86 q2289 (by decide +kernel) rfl ⟨Nat.le_of_ble_eq_true rfl, Nat.le_of_ble_eq_true rfl⟩ ⟨Nat.le_of_ble_eq_true rfl, Nat.le_of_ble_eq_true rfl⟩ (Nat.le_of_ble_eq_true rfl) dX4_isTerm_1 (kI (fun r1 σr1 H locs hp hG hS => ?_))
  obtain ⟨⟨hr1, kr1⟩, rfl⟩ := hp
  have hbr1 : r1 = hrZ (V 22) (Iv 23) (Iv 24) := by rw [hr1]
  refine g_i2l hx hb dX4_isTerm_4 (by omega) ?_
  refine g_ldc2 hx hb (49) hown (hts _ q2294) (by decide) dX4_isTerm_5 ?_
  refine g_ldc2 hx hb (57) hown (hts _ q2295) (by decide) dX4_isTerm_8 ?_
  refine g_callS (As := [.long (lI r1), .long (lI (49)), .long (lI (57))]) (rest := []) 3 hx hb hml hown hts hK hG hS hl.1 (mX4_in l X σ  r1 (49) (57) (by omega) (by omega) (by omega)) q2056 q2057 q86 q2058 (by decide +kernel) rfl ⟨Nat.le_of_ble_eq_true rfl, Nat.le_of_ble_eq_true rfl⟩ ⟨Nat.le_of_ble_eq_true rfl, Nat.le_of_ble_eq_true rfl⟩ (Nat.le_of_ble_eq_true rfl) dX4_isTerm_11 (kI (fun r2 σr2 H locs hp hG hS => ?_))
  obtain ⟨hr2, rfl⟩ := hp
  refine g_if_ne (tgt := 19) hx hb dX4_isTerm_14 (by decide) (by omega) (fun cq3 => ?_) (fun cq3 => ?_)
  · refine lv_aload_n hx hb dX4_isTerm_19 rfl (lv_at hl 0 rfl) ?_
    refine g_callV (As := []) (rest := []) 0 hx hb hml hown hts hK hG hS hl.1 (mX4_here l X σ o a V Iv hM hTp hTv hAt  ) hM.o rfl q2286 q2288 qs64 q86 q2289 (by decide +kernel) rfl ⟨Nat.le_of_ble_eq_true rfl, Nat.le_of_ble_eq_true rfl⟩ ⟨Nat.le_of_ble_eq_true rfl, Nat.le_of_ble_eq_true rfl⟩ (Nat.le_of_ble_eq_true rfl) dX4_isTerm_20 (kI (fun r4 σr4 H locs hp hG hS => ?_))
    obtain ⟨⟨hr4, kr4⟩, rfl⟩ := hp
    have hbr4 : r4 = hrZ (V 22) (Iv 23) (Iv 24) := by rw [hr4]
    refine g_bipush hx hb dX4_isTerm_23 (by decide) ?_
    refine g_isub hx hb dX4_isTerm_25 ?_
    refine lv_istore_n (lv' := [(1, .int (iI (r4 - 48))), (0, .ref o)]) hx hb dX4_isTerm_26 rfl hl (by decide) rfl (fun ls hl => ?_)
    refine lv_aload_n hx hb dX4_isTerm_27 rfl (lv_at hl 1 rfl) ?_
    refine lv_dup hx hb dX4_isTerm_28 rfl ?_
    refine g_get (C := RX4) (T := TX4) (N := 30) (v := .int (iI (Iv 24))) hx hb hts hown hK hG hM.o rfl in_X4 24 (by decide) q1982 rfl rfl dX4_isTerm_29 ?_
    refine g_iconst hx hb dX4_isTerm_32 ?_
    refine g_iadd hx hb dX4_isTerm_33 ?_
    refine g_put (C := RX4) (T := TX4) (N := 30) (ty0 := tyX4) (v := .int (iI ((Iv 24) + 1))) hx hb hts hown hK hG hS hM.o rfl in_X4 tyX4_ok nmX4 24 (by decide) q1982 rfl (by decide) rfl rfl (Nat.le_of_ble_eq_true rfl) dX4_isTerm_34 (fun H locs hG hS => ?_)
    obtain ⟨I5, eI5⟩ : ∃ J : Nat → Int, J = va_up Iv 24 ((Iv 24) + 1) := ⟨_, rfl⟩
    have i24_5 : I5 24 = (Iv 24) + 1 := by rw [eI5, va_up_self]
    have fI5 : ∀ j, j ≠ 24 → I5 j = Iv j := fun j hj => by rw [eI5, va_up_ne _ _ hj]
    have hM5 : MW X (gup σ o (10, gO 4 ((mfs a Iv).set 24 (.int (iI ((Iv 24) + 1)))))) o a V I5 := by rw [eI5]; exact hM.num (mfs_24 a Iv _)
    have hkp5 : gKeep (fun t => t = 10) σ (gup σ o (10, gO 4 ((mfs a Iv).set 24 (.int (iI ((Iv 24) + 1)))))) := hkp.tr (gKeep.up hM.o rfl)
    generalize (gup σ o (10, gO 4 ((mfs a Iv).set 24 (.int (iI ((Iv 24) + 1)))))) = σ5 at hG hM5 hkp5
    have hlt5 := hrZ_lt (t := V 22) (n := Iv 23) (p := Iv 24) (by omega)
    have hq5 : I5 24 = Iv 24 + 1 := by rw [i24_5]
    have hr_5 : ∀ j, j ≠ 24 → I5 j = Iv j := fun j h => fI5 j h
    have hTp5 : 0 ≤ I5 23 ∧ I5 23 ≤ 60 := by rw [hr_5 23 (by decide)]; exact hTp
    have hTv5 : ∀ q : Int, 0 ≤ q → q < I5 23 → 1 ≤ V 22 q ∧ V 22 q ≤ 127 := by rw [hr_5 23 (by decide), (rfl : V = V)]; exact hTv
    have hAt5 : 0 ≤ I5 24 ∧ I5 24 ≤ I5 23 := by rw [hq5, hr_5 23 (by decide)]; omega
    refine lv_aload_n hx hb dX4_isTerm_37 rfl (lv_at hl 1 rfl) ?_
    refine g_callV (As := []) (rest := []) 0 hx hb hml hown hts hK hG hS hl.1 (mX4_here l X σ5 o a V I5 hM5 hTp5 hTv5 hAt5  ) hM5.o rfl q2286 q2288 qs64 q86 q2289 (by decide +kernel) rfl ⟨Nat.le_of_ble_eq_true rfl, Nat.le_of_ble_eq_true rfl⟩ ⟨Nat.le_of_ble_eq_true rfl, Nat.le_of_ble_eq_true rfl⟩ (Nat.le_of_ble_eq_true rfl) dX4_isTerm_38 (kI (fun r6 σr6 H locs hp hG hS => ?_))
    obtain ⟨⟨hr6, kr6⟩, rfl⟩ := hp
    have hbr6 : r6 = hrZ (V 22) (Iv 23) (Iv 24 + 1) := by rw [hr6, hr_5 23 (by decide), hq5]
    refine g_i2l hx hb dX4_isTerm_41 (by omega) ?_
    refine g_ldc2 hx hb (48) hown (hts _ q2296) (by decide) dX4_isTerm_42 ?_
    refine g_ldc2 hx hb (57) hown (hts _ q2295) (by decide) dX4_isTerm_45 ?_
    refine g_callS (As := [.long (lI r6), .long (lI (48)), .long (lI (57))]) (rest := []) 3 hx hb hml hown hts hK hG hS hl.1 (mX4_in l X σ5  r6 (48) (57) (by omega) (by omega) (by omega)) q2056 q2057 q86 q2058 (by decide +kernel) rfl ⟨Nat.le_of_ble_eq_true rfl, Nat.le_of_ble_eq_true rfl⟩ ⟨Nat.le_of_ble_eq_true rfl, Nat.le_of_ble_eq_true rfl⟩ (Nat.le_of_ble_eq_true rfl) dX4_isTerm_48 (kI (fun r7 σr7 H locs hp hG hS => ?_))
    obtain ⟨hr7, rfl⟩ := hp
    refine g_if_eq (tgt := 85) hx hb dX4_isTerm_51 (by decide) (by omega) (fun cq8 => ?_) (fun cq8 => ?_)
    · refine lv_aload_n hx hb dX4_isTerm_85 rfl (lv_at hl 1 rfl) ?_
      refine g_bipush hx hb dX4_isTerm_86 (by decide) ?_
      refine g_callV (As := [.int (iI 120)]) (rest := []) 1 hx hb hml hown hts hK hG hS hl.1 (mX4_often l X σ5 o a V I5 hM5 hTp5 hTv5 hAt5 120 (by omega)) hM5.o rfl q2297 q2299 qs66 q86 q2300 (by decide +kernel) rfl ⟨Nat.le_of_ble_eq_true rfl, Nat.le_of_ble_eq_true rfl⟩ ⟨Nat.le_of_ble_eq_true rfl, Nat.le_of_ble_eq_true rfl⟩ (Nat.le_of_ble_eq_true rfl) dX4_isTerm_88 (kI (fun r9 σr9 H locs hp hG hS => ?_))
      obtain ⟨V9, I9, hM9, kp9, hrel9⟩ := hp
      have hkp9 := hkp5.tr kp9
      have hcr9 : r9 = cntZ (V 22) (Iv 23) 120 (Iv 24 + 1) := by rw [hrel9.1, hr_5 23 (by decide), hq5]
      have hcrr9 := cntZ_r (V 22) (Iv 23) (c := 120) (p := Iv 24 + 1) (by decide) (by omega)
      rw [← hcr9] at hcrr9
      have hv9 : V9 = V := hrel9.2.1
      have hq9 : I9 24 = Iv 24 + 1 + r9 := by rw [hrel9.2.2.1, hq5]
      have hr_9 : ∀ j, j ≠ 24 → I9 j = Iv j := fun j h => (hrel9.2.2.2 j h).trans (hr_5 j h)
      have hTp9 : 0 ≤ I9 23 ∧ I9 23 ≤ 60 := by rw [hr_9 23 (by decide)]; exact hTp
      have hTv9 : ∀ q : Int, 0 ≤ q → q < I9 23 → 1 ≤ V9 22 q ∧ V9 22 q ≤ 127 := by rw [hr_9 23 (by decide), hv9]; exact hTv
      have hAt9 : 0 ≤ I9 24 ∧ I9 24 ≤ I9 23 := by rw [hq9, hr_9 23 (by decide)]; omega
      refine lv_istore_n (lv' := [(2, .int (iI r9)), (1, .int (iI (r4 - 48))), (0, .ref o)]) hx hb dX4_isTerm_91 rfl hl (by decide) rfl (fun ls hl => ?_)
      refine lv_aload_n hx hb dX4_isTerm_92 rfl (lv_at hl 2 rfl) ?_
      refine g_bipush hx hb dX4_isTerm_93 (by decide) ?_
      refine g_callV (As := [.int (iI 121)]) (rest := []) 1 hx hb hml hown hts hK hG hS hl.1 (mX4_often l X σr9 o a V9 I9 hM9 hTp9 hTv9 hAt9 121 (by omega)) hM9.o rfl q2297 q2299 qs66 q86 q2300 (by decide +kernel) rfl ⟨Nat.le_of_ble_eq_true rfl, Nat.le_of_ble_eq_true rfl⟩ ⟨Nat.le_of_ble_eq_true rfl, Nat.le_of_ble_eq_true rfl⟩ (Nat.le_of_ble_eq_true rfl) dX4_isTerm_95 (kI (fun r10 σr10 H locs hp hG hS => ?_))
      obtain ⟨V10, I10, hM10, kp10, hrel10⟩ := hp
      have hkp10 := hkp9.tr kp10
      have hcr10 : r10 = cntZ (V 22) (Iv 23) 121 (Iv 24 + 1 + r9) := by rw [hrel10.1, hv9, hr_9 23 (by decide), hq9]
      have hcrr10 := cntZ_r (V 22) (Iv 23) (c := 121) (p := Iv 24 + 1 + r9) (by decide) (by omega)
      rw [← hcr10] at hcrr10
      have hv10 : V10 = V := hrel10.2.1.trans hv9
      have hq10 : I10 24 = Iv 24 + 1 + r9 + r10 := by rw [hrel10.2.2.1, hq9]
      have hr_10 : ∀ j, j ≠ 24 → I10 j = Iv j := fun j h => (hrel10.2.2.2 j h).trans (hr_9 j h)
      have hTp10 : 0 ≤ I10 23 ∧ I10 23 ≤ 60 := by rw [hr_10 23 (by decide)]; exact hTp
      have hTv10 : ∀ q : Int, 0 ≤ q → q < I10 23 → 1 ≤ V10 22 q ∧ V10 22 q ≤ 127 := by rw [hr_10 23 (by decide), hv10]; exact hTv
      have hAt10 : 0 ≤ I10 24 ∧ I10 24 ≤ I10 23 := by rw [hq10, hr_10 23 (by decide)]; omega
      refine lv_istore_n (lv' := [(3, .int (iI r10)), (2, .int (iI r9)), (1, .int (iI (r4 - 48))), (0, .ref o)]) hx hb dX4_isTerm_98 rfl hl (by decide) rfl (fun ls hl => ?_)
      refine lv_aload_n hx hb dX4_isTerm_99 rfl (lv_at hl 3 rfl) ?_
      refine g_get (C := RX4) (T := TX4) (N := 30) (v := .ref (a 25)) hx hb hts hown hK hG hM10.o rfl in_X4 25 (by decide) q1983 rfl rfl dX4_isTerm_100 ?_
      refine g_iconst hx hb dX4_isTerm_103 ?_
      refine lv_iload_n hx hb dX4_isTerm_104 rfl (lv_at hl 1 rfl) ?_
      refine g_imul hx hb dX4_isTerm_105 ?_
      refine lv_iload_n hx hb dX4_isTerm_106 rfl (lv_at hl 0 rfl) ?_
      refine g_iadd hx hb dX4_isTerm_107 ?_
      refine lv_aload_n hx hb dX4_isTerm_108 rfl (lv_at hl 3 rfl) ?_
      refine g_get (C := RX4) (T := TX4) (N := 30) (v := .ref (a 25)) hx hb hts hown hK hG hM10.o rfl in_X4 25 (by decide) q1983 rfl rfl dX4_isTerm_109 ?_
      refine g_iconst hx hb dX4_isTerm_112 ?_
      refine lv_iload_n hx hb dX4_isTerm_113 rfl (lv_at hl 1 rfl) ?_
      refine g_imul hx hb dX4_isTerm_114 ?_
      refine lv_iload_n hx hb dX4_isTerm_115 rfl (lv_at hl 0 rfl) ?_
      refine g_iadd hx hb dX4_isTerm_116 ?_
      refine g_iald hx hb hK hG hM10.a25 dX4_isTerm_117 (by omega) ?_
      have hrd0 := hRd ((3 * r9) + r10) (by omega) (by omega)
      refine g_rw (b := (V 25 ((3 * r9) + r10))) (by rw [hv10]) ?_
      refine lv_iload_n hx hb dX4_isTerm_118 rfl (lv_at hl 2 rfl) ?_
      refine g_iadd hx hb dX4_isTerm_119 ?_
      refine g_bipush hx hb dX4_isTerm_120 (by decide) ?_
      refine g_irem hx hb dX4_isTerm_122 (by omega) (by omega) ?_
      refine g_iast hx hb hK hG hS hM10.a25 dX4_isTerm_123 (by omega) (fun H locs hG hS => ?_)
      obtain ⟨V11, eV11⟩ : ∃ J : Nat → Int → Int, J = va_up V10 25 (iup (V10 25) ((3 * r9) + r10) (((V 25 ((3 * r9) + r10)) + (r4 - 48)) % 31)) := ⟨_, rfl⟩
      have v25_11 : V11 25 = (iup (V10 25) ((3 * r9) + r10) (((V 25 ((3 * r9) + r10)) + (r4 - 48)) % 31)) := by rw [eV11, va_up_self]
      have fV11 : ∀ j, j ≠ 25 → V11 j = V10 j := fun j hj => by rw [eV11, va_up_ne _ _ hj]
      have hM11 : MW X (gup σr10 (a 25) (10, gI (X.2.1 0) 9 (iup (V10 25) ((3 * r9) + r10) (((V 25 ((3 * r9) + r10)) + (r4 - 48)) % 31)))) o a V11 I10 := by rw [eV11]; exact hM10.set 25 rfl _
      have hkp11 : gKeep (fun t => t = 10) σ (gup σr10 (a 25) (10, gI (X.2.1 0) 9 (iup (V10 25) ((3 * r9) + r10) (((V 25 ((3 * r9) + r10)) + (r4 - 48)) % 31)))) := hkp10.tr (gKeep.up hM10.a25 rfl)
      generalize (gup σr10 (a 25) (10, gI (X.2.1 0) 9 (iup (V10 25) ((3 * r9) + r10) (((V 25 ((3 * r9) + r10)) + (r4 - 48)) % 31)))) = σ11 at hG hM11 hkp11
      refine g_iconst hx hb dX4_isTerm_124 ?_
      exact g_zret hx hb hr hlocks hQ hG hS (Nat.zero_le _) (Nat.zero_le _) (gnz (by omega)) ⟨_, rfl, V11, I10, hM11, hkp11, (by
                have ht : trmZ (V 22) (Iv 23) (Iv 24) = (1, Iv 24 + 1 + r9 + r10, 3 * r9 + r10, r4 - 48) := (by unfold trmZ; rw [if_pos (by omega), if_neg (by omega)]; unfold tfZ; rw [← hcr9, ← hcr10]; congr 4 <;> omega)
                rw [ht]
                exact ⟨rfl, hq10, hr_10, fun q h => (fV11 q h).trans (by rw [hv10]), fun _ => by rw [v25_11, hv10]; rfl, fun h => by omega⟩)⟩ dX4_isTerm_125
    · refine g_bipush hx hb dX4_isTerm_54 (by decide) ?_
      refine lv_iload_n hx hb dX4_isTerm_56 rfl (lv_at hl 0 rfl) ?_
      refine g_imul hx hb dX4_isTerm_57 ?_
      refine lv_aload_n hx hb dX4_isTerm_58 rfl (lv_at hl 1 rfl) ?_
      refine g_callV (As := []) (rest := [.int (iI (10 * (r4 - 48)))]) 0 hx hb hml hown hts hK hG hS hl.1 (mX4_here l X σ5 o a V I5 hM5 hTp5 hTv5 hAt5  ) hM5.o rfl q2286 q2288 qs64 q86 q2289 (by decide +kernel) rfl ⟨Nat.le_of_ble_eq_true rfl, Nat.le_of_ble_eq_true rfl⟩ ⟨Nat.le_of_ble_eq_true rfl, Nat.le_of_ble_eq_true rfl⟩ (Nat.le_of_ble_eq_true rfl) dX4_isTerm_59 (kI (fun r12 σr12 H locs hp hG hS => ?_))
      obtain ⟨⟨hr12, kr12⟩, rfl⟩ := hp
      have hbr12 : r12 = hrZ (V 22) (Iv 23) (Iv 24 + 1) := by rw [hr12, hr_5 23 (by decide), hq5]
      refine g_iadd hx hb dX4_isTerm_62 ?_
      refine g_bipush hx hb dX4_isTerm_63 (by decide) ?_
      refine g_isub hx hb dX4_isTerm_65 ?_
      refine lv_istore_n (lv' := [(1, .int (iI (((10 * (r4 - 48)) + r12) - 48))), (0, .ref o)]) hx hb dX4_isTerm_66 rfl hl (by decide) rfl (fun ls hl => ?_)
      refine lv_iload_n hx hb dX4_isTerm_67 rfl (lv_at hl 0 rfl) ?_
      refine g_bipush hx hb dX4_isTerm_68 (by decide) ?_
      refine g_icmp_lt (tgt := 75) hx hb dX4_isTerm_70 (by decide) (by omega) (by omega) (fun cq13 => ?_) (fun cq13 => ?_)
      · refine lv_aload_n hx hb dX4_isTerm_75 rfl (lv_at hl 1 rfl) ?_
        refine lv_dup hx hb dX4_isTerm_76 rfl ?_
        refine g_get (C := RX4) (T := TX4) (N := 30) (v := .int (iI (I5 24))) hx hb hts hown hK hG hM5.o rfl in_X4 24 (by decide) q1982 rfl rfl dX4_isTerm_77 ?_
        refine g_iconst hx hb dX4_isTerm_80 ?_
        refine g_iadd hx hb dX4_isTerm_81 ?_
        refine g_put (C := RX4) (T := TX4) (N := 30) (ty0 := tyX4) (v := .int (iI ((I5 24) + 1))) hx hb hts hown hK hG hS hM5.o rfl in_X4 tyX4_ok nmX4 24 (by decide) q1982 rfl (by decide) rfl rfl (Nat.le_of_ble_eq_true rfl) dX4_isTerm_82 (fun H locs hG hS => ?_)
        obtain ⟨I14, eI14⟩ : ∃ J : Nat → Int, J = va_up I5 24 ((I5 24) + 1) := ⟨_, rfl⟩
        have i24_14 : I14 24 = (I5 24) + 1 := by rw [eI14, va_up_self]
        have fI14 : ∀ j, j ≠ 24 → I14 j = I5 j := fun j hj => by rw [eI14, va_up_ne _ _ hj]
        have hM14 : MW X (gup σ5 o (10, gO 4 ((mfs a I5).set 24 (.int (iI ((I5 24) + 1)))))) o a V I14 := by rw [eI14]; exact hM5.num (mfs_24 a I5 _)
        have hkp14 : gKeep (fun t => t = 10) σ (gup σ5 o (10, gO 4 ((mfs a I5).set 24 (.int (iI ((I5 24) + 1)))))) := hkp5.tr (gKeep.up hM5.o rfl)
        generalize (gup σ5 o (10, gO 4 ((mfs a I5).set 24 (.int (iI ((I5 24) + 1)))))) = σ14 at hG hM14 hkp14
        have hlt14 := hrZ_lt (t := V 22) (n := Iv 23) (p := Iv 24 + 1) (by omega)
        have hq14 : I14 24 = Iv 24 + 2 := by rw [i24_14, hq5]; omega
        have hr_14 : ∀ j, j ≠ 24 → I14 j = Iv j := fun j h => (fI14 j h).trans (hr_5 j h)
        have hTp14 : 0 ≤ I14 23 ∧ I14 23 ≤ 60 := by rw [hr_14 23 (by decide)]; exact hTp
        have hTv14 : ∀ q : Int, 0 ≤ q → q < I14 23 → 1 ≤ V 22 q ∧ V 22 q ≤ 127 := by rw [hr_14 23 (by decide), (rfl : V = V)]; exact hTv
        have hAt14 : 0 ≤ I14 24 ∧ I14 24 ≤ I14 23 := by rw [hq14, hr_14 23 (by decide)]; omega
        refine lv_aload_n hx hb dX4_isTerm_85 rfl (lv_at hl 1 rfl) ?_
        refine g_bipush hx hb dX4_isTerm_86 (by decide) ?_
        refine g_callV (As := [.int (iI 120)]) (rest := []) 1 hx hb hml hown hts hK hG hS hl.1 (mX4_often l X σ14 o a V I14 hM14 hTp14 hTv14 hAt14 120 (by omega)) hM14.o rfl q2297 q2299 qs66 q86 q2300 (by decide +kernel) rfl ⟨Nat.le_of_ble_eq_true rfl, Nat.le_of_ble_eq_true rfl⟩ ⟨Nat.le_of_ble_eq_true rfl, Nat.le_of_ble_eq_true rfl⟩ (Nat.le_of_ble_eq_true rfl) dX4_isTerm_88 (kI (fun r15 σr15 H locs hp hG hS => ?_))
        obtain ⟨V15, I15, hM15, kp15, hrel15⟩ := hp
        have hkp15 := hkp14.tr kp15
        have hcr15 : r15 = cntZ (V 22) (Iv 23) 120 (Iv 24 + 2) := by rw [hrel15.1, hr_14 23 (by decide), hq14]
        have hcrr15 := cntZ_r (V 22) (Iv 23) (c := 120) (p := Iv 24 + 2) (by decide) (by omega)
        rw [← hcr15] at hcrr15
        have hv15 : V15 = V := hrel15.2.1
        have hq15 : I15 24 = Iv 24 + 2 + r15 := by rw [hrel15.2.2.1, hq14]
        have hr_15 : ∀ j, j ≠ 24 → I15 j = Iv j := fun j h => (hrel15.2.2.2 j h).trans (hr_14 j h)
        have hTp15 : 0 ≤ I15 23 ∧ I15 23 ≤ 60 := by rw [hr_15 23 (by decide)]; exact hTp
        have hTv15 : ∀ q : Int, 0 ≤ q → q < I15 23 → 1 ≤ V15 22 q ∧ V15 22 q ≤ 127 := by rw [hr_15 23 (by decide), hv15]; exact hTv
        have hAt15 : 0 ≤ I15 24 ∧ I15 24 ≤ I15 23 := by rw [hq15, hr_15 23 (by decide)]; omega
        refine lv_istore_n (lv' := [(2, .int (iI r15)), (1, .int (iI (((10 * (r4 - 48)) + r12) - 48))), (0, .ref o)]) hx hb dX4_isTerm_91 rfl hl (by decide) rfl (fun ls hl => ?_)
        refine lv_aload_n hx hb dX4_isTerm_92 rfl (lv_at hl 2 rfl) ?_
        refine g_bipush hx hb dX4_isTerm_93 (by decide) ?_
        refine g_callV (As := [.int (iI 121)]) (rest := []) 1 hx hb hml hown hts hK hG hS hl.1 (mX4_often l X σr15 o a V15 I15 hM15 hTp15 hTv15 hAt15 121 (by omega)) hM15.o rfl q2297 q2299 qs66 q86 q2300 (by decide +kernel) rfl ⟨Nat.le_of_ble_eq_true rfl, Nat.le_of_ble_eq_true rfl⟩ ⟨Nat.le_of_ble_eq_true rfl, Nat.le_of_ble_eq_true rfl⟩ (Nat.le_of_ble_eq_true rfl) dX4_isTerm_95 (kI (fun r16 σr16 H locs hp hG hS => ?_))
        obtain ⟨V16, I16, hM16, kp16, hrel16⟩ := hp
        have hkp16 := hkp15.tr kp16
        have hcr16 : r16 = cntZ (V 22) (Iv 23) 121 (Iv 24 + 2 + r15) := by rw [hrel16.1, hv15, hr_15 23 (by decide), hq15]
        have hcrr16 := cntZ_r (V 22) (Iv 23) (c := 121) (p := Iv 24 + 2 + r15) (by decide) (by omega)
        rw [← hcr16] at hcrr16
        have hv16 : V16 = V := hrel16.2.1.trans hv15
        have hq16 : I16 24 = Iv 24 + 2 + r15 + r16 := by rw [hrel16.2.2.1, hq15]
        have hr_16 : ∀ j, j ≠ 24 → I16 j = Iv j := fun j h => (hrel16.2.2.2 j h).trans (hr_15 j h)
        have hTp16 : 0 ≤ I16 23 ∧ I16 23 ≤ 60 := by rw [hr_16 23 (by decide)]; exact hTp
        have hTv16 : ∀ q : Int, 0 ≤ q → q < I16 23 → 1 ≤ V16 22 q ∧ V16 22 q ≤ 127 := by rw [hr_16 23 (by decide), hv16]; exact hTv
        have hAt16 : 0 ≤ I16 24 ∧ I16 24 ≤ I16 23 := by rw [hq16, hr_16 23 (by decide)]; omega
        refine lv_istore_n (lv' := [(3, .int (iI r16)), (2, .int (iI r15)), (1, .int (iI (((10 * (r4 - 48)) + r12) - 48))), (0, .ref o)]) hx hb dX4_isTerm_98 rfl hl (by decide) rfl (fun ls hl => ?_)
        refine lv_aload_n hx hb dX4_isTerm_99 rfl (lv_at hl 3 rfl) ?_
        refine g_get (C := RX4) (T := TX4) (N := 30) (v := .ref (a 25)) hx hb hts hown hK hG hM16.o rfl in_X4 25 (by decide) q1983 rfl rfl dX4_isTerm_100 ?_
        refine g_iconst hx hb dX4_isTerm_103 ?_
        refine lv_iload_n hx hb dX4_isTerm_104 rfl (lv_at hl 1 rfl) ?_
        refine g_imul hx hb dX4_isTerm_105 ?_
        refine lv_iload_n hx hb dX4_isTerm_106 rfl (lv_at hl 0 rfl) ?_
        refine g_iadd hx hb dX4_isTerm_107 ?_
        refine lv_aload_n hx hb dX4_isTerm_108 rfl (lv_at hl 3 rfl) ?_
        refine g_get (C := RX4) (T := TX4) (N := 30) (v := .ref (a 25)) hx hb hts hown hK hG hM16.o rfl in_X4 25 (by decide) q1983 rfl rfl dX4_isTerm_109 ?_
        refine g_iconst hx hb dX4_isTerm_112 ?_
        refine lv_iload_n hx hb dX4_isTerm_113 rfl (lv_at hl 1 rfl) ?_
        refine g_imul hx hb dX4_isTerm_114 ?_
        refine lv_iload_n hx hb dX4_isTerm_115 rfl (lv_at hl 0 rfl) ?_
        refine g_iadd hx hb dX4_isTerm_116 ?_
        refine g_iald hx hb hK hG hM16.a25 dX4_isTerm_117 (by omega) ?_
        have hrd0 := hRd ((3 * r15) + r16) (by omega) (by omega)
        refine g_rw (b := (V 25 ((3 * r15) + r16))) (by rw [hv16]) ?_
        refine lv_iload_n hx hb dX4_isTerm_118 rfl (lv_at hl 2 rfl) ?_
        refine g_iadd hx hb dX4_isTerm_119 ?_
        refine g_bipush hx hb dX4_isTerm_120 (by decide) ?_
        refine g_irem hx hb dX4_isTerm_122 (by omega) (by omega) ?_
        refine g_iast hx hb hK hG hS hM16.a25 dX4_isTerm_123 (by omega) (fun H locs hG hS => ?_)
        obtain ⟨V17, eV17⟩ : ∃ J : Nat → Int → Int, J = va_up V16 25 (iup (V16 25) ((3 * r15) + r16) (((V 25 ((3 * r15) + r16)) + (((10 * (r4 - 48)) + r12) - 48)) % 31)) := ⟨_, rfl⟩
        have v25_17 : V17 25 = (iup (V16 25) ((3 * r15) + r16) (((V 25 ((3 * r15) + r16)) + (((10 * (r4 - 48)) + r12) - 48)) % 31)) := by rw [eV17, va_up_self]
        have fV17 : ∀ j, j ≠ 25 → V17 j = V16 j := fun j hj => by rw [eV17, va_up_ne _ _ hj]
        have hM17 : MW X (gup σr16 (a 25) (10, gI (X.2.1 0) 9 (iup (V16 25) ((3 * r15) + r16) (((V 25 ((3 * r15) + r16)) + (((10 * (r4 - 48)) + r12) - 48)) % 31)))) o a V17 I16 := by rw [eV17]; exact hM16.set 25 rfl _
        have hkp17 : gKeep (fun t => t = 10) σ (gup σr16 (a 25) (10, gI (X.2.1 0) 9 (iup (V16 25) ((3 * r15) + r16) (((V 25 ((3 * r15) + r16)) + (((10 * (r4 - 48)) + r12) - 48)) % 31)))) := hkp16.tr (gKeep.up hM16.a25 rfl)
        generalize (gup σr16 (a 25) (10, gI (X.2.1 0) 9 (iup (V16 25) ((3 * r15) + r16) (((V 25 ((3 * r15) + r16)) + (((10 * (r4 - 48)) + r12) - 48)) % 31)))) = σ17 at hG hM17 hkp17
        refine g_iconst hx hb dX4_isTerm_124 ?_
        exact g_zret hx hb hr hlocks hQ hG hS (Nat.zero_le _) (Nat.zero_le _) (gnz (by omega)) ⟨_, rfl, V17, I16, hM17, hkp17, (by
                  have ht : trmZ (V 22) (Iv 23) (Iv 24) = (1, Iv 24 + 2 + r15 + r16, 3 * r15 + r16, ((10 * (r4 - 48)) + r12) - 48) := (by unfold trmZ; rw [if_pos (by omega), if_pos (by omega), if_pos (by omega)]; unfold tfZ; rw [← hcr15, ← hcr16]; congr 4 <;> omega)
                  rw [ht]
                  exact ⟨rfl, hq16, hr_16, fun q h => (fV17 q h).trans (by rw [hv16]), fun _ => by rw [v25_17, hv16]; rfl, fun h => by omega⟩)⟩ dX4_isTerm_125
      · refine g_iconst hx hb dX4_isTerm_73 ?_
        exact g_zret hx hb hr hlocks hQ hG hS (Nat.zero_le _) (Nat.zero_le _) (gnz (by omega)) ⟨_, rfl, V, I5, hM5, hkp5, (⟨by unfold trmZ; rw [if_pos (by omega), if_pos (by omega), if_neg (by omega)], by unfold trmZ; rw [if_pos (by omega), if_pos (by omega), if_neg (by omega)]; exact hq5, hr_5, fun q h => rfl, fun h => by omega, fun h => rfl⟩)⟩ dX4_isTerm_74
  · refine g_iconst hx hb dX4_isTerm_17 ?_
    exact g_zret hx hb hr hlocks hQ hG hS (Nat.zero_le _) (Nat.zero_le _) (gnz (by omega)) ⟨_, rfl, V, Iv, hM, hkp, (⟨by unfold trmZ; rw [if_neg (by omega)], by unfold trmZ; rw [if_neg (by omega)], fun j h => rfl, fun q h => rfl, fun h => by omega, fun h => rfl⟩)⟩ dX4_isTerm_18
