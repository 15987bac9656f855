/-- where the reading of a table stands -/
def tbI (t : Int → Int) (n : Int) (Z9 : Int × Int × Int × (Int → Int)) (t9 i9 p : Int) (G : Int → Int) : Prop :=
  (t9 = 0 ∧ i9 = 1 ∧ p = 0 ∧ ∀ q : Int, 0 ≤ q → q < 9 → G q = 0) ∨ (1 ≤ t9 ∧ i9 = 1 ∧ ∃ (R : Int → Int) (f : Nat), (∀ q : Int, 0 ≤ q → q < 9 → G q = R q) ∧ n ≤ p + f ∧ tabA t n f t9 p R = Z9) ∨ (i9 = 0 ∧ Z9.1 = 0 ∧ Z9.2.2.1 = p)

theorem tab_f (f : Nat) (h : 0 < f) : f = (f - 1) + 1 := by omega

set_option maxHeartbeats 4000000 in
theorem mX4_table (l : Launch) (X : gX) (σ : gS) (o : Nat) (a : Nat → Nat) (V : Nat → Int → Int) (Iv : Nat → Int) (hM : MW X σ o a V Iv) (hTp : 0 ≤ Iv 23 ∧ Iv 23 ≤ 60) (hTv : ∀ q : Int, 0 ≤ q → q < Iv 23 → 1 ≤ V 22 q ∧ V 22 q ≤ 127) (t : Int)  (h0 : -2147483648 ≤ t ∧ t ≤ 2147483647) : gMet l X yX4_table cX4_table 5 (some .int) 3 0 0 65 σ [.ref o, .int (iI t)] (oI (fun r σ' => ∃ (V' : Nat → Int → Int) (I' : Nat → Int), MW X σ' o a V' I' ∧ gKeep (fun t => t = 10) σ σ' ∧ (r = (if 0 ≤ t ∧ t ≤ 1 then (if (tabZ (V 22) (Iv 23)).1 = 1 then (tabZ (V 22) (Iv 23)).2.1 else -100 - (tabZ (V 22) (Iv 23)).2.2.1) else -1) ∧ ((0 ≤ t ∧ t ≤ 1) ∧ I' 23 = 0 ∧ (∀ j, j ≠ 23 → j ≠ 24 → I' j = Iv j) ∧ (∀ q, q ≠ 0 → q ≠ 25 → V' q = V q) ∧ ((tabZ (V 22) (Iv 23)).1 = 1 → (∀ q : Int, q < 9 * t ∨ 9 * t + 9 ≤ q → V' 0 q = V 0 q) ∧ ∀ q : Int, 0 ≤ q → q < 9 → V' 0 (9 * t + q) = (tabZ (V 22) (Iv 23)).2.2.2 q) ∧ (¬ (tabZ (V 22) (Iv 23)).1 = 1 → V' 0 = V 0) ∨ ¬ (0 ≤ t ∧ t ≤ 1) ∧ V' = V ∧ I' = Iv)))) := by
  refine gMet.of (by decide) (Nat.le_of_ble_eq_true rfl) ?_
  intro pp ee ss mm args below meth cd Q H locs ls hargs hx hb hr hlocks hml hown hnm hts hK hG hS hQ hl
  have hown : ss.vm.findClass RX4 = some mm.cls := hown
  have hl : lv_has ls 5 [(0, .ref o), (1, .int (iI t))] := hl
  have hkp : gKeep (fun t => t = 10) σ σ := gKeep.rf
  have hf0 := tab_f
  obtain ⟨Z9, hZ9⟩ : ∃ z, z = tabZ (V 22) (Iv 23) := ⟨_, rfl⟩
  refine lv_iload_n hx hb dX4_table_0 rfl (lv_at hl 1 rfl) ?_
  refine g_i2l hx hb dX4_table_1 (by omega) ?_
  refine lv_lconst (v := lI 0) hx hb dX4_table_2 (by decide) ?_
  refine lv_lconst (v := lI 1) hx hb dX4_table_3 (by decide) ?_
  refine g_callS (As := [.long (lI t), .long (lI 0), .long (lI 1)]) (rest := []) 3 hx hb hml hown hts hK hG hS hl.1 (mX4_in l X σ  t 0 1 (by omega) (by omega) (by omega)) q2056 q2057 q86 q2058 (by decide +kernel) rfl ⟨Nat.le_of_ble_eq_true rfl, Nat.le_of_ble_eq_true rfl⟩ ⟨Nat.le_of_ble_eq_true rfl, Nat.le_of_ble_eq_true rfl⟩ (Nat.le_of_ble_eq_true rfl) dX4_table_4 (kI (fun r1 σr1 H locs hp hG hS => ?_))
  obtain ⟨hr1, rfl⟩ := hp
  refine g_if_ne (tgt := 12) hx hb dX4_table_7 (by decide) (by omega) (fun cq2 => ?_) (fun cq2 => ?_)
  · refine g_iconst hx hb dX4_table_12 ?_
    refine lv_istore_n (lv' := [(2, .int (iI 0)), (0, .ref o), (1, .int (iI t))]) hx hb dX4_table_13 rfl hl (by decide) rfl (fun ls hl => ?_)
    have loop_14 : ∀ (nF : Nat) (σL : gS) (VL : Nat → Int → Int) (k9 : Int), ((9 - k9).toNat : Nat) < nF → (MW X σL o a VL Iv) → (gKeep (fun t => t = 10) σ σL) → (0 ≤ k9 ∧ k9 ≤ 9) → (∀ q, q ≠ 25 → VL q = V q) → (∀ q : Int, 0 ≤ q → q < k9 → VL 25 q = 0) → ∀ (H : Heap) (locs : List Loc) (ls : Array Slot), gSat X σL H → va_S (gA X) ss.heap H locs → lv_has ls 5 [(2, .int (iI k9)), (0, .ref o), (1, .int (iI t))] → W pp l ee (gR 3 0 0 65) ss mm args below meth cd H locs 0 0 Q (F0 mm 14 ls []) := by
      intro nF
      induction nF with
      | zero => intro σL VL k9 hm; exact absurd hm (Nat.not_lt_zero _)
      | succ nF ih_14 =>
        intro σL VL k9 hm hML hkL hi14_2 hA hZ H locs ls hG hS hl
        refine lv_iload_n hx hb dX4_table_14 rfl (lv_at hl 0 rfl) ?_
        refine g_bipush hx hb dX4_table_15 (by decide) ?_
        refine g_icmp_ge (tgt := 33) hx hb dX4_table_17 (by decide) (by omega) (by omega) (fun cq3 => ?_) (fun cq3 => ?_)
        · refine lv_aload_n hx hb dX4_table_33 rfl (lv_at hl 1 rfl) ?_
          refine g_iconst hx hb dX4_table_34 ?_
          refine g_put (C := RX4) (T := TX4) (N := 30) (ty0 := tyX4) (v := .int (iI 0)) hx hb hts hown hK hG hS hML.o rfl in_X4 tyX4_ok nmX4 24 (by decide) q1982 rfl (by decide) rfl rfl (Nat.le_of_ble_eq_true rfl) dX4_table_35 (fun H locs hG hS => ?_)
          obtain ⟨I4, eI4⟩ : ∃ J : Nat → Int, J = va_up Iv 24 0 := ⟨_, rfl⟩
          have i24_4 : I4 24 = 0 := by rw [eI4, va_up_self]
          have fI4 : ∀ j, j ≠ 24 → I4 j = Iv j := fun j hj => by rw [eI4, va_up_ne _ _ hj]
          have hM4 : MW X (gup σL o (10, gO 4 ((mfs a Iv).set 24 (.int (iI 0))))) o a VL I4 := by rw [eI4]; exact hML.num (mfs_24 a Iv _)
          have hkp4 : gKeep (fun t => t = 10) σ (gup σL o (10, gO 4 ((mfs a Iv).set 24 (.int (iI 0))))) := hkL.tr (gKeep.up hML.o rfl)
          generalize (gup σL o (10, gO 4 ((mfs a Iv).set 24 (.int (iI 0))))) = σ4 at hG hM4 hkp4
          refine g_iconst hx hb dX4_table_38 ?_
          refine lv_istore_n (lv' := [(2, .int (iI 0)), (0, .ref o), (1, .int (iI t))]) hx hb dX4_table_39 rfl hl (by decide) rfl (fun ls hl => ?_)
          refine g_iconst hx hb dX4_table_40 ?_
          refine lv_istore_n (lv' := [(3, .int (iI 1)), (2, .int (iI 0)), (0, .ref o), (1, .int (iI t))]) hx hb dX4_table_41 rfl hl (by decide) rfl (fun ls hl => ?_)
          have loop_42 : ∀ (nF : Nat) (σM : gS) (VM : Nat → Int → Int) (IM : Nat → Int) (t9 : Int) (i9 : Int), (((61 - IM 24).toNat * 2 + i9.toNat) : Nat) < nF → (MW X σM o a VM IM) → (gKeep (fun t => t = 10) σ σM) → (0 ≤ t9 ∧ t9 ≤ IM 24 + 1 ∧ (i9 = 0 ∨ i9 = 1 ∧ t9 ≤ IM 24)) → (∀ q, q ≠ 25 → VM q = V q) → (∀ j, j ≠ 24 → IM j = Iv j) → (0 ≤ IM 24 ∧ IM 24 ≤ Iv 23) → (∀ q : Int, 0 ≤ q → q < 9 → 0 ≤ VM 25 q ∧ VM 25 q ≤ 30) → (tbI (V 22) (Iv 23) Z9 t9 i9 (IM 24) (VM 25)) → ∀ (H : Heap) (locs : List Loc) (ls : Array Slot), gSat X σM H → va_S (gA X) ss.heap H locs → lv_has ls 5 [(3, .int (iI i9)), (2, .int (iI t9)), (0, .ref o), (1, .int (iI t))] → W pp l ee (gR 3 0 0 65) ss mm args below meth cd H locs 0 0 Q (F0 mm 42 ls []) := by
            intro nF
            induction nF with
            | zero => intro σM VM IM t9 i9 hm; exact absurd hm (Nat.not_lt_zero _)
            | succ nF ih_42 =>
              intro σM VM IM t9 i9 hm hMM hkM hi42_2 hAM hIM hi42_5 hRd hinv H locs ls hG hS hl
              have hI23 : IM 23 = Iv 23 := hIM 23 (by decide)
              refine lv_iload_n hx hb dX4_table_42 rfl (lv_at hl 0 rfl) ?_
              refine g_if_eq (tgt := 121) hx hb dX4_table_43 (by decide) (by omega) (fun cq5 => ?_) (fun cq5 => ?_)
              · have hfin : (i9 = 0 ∧ Z9.1 = 0 ∧ Z9.2.2.1 = IM 24) ∨ (i9 = 1 ∧ Z9.1 = 1 ∧ Z9.2.1 = t9 ∧ ∀ q : Int, 0 ≤ q → q < 9 → VM 25 q = Z9.2.2.2 q) := by
                  unfold tbI at hinv
                  rcases hinv with hq | ⟨h1, h2, R, f, h3, h4, h5⟩ | hq
                  · exfalso; omega
                  · refine Or.inr ⟨h2, ?_⟩
                    cases f with
                    | zero => rw [← h5]; exact ⟨rfl, rfl, h3⟩
                    | succ f => rw [tabA, if_neg (by omega)] at h5; rw [← h5]; exact ⟨rfl, rfl, h3⟩
                  · exact Or.inl hq
                clear hinv
                have ht01 : 0 ≤ t ∧ t ≤ 1 := by clear hfin; omega
                refine lv_aload_n hx hb dX4_table_121 rfl (lv_at hl 2 rfl) ?_
                refine g_iconst hx hb dX4_table_122 ?_
                refine g_put (C := RX4) (T := TX4) (N := 30) (ty0 := tyX4) (v := .int (iI 0)) hx hb hts hown hK hG hS hMM.o rfl in_X4 tyX4_ok nmX4 23 (by decide) q1981 rfl (by decide) rfl rfl (Nat.le_of_ble_eq_true rfl) dX4_table_123 (fun H locs hG hS => ?_)
                obtain ⟨I6, eI6⟩ : ∃ J : Nat → Int, J = va_up IM 23 0 := ⟨_, rfl⟩
                have i23_6 : I6 23 = 0 := by rw [eI6, va_up_self]
                have fI6 : ∀ j, j ≠ 23 → I6 j = IM j := fun j hj => by rw [eI6, va_up_ne _ _ hj]
                have hM6 : MW X (gup σM o (10, gO 4 ((mfs a IM).set 23 (.int (iI 0))))) o a VM I6 := by rw [eI6]; exact hMM.num (mfs_23 a IM _)
                have hkp6 : gKeep (fun t => t = 10) σ (gup σM o (10, gO 4 ((mfs a IM).set 23 (.int (iI 0))))) := hkM.tr (gKeep.up hMM.o rfl)
                generalize (gup σM o (10, gO 4 ((mfs a IM).set 23 (.int (iI 0))))) = σ6 at hG hM6 hkp6
                refine lv_iload_n hx hb dX4_table_126 rfl (lv_at hl 0 rfl) ?_
                refine g_if_ne (tgt := 138) hx hb dX4_table_127 (by decide) (by omega) (fun cq7 => by omega) (fun cq7 => ?_)
                refine g_bipush hx hb dX4_table_130 (by decide) ?_
                refine lv_aload_n hx hb dX4_table_132 rfl (lv_at hl 2 rfl) ?_
                refine g_get (C := RX4) (T := TX4) (N := 30) (v := .int (iI (I6 24))) hx hb hts hown hK hG hM6.o rfl in_X4 24 (by decide) q1982 rfl rfl dX4_table_133 ?_
                refine g_isub hx hb dX4_table_136 ?_
                exact g_iret hx hb hr hlocks hQ hG hS (Nat.zero_le _) (Nat.zero_le _) ⟨_, rfl, VM, I6, hM6, hkp6, (by
                          rw [← hZ9]
                          rcases hfin with ⟨h1, h2, h3⟩ | hq
                          · refine ⟨by rw [if_pos ht01, if_neg (by rw [h2]; decide), h3, fI6 24 (by decide)], Or.inl ⟨ht01, i23_6, fun j g1 g2 => (fI6 j g1).trans (hIM j g2), fun q g1 g2 => hAM q g2, fun h => by rw [h2] at h; exact absurd h (by decide), fun _ => hAM 0 (by decide)⟩⟩
                          · exfalso; omega)⟩ dX4_table_137
              · refine lv_iload_n hx hb dX4_table_46 rfl (lv_at hl 1 rfl) ?_
                refine g_if_eq (tgt := 61) hx hb dX4_table_47 (by decide) (by omega) (fun cq8 => ?_) (fun cq8 => ?_)
                · refine lv_iload_n hx hb dX4_table_61 rfl (lv_at hl 1 rfl) ?_
                  refine g_if_le (tgt := 98) hx hb dX4_table_62 (by decide) (by omega) (fun cq9 => ?_) (fun cq9 => ?_)
                  · refine lv_iload_n hx hb dX4_table_98 rfl (lv_at hl 0 rfl) ?_
                    refine g_if_eq (tgt := 113) hx hb dX4_table_99 (by decide) (by omega) (fun cq10 => by omega) (fun cq10 => ?_)
                    refine lv_aload_n hx hb dX4_table_102 rfl (lv_at hl 2 rfl) ?_
                    refine g_callV (As := []) (rest := []) 0 hx hb hml hown hts hK hG hS hl.1 (mX4_isTerm l X σM o a VM IM hMM (by omega) (fun q h1 h2 => by rw [hAM 22 (by decide)]; exact hTv q h1 (by omega)) (by omega) hRd  ) hMM.o rfl q2290 q2292 qs65 q86 q2293 (by decide +kernel) rfl ⟨Nat.le_of_ble_eq_true rfl, Nat.le_of_ble_eq_true rfl⟩ ⟨Nat.le_of_ble_eq_true rfl, Nat.le_of_ble_eq_true rfl⟩ (Nat.le_of_ble_eq_true rfl) dX4_table_103 (kI (fun r11 σr11 H locs hp hG hS => ?_))
                    obtain ⟨V11, I11, hM11, kp11, hrel11⟩ := hp
                    have hkp11 := hkM.tr kp11
                    have htb : trmZ (VM 22) (IM 23) (IM 24) = trmZ (V 22) (Iv 23) (IM 24) := by rw [hAM 22 (by decide), hI23]
                    rw [htb] at hrel11
                    have htr := trmZ_r (V 22) (n := Iv 23) (p := IM 24) (by omega)
                    obtain ⟨X9, hX9⟩ : ∃ z, z = trmZ (V 22) (Iv 23) (IM 24) := ⟨_, rfl⟩
                    rw [← hX9] at htr hrel11
                    have hA9 : ∀ q, q ≠ 25 → V11 q = V q := fun q h => (hrel11.2.2.2.1 q h).trans (hAM q h)
                    have hI9 : ∀ j, j ≠ 24 → I11 j = Iv j := fun j h => (hrel11.2.2.1 j h).trans (hIM j h)
                    have hp9 : I11 24 = X9.2.1 := hrel11.2.1
                    have hr9 := hrel11.1
                    have hs9 := hrel11.2.2.2.2
                    refine g_if_eq (tgt := 113) hx hb dX4_table_106 (by decide) (by omega) (fun cq12 => ?_) (fun cq12 => ?_)
                    · refine g_iconst hx hb dX4_table_113 ?_
                      refine lv_istore_n (lv' := [(3, .int (iI 0)), (2, .int (iI t9)), (0, .ref o), (1, .int (iI t))]) hx hb dX4_table_114 rfl hl (by decide) rfl (fun ls hl => ?_)
                      refine g_iinc (lv' := [(2, .int (iI (t9 + 1))), (3, .int (iI 0)), (0, .ref o), (1, .int (iI t))]) hx hb dX4_table_115 hl (k := 1) rfl (by decide) rfl (fun ls hl => ?_)
                      refine lv_goto (tgt := 42) hx hb dX4_table_118 (by decide) ?_
                      exact ih_42 σr11 V11 I11 (t9 + 1) 0 (by omega) (hM11) (hkp11) (by omega) (hA9) (hI9) (by omega) (by rw [hs9.2 (by omega)]; exact hRd) (by
                                unfold tbI at hinv ⊢
                                rcases hinv with ⟨h1, h2, h3, h4⟩ | hq | hq
                                · refine Or.inr (Or.inr ⟨rfl, ?_⟩)
                                  rw [hZ9]; unfold tabZ
                                  rw [h3] at hX9
                                  rw [← hX9, if_neg (by omega)]
                                  exact ⟨rfl, hp9.symm⟩
                                · exfalso; omega
                                · exfalso; omega)  _ _ _ hG hS (lv_sub hl [1, 0, 2, 3] rfl)
                    · refine g_iconst hx hb dX4_table_109 ?_
                      refine lv_goto (tgt := 114) hx hb dX4_table_110 (by decide) ?_
                      refine lv_istore_n (lv' := [(3, .int (iI 1)), (2, .int (iI t9)), (0, .ref o), (1, .int (iI t))]) hx hb dX4_table_114 rfl hl (by decide) rfl (fun ls hl => ?_)
                      refine g_iinc (lv' := [(2, .int (iI (t9 + 1))), (3, .int (iI 1)), (0, .ref o), (1, .int (iI t))]) hx hb dX4_table_115 hl (k := 1) rfl (by decide) rfl (fun ls hl => ?_)
                      refine lv_goto (tgt := 42) hx hb dX4_table_118 (by decide) ?_
                      exact ih_42 σr11 V11 I11 (t9 + 1) 1 (by omega) (hM11) (hkp11) (by omega) (hA9) (hI9) (by omega) (by rw [hs9.1 (by omega)]; exact fun q h1 h2 => by unfold addR; by_cases hq : q = X9.2.2.1; (rw [hq, iup_s]; omega); (rw [iup_n hq]; exact hRd q h1 h2)) (by
                                unfold tbI at hinv ⊢
                                rcases hinv with ⟨h1, h2, h3, h4⟩ | hq | hq
                                · refine Or.inr (Or.inl ⟨by omega, rfl, addR (fun _ => 0) X9, 60, ?_, by omega, ?_⟩)
                                  · rw [hs9.1 (by omega)]
                                    intro q q1 q2
                                    unfold addR
                                    by_cases hq : q = X9.2.2.1
                                    · rw [hq, iup_s, iup_s, h4 _ (by omega) (by omega)]
                                    · rw [iup_n hq, iup_n hq]; exact h4 q q1 q2
                                  · rw [hZ9]; unfold tabZ
                                    rw [h3] at hX9
                                    rw [← hX9, if_pos (by omega), h1, hp9]; rfl
                                · exfalso; omega
                                · exfalso; omega)  _ _ _ hG hS (lv_sub hl [1, 0, 2, 3] rfl)
                  · refine lv_aload_n hx hb dX4_table_65 rfl (lv_at hl 2 rfl) ?_
                    refine g_callV (As := []) (rest := []) 0 hx hb hml hown hts hK hG hS hl.1 (mX4_here l X σM o a VM IM hMM (by omega) (fun q h1 h2 => by rw [hAM 22 (by decide)]; exact hTv q h1 (by omega)) (by omega)  ) hMM.o rfl q2286 q2288 qs64 q86 q2289 (by decide +kernel) rfl ⟨Nat.le_of_ble_eq_true rfl, Nat.le_of_ble_eq_true rfl⟩ ⟨Nat.le_of_ble_eq_true rfl, Nat.le_of_ble_eq_true rfl⟩ (Nat.le_of_ble_eq_true rfl) dX4_table_66 (kI (fun r13 σr13 H locs hp hG hS => ?_))
                    obtain ⟨⟨hr13, kr13⟩, rfl⟩ := hp
                    have hpl : r13 = hrZ (V 22) (Iv 23) (IM 24) := by rw [hr13, hAM 22 (by decide), hI23]
                    refine g_bipush hx hb dX4_table_69 (by decide) ?_
                    refine g_icmp_ne (tgt := 78) hx hb dX4_table_71 (by decide) (by omega) (by omega) (fun cq14 => ?_) (fun cq14 => ?_)
                    · refine g_iconst hx hb dX4_table_78 ?_
                      refine lv_istore_n (lv' := [(3, .int (iI 0)), (2, .int (iI t9)), (0, .ref o), (1, .int (iI t))]) hx hb dX4_table_79 rfl hl (by decide) rfl (fun ls hl => ?_)
                      refine lv_aload_n hx hb dX4_table_80 rfl (lv_at hl 2 rfl) ?_
                      refine lv_dup hx hb dX4_table_81 rfl ?_
                      refine g_get (C := RX4) (T := TX4) (N := 30) (v := .int (iI (IM 24))) hx hb hts hown hK hG hMM.o rfl in_X4 24 (by decide) q1982 rfl rfl dX4_table_82 ?_
                      refine lv_iload_n hx hb dX4_table_85 rfl (lv_at hl 0 rfl) ?_
                      refine g_if_eq (tgt := 93) hx hb dX4_table_86 (by decide) (by omega) (fun cq15 => ?_) (fun cq15 => absurd cq15 (by decide))
                      refine g_iconst hx hb dX4_table_93 ?_
                      refine g_iadd hx hb dX4_table_94 ?_
                      refine g_put (C := RX4) (T := TX4) (N := 30) (ty0 := tyX4) (v := .int (iI ((IM 24) + 0))) hx hb hts hown hK hG hS hMM.o rfl in_X4 tyX4_ok nmX4 24 (by decide) q1982 rfl (by decide) rfl rfl (Nat.le_of_ble_eq_true rfl) dX4_table_95 (fun H locs hG hS => ?_)
                      obtain ⟨I16, eI16⟩ : ∃ J : Nat → Int, J = va_up IM 24 ((IM 24) + 0) := ⟨_, rfl⟩
                      have i24_16 : I16 24 = (IM 24) + 0 := by rw [eI16, va_up_self]
                      have fI16 : ∀ j, j ≠ 24 → I16 j = IM j := fun j hj => by rw [eI16, va_up_ne _ _ hj]
                      have hM16 : MW X (gup σM o (10, gO 4 ((mfs a IM).set 24 (.int (iI ((IM 24) + 0)))))) o a VM I16 := by rw [eI16]; exact hMM.num (mfs_24 a IM _)
                      have hkp16 : gKeep (fun t => t = 10) σ (gup σM o (10, gO 4 ((mfs a IM).set 24 (.int (iI ((IM 24) + 0)))))) := hkM.tr (gKeep.up hMM.o rfl)
                      generalize (gup σM o (10, gO 4 ((mfs a IM).set 24 (.int (iI ((IM 24) + 0)))))) = σ16 at hG hM16 hkp16
                      have hp16 : I16 24 = IM 24 + 0 := i24_16
                      have hi16_23 : I16 23 = Iv 23 := by rw [fI16 23 (by decide)]; exact hI23
                      have hir16 : ∀ j, j ≠ 24 → I16 j = Iv j := fun j h => (fI16 j h).trans (hIM j h)
                      refine lv_iload_n hx hb dX4_table_98 rfl (lv_at hl 0 rfl) ?_
                      refine g_if_eq (tgt := 113) hx hb dX4_table_99 (by decide) (by omega) (fun cq17 => ?_) (fun cq17 => absurd cq17 (by decide))
                      refine g_iconst hx hb dX4_table_113 ?_
                      refine lv_istore_n (lv' := [(3, .int (iI 0)), (2, .int (iI t9)), (0, .ref o), (1, .int (iI t))]) hx hb dX4_table_114 rfl hl (by decide) rfl (fun ls hl => ?_)
                      refine g_iinc (lv' := [(2, .int (iI (t9 + 1))), (3, .int (iI 0)), (0, .ref o), (1, .int (iI t))]) hx hb dX4_table_115 hl (k := 1) rfl (by decide) rfl (fun ls hl => ?_)
                      refine lv_goto (tgt := 42) hx hb dX4_table_118 (by decide) ?_
                      exact ih_42 σ16 VM I16 (t9 + 1) 0 (by omega) (hM16) (hkp16) (by omega) (hAM) (hir16) (by omega) (hRd) (by
                                unfold tbI at hinv ⊢
                                rcases hinv with hq | ⟨h1, h2, R, f, h3, h4, h5⟩ | hq
                                · exfalso; omega
                                · refine Or.inr (Or.inr ⟨rfl, ?_⟩)
                                  have hf : f = (f - 1) + 1 := by omega
                                  rw [← h5, hf, tabA, if_pos (by omega), if_neg (by omega)]
                                  exact ⟨rfl, by show IM 24 = _; omega⟩
                                · exfalso; omega)  _ _ _ hG hS (lv_sub hl [1, 0, 2, 3] rfl)
                    · refine g_iconst hx hb dX4_table_74 ?_
                      refine lv_goto (tgt := 79) hx hb dX4_table_75 (by decide) ?_
                      refine lv_istore_n (lv' := [(3, .int (iI 1)), (2, .int (iI t9)), (0, .ref o), (1, .int (iI t))]) hx hb dX4_table_79 rfl hl (by decide) rfl (fun ls hl => ?_)
                      refine lv_aload_n hx hb dX4_table_80 rfl (lv_at hl 2 rfl) ?_
                      refine lv_dup hx hb dX4_table_81 rfl ?_
                      refine g_get (C := RX4) (T := TX4) (N := 30) (v := .int (iI (IM 24))) hx hb hts hown hK hG hMM.o rfl in_X4 24 (by decide) q1982 rfl rfl dX4_table_82 ?_
                      refine lv_iload_n hx hb dX4_table_85 rfl (lv_at hl 0 rfl) ?_
                      refine g_if_eq (tgt := 93) hx hb dX4_table_86 (by decide) (by omega) (fun cq18 => absurd cq18 (by decide)) (fun cq18 => ?_)
                      refine g_iconst hx hb dX4_table_89 ?_
                      refine lv_goto (tgt := 94) hx hb dX4_table_90 (by decide) ?_
                      refine g_iadd hx hb dX4_table_94 ?_
                      refine g_put (C := RX4) (T := TX4) (N := 30) (ty0 := tyX4) (v := .int (iI ((IM 24) + 1))) hx hb hts hown hK hG hS hMM.o rfl in_X4 tyX4_ok nmX4 24 (by decide) q1982 rfl (by decide) rfl rfl (Nat.le_of_ble_eq_true rfl) dX4_table_95 (fun H locs hG hS => ?_)
                      obtain ⟨I19, eI19⟩ : ∃ J : Nat → Int, J = va_up IM 24 ((IM 24) + 1) := ⟨_, rfl⟩
                      have i24_19 : I19 24 = (IM 24) + 1 := by rw [eI19, va_up_self]
                      have fI19 : ∀ j, j ≠ 24 → I19 j = IM j := fun j hj => by rw [eI19, va_up_ne _ _ hj]
                      have hM19 : MW X (gup σM o (10, gO 4 ((mfs a IM).set 24 (.int (iI ((IM 24) + 1)))))) o a VM I19 := by rw [eI19]; exact hMM.num (mfs_24 a IM _)
                      have hkp19 : gKeep (fun t => t = 10) σ (gup σM o (10, gO 4 ((mfs a IM).set 24 (.int (iI ((IM 24) + 1)))))) := hkM.tr (gKeep.up hMM.o rfl)
                      generalize (gup σM o (10, gO 4 ((mfs a IM).set 24 (.int (iI ((IM 24) + 1)))))) = σ19 at hG hM19 hkp19
                      have hp19 : I19 24 = IM 24 + 1 := i24_19
                      have hi19_23 : I19 23 = Iv 23 := by rw [fI19 23 (by decide)]; exact hI23
                      have hir19 : ∀ j, j ≠ 24 → I19 j = Iv j := fun j h => (fI19 j h).trans (hIM j h)
                      refine lv_iload_n hx hb dX4_table_98 rfl (lv_at hl 0 rfl) ?_
                      refine g_if_eq (tgt := 113) hx hb dX4_table_99 (by decide) (by omega) (fun cq20 => absurd cq20 (by decide)) (fun cq20 => ?_)
                      refine lv_aload_n hx hb dX4_table_102 rfl (lv_at hl 2 rfl) ?_
                      refine g_callV (As := []) (rest := []) 0 hx hb hml hown hts hK hG hS hl.1 (mX4_isTerm l X σ19 o a VM I19 hM19 (by omega) (fun q h1 h2 => by rw [hAM 22 (by decide)]; exact hTv q h1 (by omega)) (by omega) hRd  ) hM19.o rfl q2290 q2292 qs65 q86 q2293 (by decide +kernel) rfl ⟨Nat.le_of_ble_eq_true rfl, Nat.le_of_ble_eq_true rfl⟩ ⟨Nat.le_of_ble_eq_true rfl, Nat.le_of_ble_eq_true rfl⟩ (Nat.le_of_ble_eq_true rfl) dX4_table_103 (kI (fun r21 σr21 H locs hp hG hS => ?_))
                      obtain ⟨V21, I21, hM21, kp21, hrel21⟩ := hp
                      have hkp21 := hkp19.tr kp21
                      have htb : trmZ (VM 22) (I19 23) (I19 24) = trmZ (V 22) (Iv 23) (IM 24 + 1) := by rw [hAM 22 (by decide), hi19_23, hp19]
                      rw [htb] at hrel21
                      have htr := trmZ_r (V 22) (n := Iv 23) (p := IM 24 + 1) (by omega)
                      obtain ⟨X9, hX9⟩ : ∃ z, z = trmZ (V 22) (Iv 23) (IM 24 + 1) := ⟨_, rfl⟩
                      rw [← hX9] at htr hrel21
                      have hA9 : ∀ q, q ≠ 25 → V21 q = V q := fun q h => (hrel21.2.2.2.1 q h).trans (hAM q h)
                      have hI9 : ∀ j, j ≠ 24 → I21 j = Iv j := fun j h => (hrel21.2.2.1 j h).trans (hir19 j h)
                      have hp9 : I21 24 = X9.2.1 := hrel21.2.1
                      have hr9 := hrel21.1
                      have hs9 := hrel21.2.2.2.2
                      refine g_if_eq (tgt := 113) hx hb dX4_table_106 (by decide) (by omega) (fun cq22 => ?_) (fun cq22 => ?_)
                      · refine g_iconst hx hb dX4_table_113 ?_
                        refine lv_istore_n (lv' := [(3, .int (iI 0)), (2, .int (iI t9)), (0, .ref o), (1, .int (iI t))]) hx hb dX4_table_114 rfl hl (by decide) rfl (fun ls hl => ?_)
                        refine g_iinc (lv' := [(2, .int (iI (t9 + 1))), (3, .int (iI 0)), (0, .ref o), (1, .int (iI t))]) hx hb dX4_table_115 hl (k := 1) rfl (by decide) rfl (fun ls hl => ?_)
                        refine lv_goto (tgt := 42) hx hb dX4_table_118 (by decide) ?_
                        exact ih_42 σr21 V21 I21 (t9 + 1) 0 (by omega) (hM21) (hkp21) (by omega) (hA9) (hI9) (by omega) (by rw [hs9.2 (by omega)]; exact hRd) (by
                                  unfold tbI at hinv ⊢
                                  rcases hinv with hq | ⟨h1, h2, R, f, h3, h4, h5⟩ | hq
                                  · exfalso; omega
                                  · rw [hf0 f (by omega), tabA, if_pos (by omega), if_pos (by omega), ← hX9, if_neg (by omega)] at h5
                                    refine Or.inr (Or.inr ⟨rfl, ?_⟩)
                                    rw [← h5]
                                    exact ⟨rfl, hp9.symm⟩
                                  · exfalso; omega)  _ _ _ hG hS (lv_sub hl [1, 0, 2, 3] rfl)
                      · refine g_iconst hx hb dX4_table_109 ?_
                        refine lv_goto (tgt := 114) hx hb dX4_table_110 (by decide) ?_
                        refine lv_istore_n (lv' := [(3, .int (iI 1)), (2, .int (iI t9)), (0, .ref o), (1, .int (iI t))]) hx hb dX4_table_114 rfl hl (by decide) rfl (fun ls hl => ?_)
                        refine g_iinc (lv' := [(2, .int (iI (t9 + 1))), (3, .int (iI 1)), (0, .ref o), (1, .int (iI t))]) hx hb dX4_table_115 hl (k := 1) rfl (by decide) rfl (fun ls hl => ?_)
                        refine lv_goto (tgt := 42) hx hb dX4_table_118 (by decide) ?_
                        exact ih_42 σr21 V21 I21 (t9 + 1) 1 (by omega) (hM21) (hkp21) (by omega) (hA9) (hI9) (by omega) (by rw [hs9.1 (by omega)]; exact fun q h1 h2 => by unfold addR; by_cases hq : q = X9.2.2.1; (rw [hq, iup_s]; omega); (rw [iup_n hq]; exact hRd q h1 h2)) (by
                                  unfold tbI at hinv ⊢
                                  rcases hinv with hq | ⟨h1, h2, R, f, h3, h4, h5⟩ | hq
                                  · exfalso; omega
                                  · rw [hf0 f (by omega), tabA, if_pos (by omega), if_pos (by omega), ← hX9, if_pos (by omega)] at h5
                                    refine Or.inr (Or.inl ⟨by omega, rfl, addR R X9, f - 1, ?_, by omega, ?_⟩)
                                    · rw [hs9.1 (by omega)]
                                      intro q q1 q2
                                      unfold addR
                                      by_cases hq : q = X9.2.2.1
                                      · rw [hq, iup_s, iup_s, h3 _ (by omega) (by omega)]
                                      · rw [iup_n hq, iup_n hq]; exact h3 q q1 q2
                                    · rw [hp9]; exact h5
                                  · exfalso; omega)  _ _ _ hG hS (lv_sub hl [1, 0, 2, 3] rfl)
                · refine lv_aload_n hx hb dX4_table_50 rfl (lv_at hl 2 rfl) ?_
                  refine g_get (C := RX4) (T := TX4) (N := 30) (v := .int (iI (IM 24))) hx hb hts hown hK hG hMM.o rfl in_X4 24 (by decide) q1982 rfl rfl dX4_table_51 ?_
                  refine lv_aload_n hx hb dX4_table_54 rfl (lv_at hl 2 rfl) ?_
                  refine g_get (C := RX4) (T := TX4) (N := 30) (v := .int (iI (IM 23))) hx hb hts hown hK hG hMM.o rfl in_X4 23 (by decide) q1981 rfl rfl dX4_table_55 ?_
                  refine g_icmp_ge (tgt := 121) hx hb dX4_table_58 (by decide) (by omega) (by omega) (fun cq23 => ?_) (fun cq23 => ?_)
                  · have hfin : (i9 = 0 ∧ Z9.1 = 0 ∧ Z9.2.2.1 = IM 24) ∨ (i9 = 1 ∧ Z9.1 = 1 ∧ Z9.2.1 = t9 ∧ ∀ q : Int, 0 ≤ q → q < 9 → VM 25 q = Z9.2.2.2 q) := by
                      unfold tbI at hinv
                      rcases hinv with hq | ⟨h1, h2, R, f, h3, h4, h5⟩ | hq
                      · exfalso; omega
                      · refine Or.inr ⟨h2, ?_⟩
                        cases f with
                        | zero => rw [← h5]; exact ⟨rfl, rfl, h3⟩
                        | succ f => rw [tabA, if_neg (by omega)] at h5; rw [← h5]; exact ⟨rfl, rfl, h3⟩
                      · exact Or.inl hq
                    clear hinv
                    have ht01 : 0 ≤ t ∧ t ≤ 1 := by clear hfin; omega
                    refine lv_aload_n hx hb dX4_table_121 rfl (lv_at hl 2 rfl) ?_
                    refine g_iconst hx hb dX4_table_122 ?_
                    refine g_put (C := RX4) (T := TX4) (N := 30) (ty0 := tyX4) (v := .int (iI 0)) hx hb hts hown hK hG hS hMM.o rfl in_X4 tyX4_ok nmX4 23 (by decide) q1981 rfl (by decide) rfl rfl (Nat.le_of_ble_eq_true rfl) dX4_table_123 (fun H locs hG hS => ?_)
                    obtain ⟨I24, eI24⟩ : ∃ J : Nat → Int, J = va_up IM 23 0 := ⟨_, rfl⟩
                    have i23_24 : I24 23 = 0 := by rw [eI24, va_up_self]
                    have fI24 : ∀ j, j ≠ 23 → I24 j = IM j := fun j hj => by rw [eI24, va_up_ne _ _ hj]
                    have hM24 : MW X (gup σM o (10, gO 4 ((mfs a IM).set 23 (.int (iI 0))))) o a VM I24 := by rw [eI24]; exact hMM.num (mfs_23 a IM _)
                    have hkp24 : gKeep (fun t => t = 10) σ (gup σM o (10, gO 4 ((mfs a IM).set 23 (.int (iI 0))))) := hkM.tr (gKeep.up hMM.o rfl)
                    generalize (gup σM o (10, gO 4 ((mfs a IM).set 23 (.int (iI 0))))) = σ24 at hG hM24 hkp24
                    refine lv_iload_n hx hb dX4_table_126 rfl (lv_at hl 0 rfl) ?_
                    refine g_if_ne (tgt := 138) hx hb dX4_table_127 (by decide) (by omega) (fun cq25 => ?_) (fun cq25 => by omega)
                    refine g_iconst hx hb dX4_table_138 ?_
                    refine lv_istore (lv' := [(4, .int (iI 0)), (3, .int (iI i9)), (2, .int (iI t9)), (0, .ref o), (1, .int (iI t))]) hx hb dX4_table_139 hl (by decide) rfl (fun ls hl => ?_)
                    have loop_141 : ∀ (nF : Nat) (σK : gS) (VK : Nat → Int → Int) (k9 : Int), ((9 - k9).toNat : Nat) < nF → (MW X σK o a VK I24) → (gKeep (fun t => t = 10) σ σK) → (0 ≤ k9 ∧ k9 ≤ 9) → (∀ q, q ≠ 0 → VK q = VM q) → (∀ q : Int, q < 9 * t ∨ 9 * t + 9 ≤ q → VK 0 q = V 0 q) → (∀ q : Int, 0 ≤ q → q < k9 → VK 0 (9 * t + q) = VM 25 q) → ∀ (H : Heap) (locs : List Loc) (ls : Array Slot), gSat X σK H → va_S (gA X) ss.heap H locs → lv_has ls 5 [(4, .int (iI k9)), (3, .int (iI i9)), (2, .int (iI t9)), (0, .ref o), (1, .int (iI t))] → W pp l ee (gR 3 0 0 65) ss mm args below meth cd H locs 0 0 Q (F0 mm 141 ls []) := by
                      intro nF
                      induction nF with
                      | zero => intro σK VK k9 hm; exact absurd hm (Nat.not_lt_zero _)
                      | succ nF ih_141 =>
                        intro σK VK k9 hm hMK hkK hi141_2 hAK hBK hZK H locs ls hG hS hl
                        refine lv_iload hx hb dX4_table_141 (lv_at hl 0 rfl) ?_
                        refine g_bipush hx hb dX4_table_143 (by decide) ?_
                        refine g_icmp_ge (tgt := 173) hx hb dX4_table_145 (by decide) (by omega) (by omega) (fun cq26 => ?_) (fun cq26 => ?_)
                        · refine lv_iload_n hx hb dX4_table_173 rfl (lv_at hl 2 rfl) ?_
                          exact g_iret hx hb hr hlocks hQ hG hS (Nat.zero_le _) (Nat.zero_le _) ⟨_, rfl, VK, I24, hMK, hkK, (by
                                    rw [← hZ9]
                                    rcases hfin with hq | ⟨h1, h2, h3, h4⟩
                                    · exfalso; omega
                                    · refine ⟨by rw [if_pos ht01, if_pos h2]; exact h3.symm, Or.inl ⟨ht01, i23_24, fun j g1 g2 => (fI24 j g1).trans (hIM j g2), fun q g1 g2 => (hAK q g1).trans (hAM q g2), fun _ => ⟨hBK, fun q g1 g2 => by rw [hZK q g1 (by omega)]; exact h4 q g1 g2⟩, fun h => absurd h2 h⟩⟩)⟩ dX4_table_174
                        · refine lv_aload_n hx hb dX4_table_148 rfl (lv_at hl 3 rfl) ?_
                          refine g_get (C := RX4) (T := TX4) (N := 30) (v := .ref (a 0)) hx hb hts hown hK hG hMK.o rfl in_X4 0 (by decide) q1958 rfl rfl dX4_table_149 ?_
                          refine g_bipush hx hb dX4_table_152 (by decide) ?_
                          refine lv_iload_n hx hb dX4_table_154 rfl (lv_at hl 4 rfl) ?_
                          refine g_imul hx hb dX4_table_155 ?_
                          refine lv_iload hx hb dX4_table_156 (lv_at hl 0 rfl) ?_
                          refine g_iadd hx hb dX4_table_158 ?_
                          refine lv_aload_n hx hb dX4_table_159 rfl (lv_at hl 3 rfl) ?_
                          refine g_get (C := RX4) (T := TX4) (N := 30) (v := .ref (a 25)) hx hb hts hown hK hG hMK.o rfl in_X4 25 (by decide) q1983 rfl rfl dX4_table_160 ?_
                          refine lv_iload hx hb dX4_table_163 (lv_at hl 0 rfl) ?_
                          refine g_iald hx hb hK hG hMK.a25 dX4_table_165 (by omega) ?_
                          refine g_iast hx hb hK hG hS hMK.a0 dX4_table_166 (by omega) (fun H locs hG hS => ?_)
                          obtain ⟨V27, eV27⟩ : ∃ J : Nat → Int → Int, J = va_up VK 0 (iup (VK 0) ((9 * t) + k9) ((VK 25) k9)) := ⟨_, rfl⟩
                          have v0_27 : V27 0 = (iup (VK 0) ((9 * t) + k9) ((VK 25) k9)) := by rw [eV27, va_up_self]
                          have fV27 : ∀ j, j ≠ 0 → V27 j = VK j := fun j hj => by rw [eV27, va_up_ne _ _ hj]
                          have hM27 : MW X (gup σK (a 0) (10, gI (X.2.1 0) 48 (iup (VK 0) ((9 * t) + k9) ((VK 25) k9)))) o a V27 I24 := by rw [eV27]; exact hMK.set 0 rfl _
                          have hkp27 : gKeep (fun t => t = 10) σ (gup σK (a 0) (10, gI (X.2.1 0) 48 (iup (VK 0) ((9 * t) + k9) ((VK 25) k9)))) := hkK.tr (gKeep.up hMK.a0 rfl)
                          generalize (gup σK (a 0) (10, gI (X.2.1 0) 48 (iup (VK 0) ((9 * t) + k9) ((VK 25) k9)))) = σ27 at hG hM27 hkp27
                          refine g_iinc (lv' := [(4, .int (iI (k9 + 1))), (3, .int (iI i9)), (2, .int (iI t9)), (0, .ref o), (1, .int (iI t))]) hx hb dX4_table_167 hl (k := 0) rfl (by decide) rfl (fun ls hl => ?_)
                          refine lv_goto (tgt := 141) hx hb dX4_table_170 (by decide) ?_
                          exact ih_141 σ27 V27 (k9 + 1) (by omega) (hM27) (hkp27) (by omega) (fun q h => (fV27 q h).trans (hAK q h)) (fun q h => by rw [v0_27, iup_n (by omega)]; exact hBK q h) (fun q h1 h2 => by rw [v0_27]; by_cases hq : q = k9; (rw [hq, iup_s, hAK 25 (by decide)]); (rw [iup_n (by omega)]; exact hZK q h1 (by omega)))  _ _ _ hG hS (lv_sub hl [0, 1, 2, 3, 4] rfl)
                    exact loop_141 _ σ24 VM 0 (Nat.lt_succ_self _) (hM24) (hkp24) (by omega) (fun q h => rfl) (fun q h => by rw [hAM 0 (by decide)]) (fun q h1 h2 => by omega)  _ _ _ hG hS (lv_sub hl [0, 1, 2, 3, 4] rfl)
                  · refine lv_iload_n hx hb dX4_table_61 rfl (lv_at hl 1 rfl) ?_
                    refine g_if_le (tgt := 98) hx hb dX4_table_62 (by decide) (by omega) (fun cq28 => ?_) (fun cq28 => ?_)
                    · refine lv_iload_n hx hb dX4_table_98 rfl (lv_at hl 0 rfl) ?_
                      refine g_if_eq (tgt := 113) hx hb dX4_table_99 (by decide) (by omega) (fun cq29 => by omega) (fun cq29 => ?_)
                      refine lv_aload_n hx hb dX4_table_102 rfl (lv_at hl 2 rfl) ?_
                      refine g_callV (As := []) (rest := []) 0 hx hb hml hown hts hK hG hS hl.1 (mX4_isTerm l X σM o a VM IM hMM (by omega) (fun q h1 h2 => by rw [hAM 22 (by decide)]; exact hTv q h1 (by omega)) (by omega) hRd  ) hMM.o rfl q2290 q2292 qs65 q86 q2293 (by decide +kernel) rfl ⟨Nat.le_of_ble_eq_true rfl, Nat.le_of_ble_eq_true rfl⟩ ⟨Nat.le_of_ble_eq_true rfl, Nat.le_of_ble_eq_true rfl⟩ (Nat.le_of_ble_eq_true rfl) dX4_table_103 (kI (fun r30 σr30 H locs hp hG hS => ?_))
                      obtain ⟨V30, I30, hM30, kp30, hrel30⟩ := hp
                      have hkp30 := hkM.tr kp30
                      have htb : trmZ (VM 22) (IM 23) (IM 24) = trmZ (V 22) (Iv 23) (IM 24) := by rw [hAM 22 (by decide), hI23]
                      rw [htb] at hrel30
                      have htr := trmZ_r (V 22) (n := Iv 23) (p := IM 24) (by omega)
                      obtain ⟨X9, hX9⟩ : ∃ z, z = trmZ (V 22) (Iv 23) (IM 24) := ⟨_, rfl⟩
                      rw [← hX9] at htr hrel30
                      have hA9 : ∀ q, q ≠ 25 → V30 q = V q := fun q h => (hrel30.2.2.2.1 q h).trans (hAM q h)
                      have hI9 : ∀ j, j ≠ 24 → I30 j = Iv j := fun j h => (hrel30.2.2.1 j h).trans (hIM j h)
                      have hp9 : I30 24 = X9.2.1 := hrel30.2.1
                      have hr9 := hrel30.1
                      have hs9 := hrel30.2.2.2.2
                      refine g_if_eq (tgt := 113) hx hb dX4_table_106 (by decide) (by omega) (fun cq31 => ?_) (fun cq31 => ?_)
                      · refine g_iconst hx hb dX4_table_113 ?_
                        refine lv_istore_n (lv' := [(3, .int (iI 0)), (2, .int (iI t9)), (0, .ref o), (1, .int (iI t))]) hx hb dX4_table_114 rfl hl (by decide) rfl (fun ls hl => ?_)
                        refine g_iinc (lv' := [(2, .int (iI (t9 + 1))), (3, .int (iI 0)), (0, .ref o), (1, .int (iI t))]) hx hb dX4_table_115 hl (k := 1) rfl (by decide) rfl (fun ls hl => ?_)
                        refine lv_goto (tgt := 42) hx hb dX4_table_118 (by decide) ?_
                        exact ih_42 σr30 V30 I30 (t9 + 1) 0 (by omega) (hM30) (hkp30) (by omega) (hA9) (hI9) (by omega) (by rw [hs9.2 (by omega)]; exact hRd) (by
                                  unfold tbI at hinv ⊢
                                  rcases hinv with ⟨h1, h2, h3, h4⟩ | hq | hq
                                  · refine Or.inr (Or.inr ⟨rfl, ?_⟩)
                                    rw [hZ9]; unfold tabZ
                                    rw [h3] at hX9
                                    rw [← hX9, if_neg (by omega)]
                                    exact ⟨rfl, hp9.symm⟩
                                  · exfalso; omega
                                  · exfalso; omega)  _ _ _ hG hS (lv_sub hl [1, 0, 2, 3] rfl)
                      · refine g_iconst hx hb dX4_table_109 ?_
                        refine lv_goto (tgt := 114) hx hb dX4_table_110 (by decide) ?_
                        refine lv_istore_n (lv' := [(3, .int (iI 1)), (2, .int (iI t9)), (0, .ref o), (1, .int (iI t))]) hx hb dX4_table_114 rfl hl (by decide) rfl (fun ls hl => ?_)
                        refine g_iinc (lv' := [(2, .int (iI (t9 + 1))), (3, .int (iI 1)), (0, .ref o), (1, .int (iI t))]) hx hb dX4_table_115 hl (k := 1) rfl (by decide) rfl (fun ls hl => ?_)
                        refine lv_goto (tgt := 42) hx hb dX4_table_118 (by decide) ?_
                        exact ih_42 σr30 V30 I30 (t9 + 1) 1 (by omega) (hM30) (hkp30) (by omega) (hA9) (hI9) (by omega) (by rw [hs9.1 (by omega)]; exact fun q h1 h2 => by unfold addR; by_cases hq : q = X9.2.2.1; (rw [hq, iup_s]; omega); (rw [iup_n hq]; exact hRd q h1 h2)) (by
                                  unfold tbI at hinv ⊢
                                  rcases hinv with ⟨h1, h2, h3, h4⟩ | hq | hq
                                  · refine Or.inr (Or.inl ⟨by omega, rfl, addR (fun _ => 0) X9, 60, ?_, by omega, ?_⟩)
                                    · rw [hs9.1 (by omega)]
                                      intro q q1 q2
                                      unfold addR
                                      by_cases hq : q = X9.2.2.1
                                      · rw [hq, iup_s, iup_s, h4 _ (by omega) (by omega)]
                                      · rw [iup_n hq, iup_n hq]; exact h4 q q1 q2
                                    · rw [hZ9]; unfold tabZ
                                      rw [h3] at hX9
                                      rw [← hX9, if_pos (by omega), h1, hp9]; rfl
                                  · exfalso; omega
                                  · exfalso; omega)  _ _ _ hG hS (lv_sub hl [1, 0, 2, 3] rfl)
                    · refine lv_aload_n hx hb dX4_table_65 rfl (lv_at hl 2 rfl) ?_
                      refine g_callV (As := []) (rest := []) 0 hx hb hml hown hts hK hG hS hl.1 (mX4_here l X σM o a VM IM hMM (by omega) (fun q h1 h2 => by rw [hAM 22 (by decide)]; exact hTv q h1 (by omega)) (by omega)  ) hMM.o rfl q2286 q2288 qs64 q86 q2289 (by decide +kernel) rfl ⟨Nat.le_of_ble_eq_true rfl, Nat.le_of_ble_eq_true rfl⟩ ⟨Nat.le_of_ble_eq_true rfl, Nat.le_of_ble_eq_true rfl⟩ (Nat.le_of_ble_eq_true rfl) dX4_table_66 (kI (fun r32 σr32 H locs hp hG hS => ?_))
                      obtain ⟨⟨hr32, kr32⟩, rfl⟩ := hp
                      have hpl : r32 = hrZ (V 22) (Iv 23) (IM 24) := by rw [hr32, hAM 22 (by decide), hI23]
                      refine g_bipush hx hb dX4_table_69 (by decide) ?_
                      refine g_icmp_ne (tgt := 78) hx hb dX4_table_71 (by decide) (by omega) (by omega) (fun cq33 => ?_) (fun cq33 => ?_)
                      · refine g_iconst hx hb dX4_table_78 ?_
                        refine lv_istore_n (lv' := [(3, .int (iI 0)), (2, .int (iI t9)), (0, .ref o), (1, .int (iI t))]) hx hb dX4_table_79 rfl hl (by decide) rfl (fun ls hl => ?_)
                        refine lv_aload_n hx hb dX4_table_80 rfl (lv_at hl 2 rfl) ?_
                        refine lv_dup hx hb dX4_table_81 rfl ?_
                        refine g_get (C := RX4) (T := TX4) (N := 30) (v := .int (iI (IM 24))) hx hb hts hown hK hG hMM.o rfl in_X4 24 (by decide) q1982 rfl rfl dX4_table_82 ?_
                        refine lv_iload_n hx hb dX4_table_85 rfl (lv_at hl 0 rfl) ?_
                        refine g_if_eq (tgt := 93) hx hb dX4_table_86 (by decide) (by omega) (fun cq34 => ?_) (fun cq34 => absurd cq34 (by decide))
                        refine g_iconst hx hb dX4_table_93 ?_
                        refine g_iadd hx hb dX4_table_94 ?_
                        refine g_put (C := RX4) (T := TX4) (N := 30) (ty0 := tyX4) (v := .int (iI ((IM 24) + 0))) hx hb hts hown hK hG hS hMM.o rfl in_X4 tyX4_ok nmX4 24 (by decide) q1982 rfl (by decide) rfl rfl (Nat.le_of_ble_eq_true rfl) dX4_table_95 (fun H locs hG hS => ?_)
                        obtain ⟨I35, eI35⟩ : ∃ J : Nat → Int, J = va_up IM 24 ((IM 24) + 0) := ⟨_, rfl⟩
                        have i24_35 : I35 24 = (IM 24) + 0 := by rw [eI35, va_up_self]
                        have fI35 : ∀ j, j ≠ 24 → I35 j = IM j := fun j hj => by rw [eI35, va_up_ne _ _ hj]
                        have hM35 : MW X (gup σM o (10, gO 4 ((mfs a IM).set 24 (.int (iI ((IM 24) + 0)))))) o a VM I35 := by rw [eI35]; exact hMM.num (mfs_24 a IM _)
                        have hkp35 : gKeep (fun t => t = 10) σ (gup σM o (10, gO 4 ((mfs a IM).set 24 (.int (iI ((IM 24) + 0)))))) := hkM.tr (gKeep.up hMM.o rfl)
                        generalize (gup σM o (10, gO 4 ((mfs a IM).set 24 (.int (iI ((IM 24) + 0)))))) = σ35 at hG hM35 hkp35
                        have hp35 : I35 24 = IM 24 + 0 := i24_35
                        have hi35_23 : I35 23 = Iv 23 := by rw [fI35 23 (by decide)]; exact hI23
                        have hir35 : ∀ j, j ≠ 24 → I35 j = Iv j := fun j h => (fI35 j h).trans (hIM j h)
                        refine lv_iload_n hx hb dX4_table_98 rfl (lv_at hl 0 rfl) ?_
                        refine g_if_eq (tgt := 113) hx hb dX4_table_99 (by decide) (by omega) (fun cq36 => ?_) (fun cq36 => absurd cq36 (by decide))
                        refine g_iconst hx hb dX4_table_113 ?_
                        refine lv_istore_n (lv' := [(3, .int (iI 0)), (2, .int (iI t9)), (0, .ref o), (1, .int (iI t))]) hx hb dX4_table_114 rfl hl (by decide) rfl (fun ls hl => ?_)
                        refine g_iinc (lv' := [(2, .int (iI (t9 + 1))), (3, .int (iI 0)), (0, .ref o), (1, .int (iI t))]) hx hb dX4_table_115 hl (k := 1) rfl (by decide) rfl (fun ls hl => ?_)
                        refine lv_goto (tgt := 42) hx hb dX4_table_118 (by decide) ?_
                        exact ih_42 σ35 VM I35 (t9 + 1) 0 (by omega) (hM35) (hkp35) (by omega) (hAM) (hir35) (by omega) (hRd) (by
                                  unfold tbI at hinv ⊢
                                  rcases hinv with hq | ⟨h1, h2, R, f, h3, h4, h5⟩ | hq
                                  · exfalso; omega
                                  · refine Or.inr (Or.inr ⟨rfl, ?_⟩)
                                    have hf : f = (f - 1) + 1 := by omega
                                    rw [← h5, hf, tabA, if_pos (by omega), if_neg (by omega)]
                                    exact ⟨rfl, by show IM 24 = _; omega⟩
                                  · exfalso; omega)  _ _ _ hG hS (lv_sub hl [1, 0, 2, 3] rfl)
                      · refine g_iconst hx hb dX4_table_74 ?_
                        refine lv_goto (tgt := 79) hx hb dX4_table_75 (by decide) ?_
                        refine lv_istore_n (lv' := [(3, .int (iI 1)), (2, .int (iI t9)), (0, .ref o), (1, .int (iI t))]) hx hb dX4_table_79 rfl hl (by decide) rfl (fun ls hl => ?_)
                        refine lv_aload_n hx hb dX4_table_80 rfl (lv_at hl 2 rfl) ?_
                        refine lv_dup hx hb dX4_table_81 rfl ?_
                        refine g_get (C := RX4) (T := TX4) (N := 30) (v := .int (iI (IM 24))) hx hb hts hown hK hG hMM.o rfl in_X4 24 (by decide) q1982 rfl rfl dX4_table_82 ?_
                        refine lv_iload_n hx hb dX4_table_85 rfl (lv_at hl 0 rfl) ?_
                        refine g_if_eq (tgt := 93) hx hb dX4_table_86 (by decide) (by omega) (fun cq37 => absurd cq37 (by decide)) (fun cq37 => ?_)
                        refine g_iconst hx hb dX4_table_89 ?_
                        refine lv_goto (tgt := 94) hx hb dX4_table_90 (by decide) ?_
                        refine g_iadd hx hb dX4_table_94 ?_
                        refine g_put (C := RX4) (T := TX4) (N := 30) (ty0 := tyX4) (v := .int (iI ((IM 24) + 1))) hx hb hts hown hK hG hS hMM.o rfl in_X4 tyX4_ok nmX4 24 (by decide) q1982 rfl (by decide) rfl rfl (Nat.le_of_ble_eq_true rfl) dX4_table_95 (fun H locs hG hS => ?_)
                        obtain ⟨I38, eI38⟩ : ∃ J : Nat → Int, J = va_up IM 24 ((IM 24) + 1) := ⟨_, rfl⟩
                        have i24_38 : I38 24 = (IM 24) + 1 := by rw [eI38, va_up_self]
                        have fI38 : ∀ j, j ≠ 24 → I38 j = IM j := fun j hj => by rw [eI38, va_up_ne _ _ hj]
                        have hM38 : MW X (gup σM o (10, gO 4 ((mfs a IM).set 24 (.int (iI ((IM 24) + 1)))))) o a VM I38 := by rw [eI38]; exact hMM.num (mfs_24 a IM _)
                        have hkp38 : gKeep (fun t => t = 10) σ (gup σM o (10, gO 4 ((mfs a IM).set 24 (.int (iI ((IM 24) + 1)))))) := hkM.tr (gKeep.up hMM.o rfl)
                        generalize (gup σM o (10, gO 4 ((mfs a IM).set 24 (.int (iI ((IM 24) + 1)))))) = σ38 at hG hM38 hkp38
                        have hp38 : I38 24 = IM 24 + 1 := i24_38
                        have hi38_23 : I38 23 = Iv 23 := by rw [fI38 23 (by decide)]; exact hI23
                        have hir38 : ∀ j, j ≠ 24 → I38 j = Iv j := fun j h => (fI38 j h).trans (hIM j h)
                        refine lv_iload_n hx hb dX4_table_98 rfl (lv_at hl 0 rfl) ?_
                        refine g_if_eq (tgt := 113) hx hb dX4_table_99 (by decide) (by omega) (fun cq39 => absurd cq39 (by decide)) (fun cq39 => ?_)
                        refine lv_aload_n hx hb dX4_table_102 rfl (lv_at hl 2 rfl) ?_
                        refine g_callV (As := []) (rest := []) 0 hx hb hml hown hts hK hG hS hl.1 (mX4_isTerm l X σ38 o a VM I38 hM38 (by omega) (fun q h1 h2 => by rw [hAM 22 (by decide)]; exact hTv q h1 (by omega)) (by omega) hRd  ) hM38.o rfl q2290 q2292 qs65 q86 q2293 (by decide +kernel) rfl ⟨Nat.le_of_ble_eq_true rfl, Nat.le_of_ble_eq_true rfl⟩ ⟨Nat.le_of_ble_eq_true rfl, Nat.le_of_ble_eq_true rfl⟩ (Nat.le_of_ble_eq_true rfl) dX4_table_103 (kI (fun r40 σr40 H locs hp hG hS => ?_))
                        obtain ⟨V40, I40, hM40, kp40, hrel40⟩ := hp
                        have hkp40 := hkp38.tr kp40
                        have htb : trmZ (VM 22) (I38 23) (I38 24) = trmZ (V 22) (Iv 23) (IM 24 + 1) := by rw [hAM 22 (by decide), hi38_23, hp38]
                        rw [htb] at hrel40
                        have htr := trmZ_r (V 22) (n := Iv 23) (p := IM 24 + 1) (by omega)
                        obtain ⟨X9, hX9⟩ : ∃ z, z = trmZ (V 22) (Iv 23) (IM 24 + 1) := ⟨_, rfl⟩
                        rw [← hX9] at htr hrel40
                        have hA9 : ∀ q, q ≠ 25 → V40 q = V q := fun q h => (hrel40.2.2.2.1 q h).trans (hAM q h)
                        have hI9 : ∀ j, j ≠ 24 → I40 j = Iv j := fun j h => (hrel40.2.2.1 j h).trans (hir38 j h)
                        have hp9 : I40 24 = X9.2.1 := hrel40.2.1
                        have hr9 := hrel40.1
                        have hs9 := hrel40.2.2.2.2
                        refine g_if_eq (tgt := 113) hx hb dX4_table_106 (by decide) (by omega) (fun cq41 => ?_) (fun cq41 => ?_)
                        · refine g_iconst hx hb dX4_table_113 ?_
                          refine lv_istore_n (lv' := [(3, .int (iI 0)), (2, .int (iI t9)), (0, .ref o), (1, .int (iI t))]) hx hb dX4_table_114 rfl hl (by decide) rfl (fun ls hl => ?_)
                          refine g_iinc (lv' := [(2, .int (iI (t9 + 1))), (3, .int (iI 0)), (0, .ref o), (1, .int (iI t))]) hx hb dX4_table_115 hl (k := 1) rfl (by decide) rfl (fun ls hl => ?_)
                          refine lv_goto (tgt := 42) hx hb dX4_table_118 (by decide) ?_
                          exact ih_42 σr40 V40 I40 (t9 + 1) 0 (by omega) (hM40) (hkp40) (by omega) (hA9) (hI9) (by omega) (by rw [hs9.2 (by omega)]; exact hRd) (by
                                    unfold tbI at hinv ⊢
                                    rcases hinv with hq | ⟨h1, h2, R, f, h3, h4, h5⟩ | hq
                                    · exfalso; omega
                                    · rw [hf0 f (by omega), tabA, if_pos (by omega), if_pos (by omega), ← hX9, if_neg (by omega)] at h5
                                      refine Or.inr (Or.inr ⟨rfl, ?_⟩)
                                      rw [← h5]
                                      exact ⟨rfl, hp9.symm⟩
                                    · exfalso; omega)  _ _ _ hG hS (lv_sub hl [1, 0, 2, 3] rfl)
                        · refine g_iconst hx hb dX4_table_109 ?_
                          refine lv_goto (tgt := 114) hx hb dX4_table_110 (by decide) ?_
                          refine lv_istore_n (lv' := [(3, .int (iI 1)), (2, .int (iI t9)), (0, .ref o), (1, .int (iI t))]) hx hb dX4_table_114 rfl hl (by decide) rfl (fun ls hl => ?_)
                          refine g_iinc (lv' := [(2, .int (iI (t9 + 1))), (3, .int (iI 1)), (0, .ref o), (1, .int (iI t))]) hx hb dX4_table_115 hl (k := 1) rfl (by decide) rfl (fun ls hl => ?_)
                          refine lv_goto (tgt := 42) hx hb dX4_table_118 (by decide) ?_
                          exact ih_42 σr40 V40 I40 (t9 + 1) 1 (by omega) (hM40) (hkp40) (by omega) (hA9) (hI9) (by omega) (by rw [hs9.1 (by omega)]; exact fun q h1 h2 => by unfold addR; by_cases hq : q = X9.2.2.1; (rw [hq, iup_s]; omega); (rw [iup_n hq]; exact hRd q h1 h2)) (by
                                    unfold tbI at hinv ⊢
                                    rcases hinv with hq | ⟨h1, h2, R, f, h3, h4, h5⟩ | hq
                                    · exfalso; omega
                                    · rw [hf0 f (by omega), tabA, if_pos (by omega), if_pos (by omega), ← hX9, if_pos (by omega)] at h5
                                      refine Or.inr (Or.inl ⟨by omega, rfl, addR R X9, f - 1, ?_, by omega, ?_⟩)
                                      · rw [hs9.1 (by omega)]
                                        intro q q1 q2
                                        unfold addR
                                        by_cases hq : q = X9.2.2.1
                                        · rw [hq, iup_s, iup_s, h3 _ (by omega) (by omega)]
                                        · rw [iup_n hq, iup_n hq]; exact h3 q q1 q2
                                      · rw [hp9]; exact h5
                                    · exfalso; omega)  _ _ _ hG hS (lv_sub hl [1, 0, 2, 3] rfl)
          exact loop_42 _ σ4 VL I4 0 1 (Nat.lt_succ_self _) (hM4) (hkp4) (by rw [i24_4]; omega) (hA) (fI4) (by rw [i24_4]; omega) (fun q h1 h2 => by rw [hZ q h1 (by omega)]; decide) (Or.inl ⟨rfl, rfl, i24_4, fun q h1 h2 => hZ q h1 (by omega)⟩)  _ _ _ hG hS (lv_sub hl [0, 1, 2, 3] rfl)
        · refine lv_aload_n hx hb dX4_table_20 rfl (lv_at hl 1 rfl) ?_
          refine g_get (C := RX4) (T := TX4) (N := 30) (v := .ref (a 25)) hx hb hts hown hK hG hML.o rfl in_X4 25 (by decide) q1983 rfl rfl dX4_table_21 ?_
          refine lv_iload_n hx hb dX4_table_24 rfl (lv_at hl 0 rfl) ?_
          refine g_iconst hx hb dX4_table_25 ?_
          refine g_iast hx hb hK hG hS hML.a25 dX4_table_26 (by omega) (fun H locs hG hS => ?_)
          obtain ⟨V42, eV42⟩ : ∃ J : Nat → Int → Int, J = va_up VL 25 (iup (VL 25) k9 0) := ⟨_, rfl⟩
          have v25_42 : V42 25 = (iup (VL 25) k9 0) := by rw [eV42, va_up_self]
          have fV42 : ∀ j, j ≠ 25 → V42 j = VL j := fun j hj => by rw [eV42, va_up_ne _ _ hj]
          have hM42 : MW X (gup σL (a 25) (10, gI (X.2.1 0) 9 (iup (VL 25) k9 0))) o a V42 Iv := by rw [eV42]; exact hML.set 25 rfl _
          have hkp42 : gKeep (fun t => t = 10) σ (gup σL (a 25) (10, gI (X.2.1 0) 9 (iup (VL 25) k9 0))) := hkL.tr (gKeep.up hML.a25 rfl)
          generalize (gup σL (a 25) (10, gI (X.2.1 0) 9 (iup (VL 25) k9 0))) = σ42 at hG hM42 hkp42
          refine g_iinc (lv' := [(2, .int (iI (k9 + 1))), (0, .ref o), (1, .int (iI t))]) hx hb dX4_table_27 hl (k := 0) rfl (by decide) rfl (fun ls hl => ?_)
          refine lv_goto (tgt := 14) hx hb dX4_table_30 (by decide) ?_
          exact ih_14 σ42 V42 (k9 + 1) (by omega) (hM42) (hkp42) (by omega) (fun q h => (fV42 q h).trans (hA q h)) (fun q h1 h2 => by rw [v25_42]; by_cases hq : q = k9; (rw [hq, iup_s]); (rw [iup_n hq]; exact hZ q h1 (by omega)))  _ _ _ hG hS (lv_sub hl [0, 1, 2] rfl)
    exact loop_14 _ σ V 0 (Nat.lt_succ_self _) (hM) (hkp) (by omega) (fun q h => rfl) (fun q h1 h2 => by omega)  _ _ _ hG hS (lv_sub hl [0, 1, 2] rfl)
  · refine g_iconst hx hb dX4_table_10 ?_
    exact g_iret hx hb hr hlocks hQ hG hS (Nat.zero_le _) (Nat.zero_le _) ⟨_, rfl, V, Iv, hM, hkp, (⟨by rw [if_neg (by omega)], Or.inr ⟨by omega, rfl, rfl⟩⟩)⟩ dX4_table_11
