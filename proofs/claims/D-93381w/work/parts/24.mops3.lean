set_option maxHeartbeats 4000000 in
theorem mX4_tell (l : Launch) (X : gX) (σ : gS) (o : Nat) (a : Nat → Nat) (V : Nat → Int → Int) (Iv : Nat → Int) (hM : MW X σ o a V Iv) (hT : okT (V 0)) (hS0 : okS (V 0)) (x : Int) (y : Int)  (h0 : -2147483648 ≤ x ∧ x ≤ 2147483647) (h1 : -2147483648 ≤ y ∧ y ≤ 2147483647) : gMet l X yX4_tell cX4_tell 6 (some .int) 3 0 0 66 σ [.ref o, .int (iI x), .int (iI y)] (oI (fun r σ' => ∃ (V' : Nat → Int → Int) (I' : Nat → Int), MW X σ' o a V' I' ∧ gKeep (fun t => t = 10) σ σ' ∧ (r = (if okSp x y then (@ite Int (∃ q : Int, 0 ≤ q ∧ q < V 0 18 ∧ V 0 (19 + q) = (32 * x + y)) (Classical.propDecidable _) (-3) (if V 0 18 = 12 then -4 else V 0 18 + 1)) else -1) ∧ ((okSp x y ∧ ¬ (∃ q : Int, 0 ≤ q ∧ q < V 0 18 ∧ V 0 (19 + q) = (32 * x + y)) ∧ ¬ V 0 18 = 12) ∧ (∃ k' : Int, ((0 ≤ k' ∧ k' ≤ V 0 18) ∧ (∀ q : Int, 0 ≤ q → q < k' → V 0 (19 + q) < (32 * x + y)) ∧ (k' < V 0 18 → (32 * x + y) ≤ V 0 (19 + k'))) ∧ V' 0 18 = V 0 18 + 1 ∧ (∀ q : Int, q < 18 ∨ 31 ≤ q → V' 0 q = V 0 q) ∧ (∀ q : Int, 0 ≤ q → q ≤ V 0 18 → V' 0 (19 + q) = insF (V 0) k' (32 * x + y) q) ∧ ∀ q, q ≠ 0 → V' q = V q) ∧ I' = Iv ∨ ¬ (okSp x y ∧ ¬ (∃ q : Int, 0 ≤ q ∧ q < V 0 18 ∧ V 0 (19 + q) = (32 * x + y)) ∧ ¬ V 0 18 = 12) ∧ V' = V ∧ I' = Iv)))) := by
  refine gMet.of (by decide) (Nat.le_of_ble_eq_true rfl) ?_
  intro pp ee ss mm args below meth cd Q H locs ls hargs hx hb hr hlocks hml hown hnm hts hK hG hS hQ hl
  have hown : ss.vm.findClass RX4 = some mm.cls := hown
  have hl : lv_has ls 6 [(0, .ref o), (1, .int (iI x)), (2, .int (iI y))] := hl
  have hkp : gKeep (fun t => t = 10) σ σ := gKeep.rf
  have hn := hS0.1
  refine lv_iload_n hx hb dX4_tell_0 rfl (lv_at hl 1 rfl) ?_
  refine lv_iload_n hx hb dX4_tell_1 rfl (lv_at hl 2 rfl) ?_
  refine g_callS (As := [.int (iI x), .int (iI y)]) (rest := []) 2 hx hb hml hown hts hK hG hS hl.1 (mX4_isSpot l X σ  x y (by omega) (by omega)) q2072 q2073 q86 q2074 (by decide +kernel) rfl ⟨Nat.le_of_ble_eq_true rfl, Nat.le_of_ble_eq_true rfl⟩ ⟨Nat.le_of_ble_eq_true rfl, Nat.le_of_ble_eq_true rfl⟩ (Nat.le_of_ble_eq_true rfl) dX4_tell_2 (kI (fun r1 σr1 H locs hp hG hS => ?_))
  obtain ⟨hr1, rfl⟩ := hp
  refine g_if_ne (tgt := 10) hx hb dX4_tell_5 (by decide) (by omega) (fun cq2 => ?_) (fun cq2 => ?_)
  · refine g_bipush hx hb dX4_tell_10 (by decide) ?_
    refine lv_iload_n hx hb dX4_tell_12 rfl (lv_at hl 1 rfl) ?_
    refine g_imul hx hb dX4_tell_13 ?_
    refine lv_iload_n hx hb dX4_tell_14 rfl (lv_at hl 2 rfl) ?_
    refine g_iadd hx hb dX4_tell_15 ?_
    refine lv_istore_n (lv' := [(3, .int (iI ((32 * x) + y))), (0, .ref o), (1, .int (iI x)), (2, .int (iI y))]) hx hb dX4_tell_16 rfl hl (by decide) rfl (fun ls hl => ?_)
    refine lv_aload_n hx hb dX4_tell_17 rfl (lv_at hl 1 rfl) ?_
    refine lv_iload_n hx hb dX4_tell_18 rfl (lv_at hl 0 rfl) ?_
    refine g_callV (As := [.int (iI ((32 * x) + y))]) (rest := []) 1 hx hb hml hown hts hK hG hS hl.1 (mX4_isTold l X σ o a V Iv hM hT hS0 ((32 * x) + y) (by omega)) hM.o rfl q2223 q2225 qs61 q86 q2226 (by decide +kernel) rfl ⟨Nat.le_of_ble_eq_true rfl, Nat.le_of_ble_eq_true rfl⟩ ⟨Nat.le_of_ble_eq_true rfl, Nat.le_of_ble_eq_true rfl⟩ (Nat.le_of_ble_eq_true rfl) dX4_tell_19 (kI (fun r3 σr3 H locs hp hG hS => ?_))
    obtain ⟨mr3, rfl⟩ := hp
    have kr3 : r3 = 0 ∨ r3 = 1 := by rcases mr3 with ⟨h, -⟩ | ⟨h, -⟩ <;> omega
    refine g_if_eq (tgt := 28) hx hb dX4_tell_22 (by decide) (by omega) (fun cq4 => ?_) (fun cq4 => ?_)
    · have hno : ∀ q : Int, 0 ≤ q → q < V 0 18 → V 0 (19 + q) ≠ (32 * x + y) := by rcases mr3 with ⟨h, -⟩ | ⟨-, h⟩; omega; exact h
      refine lv_aload_n hx hb dX4_tell_28 rfl (lv_at hl 1 rfl) ?_
      refine g_get (C := RX4) (T := TX4) (N := 30) (v := .ref (a 0)) hx hb hts hown hK hG hM.o rfl in_X4 0 (by decide) q1958 rfl rfl dX4_tell_29 ?_
      refine g_bipush hx hb dX4_tell_32 (by decide) ?_
      refine g_iald hx hb hK hG hM.a0 dX4_tell_34 (by omega) ?_
      refine g_bipush hx hb dX4_tell_35 (by decide) ?_
      refine g_icmp_ne (tgt := 43) hx hb dX4_tell_37 (by decide) (by omega) (by omega) (fun cq5 => ?_) (fun cq5 => ?_)
      · refine lv_aload_n hx hb dX4_tell_43 rfl (lv_at hl 1 rfl) ?_
        refine lv_iload_n hx hb dX4_tell_44 rfl (lv_at hl 0 rfl) ?_
        refine g_callV (As := [.int (iI ((32 * x) + y))]) (rest := []) 1 hx hb hml hown hts hK hG hS hl.1 (mX4_placeIn l X σ o a V Iv hM hT hS0 ((32 * x) + y) (by omega)) hM.o rfl q2227 q2229 qs62 q86 q2230 (by decide +kernel) rfl ⟨Nat.le_of_ble_eq_true rfl, Nat.le_of_ble_eq_true rfl⟩ ⟨Nat.le_of_ble_eq_true rfl, Nat.le_of_ble_eq_true rfl⟩ (Nat.le_of_ble_eq_true rfl) dX4_tell_45 (kI (fun r6 σr6 H locs hp hG hS => ?_))
        obtain ⟨⟨kr6, mr6, nr6⟩, rfl⟩ := hp
        have hp0 := kr6
        have hp1 := mr6
        have hp2 := nr6
        refine g_name (fun r9 er9 => ?_)
        rw [← er9] at hp0 hp1 hp2
        refine lv_istore (lv' := [(4, .int (iI r9)), (3, .int (iI ((32 * x) + y))), (0, .ref o), (1, .int (iI x)), (2, .int (iI y))]) hx hb dX4_tell_48 hl (by decide) rfl (fun ls hl => ?_)
        refine lv_aload_n hx hb dX4_tell_50 rfl (lv_at hl 2 rfl) ?_
        refine g_get (C := RX4) (T := TX4) (N := 30) (v := .ref (a 0)) hx hb hts hown hK hG hM.o rfl in_X4 0 (by decide) q1958 rfl rfl dX4_tell_51 ?_
        refine g_bipush hx hb dX4_tell_54 (by decide) ?_
        refine g_iald hx hb hK hG hM.a0 dX4_tell_56 (by omega) ?_
        refine lv_istore (lv' := [(5, .int (iI ((V 0) 18))), (4, .int (iI r9)), (3, .int (iI ((32 * x) + y))), (0, .ref o), (1, .int (iI x)), (2, .int (iI y))]) hx hb dX4_tell_57 hl (by decide) rfl (fun ls hl => ?_)
        have loop_59 : ∀ (nF : Nat) (σL : gS) (VL : Nat → Int → Int) (k9 : Int), ((k9 - r9).toNat : Nat) < nF → (MW X σL o a VL Iv) → (gKeep (fun t => t = 10) σ σL) → (r9 ≤ k9 ∧ k9 ≤ V 0 18) → (∀ q, q ≠ 0 → VL q = V q) → (∀ q : Int, q ≤ 18 + k9 ∨ 19 + V 0 18 < q → VL 0 q = V 0 q) → (∀ q : Int, k9 < q → q ≤ V 0 18 → VL 0 (19 + q) = V 0 (18 + q)) → ∀ (H : Heap) (locs : List Loc) (ls : Array Slot), gSat X σL H → va_S (gA X) ss.heap H locs → lv_has ls 6 [(5, .int (iI k9)), (4, .int (iI r9)), (3, .int (iI ((32 * x) + y))), (0, .ref o), (1, .int (iI x)), (2, .int (iI y))] → W pp l ee (gR 3 0 0 66) ss mm args below meth cd H locs 0 0 Q (F0 mm 59 ls []) := by
          intro nF
          induction nF with
          | zero => intro σL VL k9 hm; exact absurd hm (Nat.not_lt_zero _)
          | succ nF ih_59 =>
            intro σL VL k9 hm hML hkL hi59_2 hA hB hZ H locs ls hG hS hl
            refine lv_iload hx hb dX4_tell_59 (lv_at hl 0 rfl) ?_
            refine lv_iload hx hb dX4_tell_61 (lv_at hl 1 rfl) ?_
            refine g_icmp_le (tgt := 94) hx hb dX4_tell_63 (by decide) (by omega) (by omega) (fun cq7 => ?_) (fun cq7 => ?_)
            · refine lv_aload_n hx hb dX4_tell_94 rfl (lv_at hl 3 rfl) ?_
              refine g_get (C := RX4) (T := TX4) (N := 30) (v := .ref (a 0)) hx hb hts hown hK hG hML.o rfl in_X4 0 (by decide) q1958 rfl rfl dX4_tell_95 ?_
              refine g_bipush hx hb dX4_tell_98 (by decide) ?_
              refine lv_iload hx hb dX4_tell_100 (lv_at hl 1 rfl) ?_
              refine g_iadd hx hb dX4_tell_102 ?_
              refine lv_iload_n hx hb dX4_tell_103 rfl (lv_at hl 2 rfl) ?_
              refine g_iast hx hb hK hG hS hML.a0 dX4_tell_104 (by omega) (fun H locs hG hS => ?_)
              obtain ⟨V8, eV8⟩ : ∃ J : Nat → Int → Int, J = va_up VL 0 (iup (VL 0) (19 + r9) ((32 * x) + y)) := ⟨_, rfl⟩
              have v0_8 : V8 0 = (iup (VL 0) (19 + r9) ((32 * x) + y)) := by rw [eV8, va_up_self]
              have fV8 : ∀ j, j ≠ 0 → V8 j = VL j := fun j hj => by rw [eV8, va_up_ne _ _ hj]
              have hM8 : MW X (gup σL (a 0) (10, gI (X.2.1 0) 48 (iup (VL 0) (19 + r9) ((32 * x) + y)))) o a V8 Iv := by rw [eV8]; exact hML.set 0 rfl _
              have hkp8 : gKeep (fun t => t = 10) σ (gup σL (a 0) (10, gI (X.2.1 0) 48 (iup (VL 0) (19 + r9) ((32 * x) + y)))) := hkL.tr (gKeep.up hML.a0 rfl)
              generalize (gup σL (a 0) (10, gI (X.2.1 0) 48 (iup (VL 0) (19 + r9) ((32 * x) + y)))) = σ8 at hG hM8 hkp8
              refine lv_aload_n hx hb dX4_tell_105 rfl (lv_at hl 3 rfl) ?_
              refine g_get (C := RX4) (T := TX4) (N := 30) (v := .ref (a 0)) hx hb hts hown hK hG hM8.o rfl in_X4 0 (by decide) q1958 rfl rfl dX4_tell_106 ?_
              refine g_bipush hx hb dX4_tell_109 (by decide) ?_
              refine lv_dup2_11 hx hb dX4_tell_111 rfl rfl ?_
              refine g_iald hx hb hK hG hM8.a0 dX4_tell_112 (by omega) ?_
              refine g_iconst hx hb dX4_tell_113 ?_
              refine g_iadd hx hb dX4_tell_114 ?_
              refine g_iast hx hb hK hG hS hM8.a0 dX4_tell_115 (by omega) (fun H locs hG hS => ?_)
              obtain ⟨V9, eV9⟩ : ∃ J : Nat → Int → Int, J = va_up V8 0 (iup (V8 0) 18 (((V8 0) 18) + 1)) := ⟨_, rfl⟩
              have v0_9 : V9 0 = (iup (V8 0) 18 (((V8 0) 18) + 1)) := by rw [eV9, va_up_self]
              have fV9 : ∀ j, j ≠ 0 → V9 j = V8 j := fun j hj => by rw [eV9, va_up_ne _ _ hj]
              have hM9 : MW X (gup σ8 (a 0) (10, gI (X.2.1 0) 48 (iup (V8 0) 18 (((V8 0) 18) + 1)))) o a V9 Iv := by rw [eV9]; exact hM8.set 0 rfl _
              have hkp9 : gKeep (fun t => t = 10) σ (gup σ8 (a 0) (10, gI (X.2.1 0) 48 (iup (V8 0) 18 (((V8 0) 18) + 1)))) := hkp8.tr (gKeep.up hM8.a0 rfl)
              generalize (gup σ8 (a 0) (10, gI (X.2.1 0) 48 (iup (V8 0) 18 (((V8 0) 18) + 1)))) = σ9 at hG hM9 hkp9
              have y1 : V9 0 18 = V 0 18 + 1 := by rw [v0_9, iup_s, v0_8, iup_n (by omega), hB 18 (by omega)]
              have y2 : ∀ q : Int, q < 18 ∨ 31 ≤ q → V9 0 q = V 0 q := fun q h => by rw [v0_9, iup_n (by omega), v0_8, iup_n (by omega)]; exact hB q (by omega)
              have y3 : ∀ q : Int, 0 ≤ q → q ≤ V 0 18 → V9 0 (19 + q) = insF (V 0) r9 (32 * x + y) q := fun q h1 h2 => by
                  rw [v0_9, iup_n (by omega), v0_8]
                  unfold insF
                  by_cases hq : q = r9
                  · rw [hq, iup_s, if_neg (by omega), if_pos rfl]
                  · rw [iup_n (by omega), if_neg hq]
                    by_cases hq2 : q < r9
                    · rw [if_pos hq2]; exact hB _ (by omega)
                    · rw [if_neg hq2]; exact hZ _ (by omega) h2
              have y4 : ∀ q, q ≠ 0 → V9 q = V q := fun q h => (fV9 q h).trans ((fV8 q h).trans (hA q h))
              refine lv_aload_n hx hb dX4_tell_116 rfl (lv_at hl 3 rfl) ?_
              refine g_get (C := RX4) (T := TX4) (N := 30) (v := .ref (a 0)) hx hb hts hown hK hG hM9.o rfl in_X4 0 (by decide) q1958 rfl rfl dX4_tell_117 ?_
              refine g_bipush hx hb dX4_tell_120 (by decide) ?_
              refine g_iald hx hb hK hG hM9.a0 dX4_tell_122 (by omega) ?_
              exact g_iret hx hb hr hlocks hQ hG hS (Nat.zero_le _) (Nat.zero_le _) ⟨_, rfl, V9, Iv, hM9, hkp9, (⟨by rw [if_pos (by omega), if_neg (by intro hq; obtain ⟨q, h1, h2, h3⟩ := hq; exact hno q h1 h2 h3), if_neg (by omega)]; exact y1, Or.inl ⟨⟨by omega, fun hq => by obtain ⟨q, h1, h2, h3⟩ := hq; exact hno q h1 h2 h3, by omega⟩, ⟨r9, ⟨by omega, hp1, hp2⟩, y1, y2, y3, y4⟩, rfl⟩⟩)⟩ dX4_tell_123
            · refine lv_aload_n hx hb dX4_tell_66 rfl (lv_at hl 3 rfl) ?_
              refine g_get (C := RX4) (T := TX4) (N := 30) (v := .ref (a 0)) hx hb hts hown hK hG hML.o rfl in_X4 0 (by decide) q1958 rfl rfl dX4_tell_67 ?_
              refine g_bipush hx hb dX4_tell_70 (by decide) ?_
              refine lv_iload hx hb dX4_tell_72 (lv_at hl 0 rfl) ?_
              refine g_iadd hx hb dX4_tell_74 ?_
              refine lv_aload_n hx hb dX4_tell_75 rfl (lv_at hl 3 rfl) ?_
              refine g_get (C := RX4) (T := TX4) (N := 30) (v := .ref (a 0)) hx hb hts hown hK hG hML.o rfl in_X4 0 (by decide) q1958 rfl rfl dX4_tell_76 ?_
              refine g_bipush hx hb dX4_tell_79 (by decide) ?_
              refine lv_iload hx hb dX4_tell_81 (lv_at hl 0 rfl) ?_
              refine g_iadd hx hb dX4_tell_83 ?_
              refine g_iconst hx hb dX4_tell_84 ?_
              refine g_isub hx hb dX4_tell_85 ?_
              refine g_iald hx hb hK hG hML.a0 dX4_tell_86 (by omega) ?_
              refine g_iast hx hb hK hG hS hML.a0 dX4_tell_87 (by omega) (fun H locs hG hS => ?_)
              obtain ⟨V10, eV10⟩ : ∃ J : Nat → Int → Int, J = va_up VL 0 (iup (VL 0) (19 + k9) ((VL 0) ((19 + k9) - 1))) := ⟨_, rfl⟩
              have v0_10 : V10 0 = (iup (VL 0) (19 + k9) ((VL 0) ((19 + k9) - 1))) := by rw [eV10, va_up_self]
              have fV10 : ∀ j, j ≠ 0 → V10 j = VL j := fun j hj => by rw [eV10, va_up_ne _ _ hj]
              have hM10 : MW X (gup σL (a 0) (10, gI (X.2.1 0) 48 (iup (VL 0) (19 + k9) ((VL 0) ((19 + k9) - 1))))) o a V10 Iv := by rw [eV10]; exact hML.set 0 rfl _
              have hkp10 : gKeep (fun t => t = 10) σ (gup σL (a 0) (10, gI (X.2.1 0) 48 (iup (VL 0) (19 + k9) ((VL 0) ((19 + k9) - 1))))) := hkL.tr (gKeep.up hML.a0 rfl)
              generalize (gup σL (a 0) (10, gI (X.2.1 0) 48 (iup (VL 0) (19 + k9) ((VL 0) ((19 + k9) - 1))))) = σ10 at hG hM10 hkp10
              refine g_iinc (lv' := [(5, .int (iI (k9 + (-1)))), (4, .int (iI r9)), (3, .int (iI ((32 * x) + y))), (0, .ref o), (1, .int (iI x)), (2, .int (iI y))]) hx hb dX4_tell_88 hl (k := 0) rfl (by decide) rfl (fun ls hl => ?_)
              refine lv_goto (tgt := 59) hx hb dX4_tell_91 (by decide) ?_
              exact ih_59 σ10 V10 (k9 + (-1)) (by omega) (hM10) (hkp10) (by omega) (fun q h1 => (fV10 q h1).trans (hA q h1)) (fun q h => by rw [v0_10, iup_n (by omega)]; exact hB q (by omega)) (fun q h1 h2 => by rw [v0_10]; by_cases hq : q = k9; (rw [hq, iup_s, show 19 + k9 - 1 = 18 + k9 by omega]; exact hB _ (by omega)); (rw [iup_n (by omega)]; exact hZ q (by omega) h2))  _ _ _ hG hS (lv_sub hl [0, 1, 2, 3, 4, 5] rfl)
        exact loop_59 _ σ V ((V 0) 18) (Nat.lt_succ_self _) (hM) (hkp) (by omega) (fun q h => rfl) (fun q h => rfl) (fun q h1 h2 => by omega)  _ _ _ hG hS (lv_sub hl [0, 1, 2, 3, 4, 5] rfl)
      · refine g_bipush hx hb dX4_tell_40 (by decide) ?_
        exact g_iret hx hb hr hlocks hQ hG hS (Nat.zero_le _) (Nat.zero_le _) ⟨_, rfl, V, Iv, hM, hkp, (⟨by rw [if_pos (by omega), if_neg (by intro hq; obtain ⟨q, h1, h2, h3⟩ := hq; exact hno q h1 h2 h3), if_pos (by omega)], Or.inr ⟨fun h => by omega, rfl, rfl⟩⟩)⟩ dX4_tell_42
    · have hyes : (∃ q : Int, 0 ≤ q ∧ q < V 0 18 ∧ V 0 (19 + q) = (32 * x + y)) := by rcases mr3 with ⟨-, h⟩ | ⟨h, -⟩; exact h; omega
      refine g_bipush hx hb dX4_tell_25 (by decide) ?_
      exact g_iret hx hb hr hlocks hQ hG hS (Nat.zero_le _) (Nat.zero_le _) ⟨_, rfl, V, Iv, hM, hkp, (⟨by rw [if_pos (by omega), if_pos hyes], Or.inr ⟨fun h => h.2.1 hyes, rfl, rfl⟩⟩)⟩ dX4_tell_27
  · refine g_iconst hx hb dX4_tell_8 ?_
    exact g_iret hx hb hr hlocks hQ hG hS (Nat.zero_le _) (Nat.zero_le _) ⟨_, rfl, V, Iv, hM, hkp, (⟨by rw [if_neg (by omega)], Or.inr ⟨fun h => by omega, rfl, rfl⟩⟩)⟩ dX4_tell_9

set_option maxHeartbeats 4000000 in
theorem mX4_forget (l : Launch) (X : gX) (σ : gS) (o : Nat) (a : Nat → Nat) (V : Nat → Int → Int) (Iv : Nat → Int) (hM : MW X σ o a V Iv) (hT : okT (V 0)) (hS0 : okS (V 0)) (x : Int) (y : Int)  (h0 : -2147483648 ≤ x ∧ x ≤ 2147483647) (h1 : -2147483648 ≤ y ∧ y ≤ 2147483647) : gMet l X yX4_forget cX4_forget 5 (some .int) 3 0 0 66 σ [.ref o, .int (iI x), .int (iI y)] (oI (fun r σ' => ∃ (V' : Nat → Int → Int) (I' : Nat → Int), MW X σ' o a V' I' ∧ gKeep (fun t => t = 10) σ σ' ∧ (r = (if okSp x y then (@ite Int (∃ q : Int, 0 ≤ q ∧ q < V 0 18 ∧ V 0 (19 + q) = (32 * x + y)) (Classical.propDecidable _) (V 0 18 - 1) (-3)) else -1) ∧ ((okSp x y ∧ (∃ q : Int, 0 ≤ q ∧ q < V 0 18 ∧ V 0 (19 + q) = (32 * x + y))) ∧ (∃ k' : Int, ((0 ≤ k' ∧ k' < V 0 18) ∧ V 0 (19 + k') = (32 * x + y)) ∧ V' 0 18 = V 0 18 - 1 ∧ (∀ q : Int, q < 18 ∨ 31 ≤ q → V' 0 q = V 0 q) ∧ (∀ q : Int, 0 ≤ q → q < V 0 18 - 1 → V' 0 (19 + q) = delF (V 0) k' q) ∧ ∀ q, q ≠ 0 → V' q = V q) ∧ I' = Iv ∨ ¬ (okSp x y ∧ (∃ q : Int, 0 ≤ q ∧ q < V 0 18 ∧ V 0 (19 + q) = (32 * x + y))) ∧ V' = V ∧ I' = Iv)))) := by
  refine gMet.of (by decide) (Nat.le_of_ble_eq_true rfl) ?_
  intro pp ee ss mm args below meth cd Q H locs ls hargs hx hb hr hlocks hml hown hnm hts hK hG hS hQ hl
  have hown : ss.vm.findClass RX4 = some mm.cls := hown
  have hl : lv_has ls 5 [(0, .ref o), (1, .int (iI x)), (2, .int (iI y))] := hl
  have hkp : gKeep (fun t => t = 10) σ σ := gKeep.rf
  have hn := hS0.1
  refine lv_iload_n hx hb dX4_forget_0 rfl (lv_at hl 1 rfl) ?_
  refine lv_iload_n hx hb dX4_forget_1 rfl (lv_at hl 2 rfl) ?_
  refine g_callS (As := [.int (iI x), .int (iI y)]) (rest := []) 2 hx hb hml hown hts hK hG hS hl.1 (mX4_isSpot l X σ  x y (by omega) (by omega)) q2072 q2073 q86 q2074 (by decide +kernel) rfl ⟨Nat.le_of_ble_eq_true rfl, Nat.le_of_ble_eq_true rfl⟩ ⟨Nat.le_of_ble_eq_true rfl, Nat.le_of_ble_eq_true rfl⟩ (Nat.le_of_ble_eq_true rfl) dX4_forget_2 (kI (fun r1 σr1 H locs hp hG hS => ?_))
  obtain ⟨hr1, rfl⟩ := hp
  refine g_if_ne (tgt := 10) hx hb dX4_forget_5 (by decide) (by omega) (fun cq2 => ?_) (fun cq2 => ?_)
  · refine g_bipush hx hb dX4_forget_10 (by decide) ?_
    refine lv_iload_n hx hb dX4_forget_12 rfl (lv_at hl 1 rfl) ?_
    refine g_imul hx hb dX4_forget_13 ?_
    refine lv_iload_n hx hb dX4_forget_14 rfl (lv_at hl 2 rfl) ?_
    refine g_iadd hx hb dX4_forget_15 ?_
    refine lv_istore_n (lv' := [(3, .int (iI ((32 * x) + y))), (0, .ref o), (1, .int (iI x)), (2, .int (iI y))]) hx hb dX4_forget_16 rfl hl (by decide) rfl (fun ls hl => ?_)
    refine lv_aload_n hx hb dX4_forget_17 rfl (lv_at hl 1 rfl) ?_
    refine lv_iload_n hx hb dX4_forget_18 rfl (lv_at hl 0 rfl) ?_
    refine g_callV (As := [.int (iI ((32 * x) + y))]) (rest := []) 1 hx hb hml hown hts hK hG hS hl.1 (mX4_isTold l X σ o a V Iv hM hT hS0 ((32 * x) + y) (by omega)) hM.o rfl q2223 q2225 qs61 q86 q2226 (by decide +kernel) rfl ⟨Nat.le_of_ble_eq_true rfl, Nat.le_of_ble_eq_true rfl⟩ ⟨Nat.le_of_ble_eq_true rfl, Nat.le_of_ble_eq_true rfl⟩ (Nat.le_of_ble_eq_true rfl) dX4_forget_19 (kI (fun r3 σr3 H locs hp hG hS => ?_))
    obtain ⟨mr3, rfl⟩ := hp
    have kr3 : r3 = 0 ∨ r3 = 1 := by rcases mr3 with ⟨h, -⟩ | ⟨h, -⟩ <;> omega
    refine g_if_ne (tgt := 28) hx hb dX4_forget_22 (by decide) (by omega) (fun cq4 => ?_) (fun cq4 => ?_)
    · have hyes : (∃ q : Int, 0 ≤ q ∧ q < V 0 18 ∧ V 0 (19 + q) = (32 * x + y)) := by rcases mr3 with ⟨-, h⟩ | ⟨h, -⟩; exact h; omega
      refine lv_aload_n hx hb dX4_forget_28 rfl (lv_at hl 1 rfl) ?_
      refine g_get (C := RX4) (T := TX4) (N := 30) (v := .ref (a 0)) hx hb hts hown hK hG hM.o rfl in_X4 0 (by decide) q1958 rfl rfl dX4_forget_29 ?_
      refine g_bipush hx hb dX4_forget_32 (by decide) ?_
      refine lv_dup2_11 hx hb dX4_forget_34 rfl rfl ?_
      refine g_iald hx hb hK hG hM.a0 dX4_forget_35 (by omega) ?_
      refine g_iconst hx hb dX4_forget_36 ?_
      refine g_isub hx hb dX4_forget_37 ?_
      refine g_iast hx hb hK hG hS hM.a0 dX4_forget_38 (by omega) (fun H locs hG hS => ?_)
      obtain ⟨V5, eV5⟩ : ∃ J : Nat → Int → Int, J = va_up V 0 (iup (V 0) 18 (((V 0) 18) - 1)) := ⟨_, rfl⟩
      have v0_5 : V5 0 = (iup (V 0) 18 (((V 0) 18) - 1)) := by rw [eV5, va_up_self]
      have fV5 : ∀ j, j ≠ 0 → V5 j = V j := fun j hj => by rw [eV5, va_up_ne _ _ hj]
      have hM5 : MW X (gup σ (a 0) (10, gI (X.2.1 0) 48 (iup (V 0) 18 (((V 0) 18) - 1)))) o a V5 Iv := by rw [eV5]; exact hM.set 0 rfl _
      have hkp5 : gKeep (fun t => t = 10) σ (gup σ (a 0) (10, gI (X.2.1 0) 48 (iup (V 0) 18 (((V 0) 18) - 1)))) := hkp.tr (gKeep.up hM.a0 rfl)
      generalize (gup σ (a 0) (10, gI (X.2.1 0) 48 (iup (V 0) 18 (((V 0) 18) - 1)))) = σ5 at hG hM5 hkp5
      have x0_5 : V5 0 18 = V 0 18 - 1 := by rw [v0_5, iup_s]
      have x1_5 : ∀ q : Int, q ≠ 18 → V5 0 q = V 0 q := fun q h => by rw [v0_5, iup_n h]
      have hS5 : okS (V5 0) := by
        refine ⟨by rw [x0_5]; obtain ⟨q, h1, h2, h3⟩ := hyes; omega, fun i j h1 h2 h3 => ?_, fun i h1 h2 => ?_⟩
        · rw [x0_5] at h3; rw [x1_5 _ (by omega), x1_5 _ (by omega)]; exact hS0.2.1 i j h1 h2 (by omega)
        · rw [x0_5] at h2; rw [x1_5 _ (by omega)]; exact hS0.2.2 i h1 (by omega)
      have hT5 : okT (V5 0) := fun j h1 h2 => by rw [x1_5 _ (by omega)]; exact hT j h1 h2
      have hn2 := hS5.1
      refine lv_aload_n hx hb dX4_forget_39 rfl (lv_at hl 1 rfl) ?_
      refine lv_iload_n hx hb dX4_forget_40 rfl (lv_at hl 0 rfl) ?_
      refine g_callV (As := [.int (iI ((32 * x) + y))]) (rest := []) 1 hx hb hml hown hts hK hG hS hl.1 (mX4_placeIn l X σ5 o a V5 Iv hM5 hT5 hS5 ((32 * x) + y) (by omega)) hM5.o rfl q2227 q2229 qs62 q86 q2230 (by decide +kernel) rfl ⟨Nat.le_of_ble_eq_true rfl, Nat.le_of_ble_eq_true rfl⟩ ⟨Nat.le_of_ble_eq_true rfl, Nat.le_of_ble_eq_true rfl⟩ (Nat.le_of_ble_eq_true rfl) dX4_forget_41 (kI (fun r6 σr6 H locs hp hG hS => ?_))
      obtain ⟨⟨kr6, mr6, nr6⟩, rfl⟩ := hp
      have hp0 := kr6
      have hp1 := mr6
      have hp2 := nr6
      refine g_name (fun r9 er9 => ?_)
      rw [← er9, x0_5] at hp0 hp2
      rw [← er9] at hp1
      have hP : r9 < V 0 18 ∧ V 0 (19 + r9) = (32 * x + y) ∧ ∀ q : Int, 0 ≤ q → q < r9 → V 0 (19 + q) < (32 * x + y) := by
        obtain ⟨q, h1, h2, h3⟩ := hyes
        have h4 : ∀ q : Int, 0 ≤ q → q < r9 → V 0 (19 + q) < (32 * x + y) := fun q g1 g2 => by
          have := hp1 q g1 g2
          rwa [x1_5 _ (by omega)] at this
        refine ⟨by omega, ?_, h4⟩
        by_cases g1 : r9 = q
        · rw [g1]; exact h3
        · by_cases g2 : q < r9
          · have := h4 q h1 g2; omega
          · have g3 := hS0.2.1 r9 q (by omega) (by omega) h2
            have g4 := hp2 (by omega)
            rw [x1_5 _ (by omega)] at g4
            omega
      refine lv_istore (lv' := [(4, .int (iI r9)), (3, .int (iI ((32 * x) + y))), (0, .ref o), (1, .int (iI x)), (2, .int (iI y))]) hx hb dX4_forget_44 hl (by decide) rfl (fun ls hl => ?_)
      have loop_46 : ∀ (nF : Nat) (σL : gS) (VL : Nat → Int → Int) (k9 : Int), ((V 0 18 - k9).toNat : Nat) < nF → (MW X σL o a VL Iv) → (gKeep (fun t => t = 10) σ σL) → (r9 ≤ k9 ∧ k9 ≤ V 0 18 - 1) → (∀ q, q ≠ 0 → VL q = V q) → (VL 0 18 = V 0 18 - 1) → (∀ q : Int, q < 18 ∨ 31 ≤ q → VL 0 q = V 0 q) → (∀ q : Int, 0 ≤ q → q < V 0 18 → VL 0 (19 + q) = if r9 ≤ q ∧ q < k9 then V 0 (20 + q) else V 0 (19 + q)) → ∀ (H : Heap) (locs : List Loc) (ls : Array Slot), gSat X σL H → va_S (gA X) ss.heap H locs → lv_has ls 5 [(4, .int (iI k9)), (3, .int (iI ((32 * x) + y))), (0, .ref o), (1, .int (iI x)), (2, .int (iI y))] → W pp l ee (gR 3 0 0 66) ss mm args below meth cd H locs 0 0 Q (F0 mm 46 ls []) := by
        intro nF
        induction nF with
        | zero => intro σL VL k9 hm; exact absurd hm (Nat.not_lt_zero _)
        | succ nF ih_46 =>
          intro σL VL k9 hm hML hkL hi46_2 hA hB0 hB hC H locs ls hG hS hl
          refine lv_iload hx hb dX4_forget_46 (lv_at hl 0 rfl) ?_
          refine lv_aload_n hx hb dX4_forget_48 rfl (lv_at hl 2 rfl) ?_
          refine g_get (C := RX4) (T := TX4) (N := 30) (v := .ref (a 0)) hx hb hts hown hK hG hML.o rfl in_X4 0 (by decide) q1958 rfl rfl dX4_forget_49 ?_
          refine g_bipush hx hb dX4_forget_52 (by decide) ?_
          refine g_iald hx hb hK hG hML.a0 dX4_forget_54 (by omega) ?_
          refine g_rw (b := (V 0 18 - 1)) (hB0) ?_
          refine g_icmp_ge (tgt := 86) hx hb dX4_forget_55 (by decide) (by omega) (by omega) (fun cq7 => ?_) (fun cq7 => ?_)
          · refine lv_aload_n hx hb dX4_forget_86 rfl (lv_at hl 2 rfl) ?_
            refine g_get (C := RX4) (T := TX4) (N := 30) (v := .ref (a 0)) hx hb hts hown hK hG hML.o rfl in_X4 0 (by decide) q1958 rfl rfl dX4_forget_87 ?_
            refine g_bipush hx hb dX4_forget_90 (by decide) ?_
            refine lv_aload_n hx hb dX4_forget_92 rfl (lv_at hl 2 rfl) ?_
            refine g_get (C := RX4) (T := TX4) (N := 30) (v := .ref (a 0)) hx hb hts hown hK hG hML.o rfl in_X4 0 (by decide) q1958 rfl rfl dX4_forget_93 ?_
            refine g_bipush hx hb dX4_forget_96 (by decide) ?_
            refine g_iald hx hb hK hG hML.a0 dX4_forget_98 (by omega) ?_
            refine g_rw (b := (V 0 18 - 1)) (hB0) ?_
            refine g_iadd hx hb dX4_forget_99 ?_
            refine g_iconst hx hb dX4_forget_100 ?_
            refine g_iast hx hb hK hG hS hML.a0 dX4_forget_101 (by omega) (fun H locs hG hS => ?_)
            obtain ⟨V8, eV8⟩ : ∃ J : Nat → Int → Int, J = va_up VL 0 (iup (VL 0) (19 + (V 0 18 - 1)) 0) := ⟨_, rfl⟩
            have v0_8 : V8 0 = (iup (VL 0) (19 + (V 0 18 - 1)) 0) := by rw [eV8, va_up_self]
            have fV8 : ∀ j, j ≠ 0 → V8 j = VL j := fun j hj => by rw [eV8, va_up_ne _ _ hj]
            have hM8 : MW X (gup σL (a 0) (10, gI (X.2.1 0) 48 (iup (VL 0) (19 + (V 0 18 - 1)) 0))) o a V8 Iv := by rw [eV8]; exact hML.set 0 rfl _
            have hkp8 : gKeep (fun t => t = 10) σ (gup σL (a 0) (10, gI (X.2.1 0) 48 (iup (VL 0) (19 + (V 0 18 - 1)) 0))) := hkL.tr (gKeep.up hML.a0 rfl)
            generalize (gup σL (a 0) (10, gI (X.2.1 0) 48 (iup (VL 0) (19 + (V 0 18 - 1)) 0))) = σ8 at hG hM8 hkp8
            have y1 : V8 0 18 = V 0 18 - 1 := by rw [v0_8, iup_n (by omega)]; exact hB0
            have y2 : ∀ q : Int, q < 18 ∨ 31 ≤ q → V8 0 q = V 0 q := fun q h => by rw [v0_8, iup_n (by omega)]; exact hB q h
            have y3 : ∀ q : Int, 0 ≤ q → q < V 0 18 - 1 → V8 0 (19 + q) = delF (V 0) r9 q := fun q h1 h2 => by
                rw [v0_8, iup_n (by omega), hC q h1 (by omega)]
                unfold delF
                by_cases hq2 : q < r9
                · rw [if_neg (by omega), if_pos hq2]
                · rw [if_pos (by omega), if_neg hq2]
            have y4 : ∀ q, q ≠ 0 → V8 q = V q := fun q h => (fV8 q h).trans (hA q h)
            refine lv_aload_n hx hb dX4_forget_102 rfl (lv_at hl 2 rfl) ?_
            refine g_get (C := RX4) (T := TX4) (N := 30) (v := .ref (a 0)) hx hb hts hown hK hG hM8.o rfl in_X4 0 (by decide) q1958 rfl rfl dX4_forget_103 ?_
            refine g_bipush hx hb dX4_forget_106 (by decide) ?_
            refine g_iald hx hb hK hG hM8.a0 dX4_forget_108 (by omega) ?_
            refine g_rw (b := (V 0 18 - 1)) (y1) ?_
            exact g_iret hx hb hr hlocks hQ hG hS (Nat.zero_le _) (Nat.zero_le _) ⟨_, rfl, V8, Iv, hM8, hkp8, (⟨by rw [if_pos (by omega), if_pos hyes], Or.inl ⟨⟨by omega, hyes⟩, ⟨r9, ⟨by omega, hP.2.1⟩, y1, y2, y3, y4⟩, rfl⟩⟩)⟩ dX4_forget_109
          · refine lv_aload_n hx hb dX4_forget_58 rfl (lv_at hl 2 rfl) ?_
            refine g_get (C := RX4) (T := TX4) (N := 30) (v := .ref (a 0)) hx hb hts hown hK hG hML.o rfl in_X4 0 (by decide) q1958 rfl rfl dX4_forget_59 ?_
            refine g_bipush hx hb dX4_forget_62 (by decide) ?_
            refine lv_iload hx hb dX4_forget_64 (lv_at hl 0 rfl) ?_
            refine g_iadd hx hb dX4_forget_66 ?_
            refine lv_aload_n hx hb dX4_forget_67 rfl (lv_at hl 2 rfl) ?_
            refine g_get (C := RX4) (T := TX4) (N := 30) (v := .ref (a 0)) hx hb hts hown hK hG hML.o rfl in_X4 0 (by decide) q1958 rfl rfl dX4_forget_68 ?_
            refine g_bipush hx hb dX4_forget_71 (by decide) ?_
            refine lv_iload hx hb dX4_forget_73 (lv_at hl 0 rfl) ?_
            refine g_iadd hx hb dX4_forget_75 ?_
            refine g_iconst hx hb dX4_forget_76 ?_
            refine g_iadd hx hb dX4_forget_77 ?_
            refine g_iald hx hb hK hG hML.a0 dX4_forget_78 (by omega) ?_
            refine g_iast hx hb hK hG hS hML.a0 dX4_forget_79 (by omega) (fun H locs hG hS => ?_)
            obtain ⟨V9, eV9⟩ : ∃ J : Nat → Int → Int, J = va_up VL 0 (iup (VL 0) (19 + k9) ((VL 0) ((19 + k9) + 1))) := ⟨_, rfl⟩
            have v0_9 : V9 0 = (iup (VL 0) (19 + k9) ((VL 0) ((19 + k9) + 1))) := by rw [eV9, va_up_self]
            have fV9 : ∀ j, j ≠ 0 → V9 j = VL j := fun j hj => by rw [eV9, va_up_ne _ _ hj]
            have hM9 : MW X (gup σL (a 0) (10, gI (X.2.1 0) 48 (iup (VL 0) (19 + k9) ((VL 0) ((19 + k9) + 1))))) o a V9 Iv := by rw [eV9]; exact hML.set 0 rfl _
            have hkp9 : gKeep (fun t => t = 10) σ (gup σL (a 0) (10, gI (X.2.1 0) 48 (iup (VL 0) (19 + k9) ((VL 0) ((19 + k9) + 1))))) := hkL.tr (gKeep.up hML.a0 rfl)
            generalize (gup σL (a 0) (10, gI (X.2.1 0) 48 (iup (VL 0) (19 + k9) ((VL 0) ((19 + k9) + 1))))) = σ9 at hG hM9 hkp9
            refine g_iinc (lv' := [(4, .int (iI (k9 + 1))), (3, .int (iI ((32 * x) + y))), (0, .ref o), (1, .int (iI x)), (2, .int (iI y))]) hx hb dX4_forget_80 hl (k := 0) rfl (by decide) rfl (fun ls hl => ?_)
            refine lv_goto (tgt := 46) hx hb dX4_forget_83 (by decide) ?_
            exact ih_46 σ9 V9 (k9 + 1) (by omega) (hM9) (hkp9) (by omega) (fun q h1 => (fV9 q h1).trans (hA q h1)) (by rw [v0_9, iup_n (by omega)]; exact hB0) (fun q h => by rw [v0_9, iup_n (by omega)]; exact hB q h) (fun q h1 h2 => by rw [v0_9]; by_cases hq : q = k9; (rw [hq, iup_s, show 19 + k9 + 1 = 19 + (k9 + 1) by omega, hC (k9 + 1) (by omega) (by omega), if_neg (by omega), if_pos (by omega), show 19 + (k9 + 1) = 20 + k9 by omega]); (rw [iup_n (by omega), hC q h1 h2]; by_cases hq2 : r9 ≤ q ∧ q < k9; (rw [if_pos hq2, if_pos (by omega)]); (rw [if_neg hq2, if_neg (by omega)])))  _ _ _ hG hS (lv_sub hl [0, 1, 2, 3, 4] rfl)
      exact loop_46 _ σ5 V5 r9 (Nat.lt_succ_self _) (hM5) (hkp5) (by omega) (fV5) (by rw [v0_5, iup_s]) (fun q h => by rw [v0_5, iup_n (by omega)]) (fun q h1 h2 => by rw [v0_5, iup_n (by omega), if_neg (by omega)])  _ _ _ hG hS (lv_sub hl [0, 1, 2, 3, 4] rfl)
    · have hno : ∀ q : Int, 0 ≤ q → q < V 0 18 → V 0 (19 + q) ≠ (32 * x + y) := by rcases mr3 with ⟨h, -⟩ | ⟨-, h⟩; omega; exact h
      refine g_bipush hx hb dX4_forget_25 (by decide) ?_
      exact g_iret hx hb hr hlocks hQ hG hS (Nat.zero_le _) (Nat.zero_le _) ⟨_, rfl, V, Iv, hM, hkp, (⟨by rw [if_pos (by omega), if_neg (by intro hq; obtain ⟨q, h1, h2, h3⟩ := hq; exact hno q h1 h2 h3)], Or.inr ⟨fun h => by obtain ⟨q, h1, h2, h3⟩ := h.2; exact hno q h1 h2 h3, rfl, rfl⟩⟩)⟩ dX4_forget_27
  · refine g_iconst hx hb dX4_forget_8 ?_
    exact g_iret hx hb hr hlocks hQ hG hS (Nat.zero_le _) (Nat.zero_le _) ⟨_, rfl, V, Iv, hM, hkp, (⟨by rw [if_neg (by omega)], Or.inr ⟨fun h => by omega, rfl, rfl⟩⟩)⟩ dX4_forget_9

set_option maxHeartbeats 4000000 in
theorem mX4_ends (l : Launch) (X : gX) (σ : gS) (o : Nat) (a : Nat → Nat) (V : Nat → Int → Int) (Iv : Nat → Int) (hM : MW X σ o a V Iv) (hT : okT (V 0)) (x : Int) (y : Int) (h0 : ((0 ≤ V 0 31 ∧ V 0 31 ≤ 8) ∧ ∀ k : Int, 0 ≤ k → k < V 0 31 → (0 ≤ V 0 (32 + k) ∧ V 0 (32 + k) ≤ 3) ∧ (V 0 (32 + k) < 2 → 1 ≤ V 0 (40 + k) ∧ V 0 (40 + k) ≤ 9) ∧ (V 0 (32 + k) = 2 → 0 ≤ V 0 (40 + k) ∧ V 0 (40 + k) ≤ 1))) (h1 : -2147483648 ≤ x ∧ x ≤ 2147483647) (h2 : -2147483648 ≤ y ∧ y ≤ 2147483647) : gMet l X yX4_ends cX4_ends 9 (some .int) 6 0 0 148 σ [.ref o, .int (iI x), .int (iI y)] (oI (fun r σ' => r = (if okSp x y then endA (V 0) (fun q => V 0 (32 + q)) (fun q => V 0 (40 + q)) (V 0 31).toNat 0 (32 * x + y) else -1) ∧ σ = σ')) := by
  refine gMet.of (by decide) (Nat.le_of_ble_eq_true rfl) ?_
  intro pp ee ss mm args below meth cd Q H locs ls hargs hx hb hr hlocks hml hown hnm hts hK hG hS hQ hl
  have hown : ss.vm.findClass RX4 = some mm.cls := hown
  have hl : lv_has ls 9 [(0, .ref o), (1, .int (iI x)), (2, .int (iI y))] := hl
  have hPl := h0
  refine lv_iload_n hx hb dX4_ends_0 rfl (lv_at hl 1 rfl) ?_
  refine lv_iload_n hx hb dX4_ends_1 rfl (lv_at hl 2 rfl) ?_
  refine g_callS (As := [.int (iI x), .int (iI y)]) (rest := []) 2 hx hb hml hown hts hK hG hS hl.1 (mX4_isSpot l X σ  x y (by omega) (by omega)) q2072 q2073 q86 q2074 (by decide +kernel) rfl ⟨Nat.le_of_ble_eq_true rfl, Nat.le_of_ble_eq_true rfl⟩ ⟨Nat.le_of_ble_eq_true rfl, Nat.le_of_ble_eq_true rfl⟩ (Nat.le_of_ble_eq_true rfl) dX4_ends_2 (kI (fun r1 σr1 H locs hp hG hS => ?_))
  obtain ⟨hr1, rfl⟩ := hp
  refine g_if_ne (tgt := 10) hx hb dX4_ends_5 (by decide) (by omega) (fun cq2 => ?_) (fun cq2 => ?_)
  · refine g_bipush hx hb dX4_ends_10 (by decide) ?_
    refine lv_iload_n hx hb dX4_ends_12 rfl (lv_at hl 1 rfl) ?_
    refine g_imul hx hb dX4_ends_13 ?_
    refine lv_iload_n hx hb dX4_ends_14 rfl (lv_at hl 2 rfl) ?_
    refine g_iadd hx hb dX4_ends_15 ?_
    refine lv_istore_n (lv' := [(3, .int (iI ((32 * x) + y))), (0, .ref o), (1, .int (iI x)), (2, .int (iI y))]) hx hb dX4_ends_16 rfl hl (by decide) rfl (fun ls hl => ?_)
    refine g_iconst hx hb dX4_ends_17 ?_
    refine lv_istore (lv' := [(4, .int (iI 0)), (3, .int (iI ((32 * x) + y))), (0, .ref o), (1, .int (iI x)), (2, .int (iI y))]) hx hb dX4_ends_18 hl (by decide) rfl (fun ls hl => ?_)
    have loop_20 : ∀ (nF : Nat) (sp : Int) (k9 : Int) (f : Nat), (f : Nat) < nF → (0 ≤ sp ∧ sp ≤ 1023) → (0 ≤ k9 ∧ k9 + (f : Int) = V 0 31) → (endA (V 0) (fun q => V 0 (32 + q)) (fun q => V 0 (40 + q)) f k9 sp = endA (V 0) (fun q => V 0 (32 + q)) (fun q => V 0 (40 + q)) (V 0 31).toNat 0 (32 * x + y)) → ∀ (H : Heap) (locs : List Loc) (ls : Array Slot), gSat X σ H → va_S (gA X) ss.heap H locs → lv_has ls 9 [(4, .int (iI k9)), (3, .int (iI sp)), (0, .ref o), (1, .int (iI x)), (2, .int (iI y))] → W pp l ee (gR 6 0 0 148) ss mm args below meth cd H locs 0 0 Q (F0 mm 20 ls []) := by
      intro nF
      induction nF with
      | zero => intro sp k9 f hm; exact absurd hm (Nat.not_lt_zero _)
      | succ nF ih_20 =>
        intro sp k9 f hm hi20_0 hi20_1 hi20_2 H locs ls hG hS hl
        refine lv_iload hx hb dX4_ends_20 (lv_at hl 0 rfl) ?_
        refine lv_aload_n hx hb dX4_ends_22 rfl (lv_at hl 2 rfl) ?_
        refine g_get (C := RX4) (T := TX4) (N := 30) (v := .ref (a 0)) hx hb hts hown hK hG hM.o rfl in_X4 0 (by decide) q1958 rfl rfl dX4_ends_23 ?_
        refine g_bipush hx hb dX4_ends_26 (by decide) ?_
        refine g_iald hx hb hK hG hM.a0 dX4_ends_28 (by omega) ?_
        have hpl := hPl.1
        refine g_icmp_ge (tgt := 180) hx hb dX4_ends_29 (by decide) (by omega) (by omega) (fun cq3 => ?_) (fun cq3 => ?_)
        · refine lv_iload_n hx hb dX4_ends_180 rfl (lv_at hl 1 rfl) ?_
          exact g_iret hx hb hr hlocks hQ hG hS (Nat.zero_le _) (Nat.zero_le _) ⟨_, rfl, (by rw [if_pos (by omega), ← hi20_2]; exact (endA_0 (by omega)).symm), rfl⟩ dX4_ends_181
        · refine lv_aload_n hx hb dX4_ends_32 rfl (lv_at hl 2 rfl) ?_
          refine g_get (C := RX4) (T := TX4) (N := 30) (v := .ref (a 0)) hx hb hts hown hK hG hM.o rfl in_X4 0 (by decide) q1958 rfl rfl dX4_ends_33 ?_
          refine g_bipush hx hb dX4_ends_36 (by decide) ?_
          refine lv_iload hx hb dX4_ends_38 (lv_at hl 0 rfl) ?_
          refine g_iadd hx hb dX4_ends_40 ?_
          refine g_iald hx hb hK hG hM.a0 dX4_ends_41 (by omega) ?_
          have hpr := hPl.2 k9 (by omega) (by omega)
          refine lv_istore (lv' := [(5, .int (iI ((V 0) (32 + k9)))), (4, .int (iI k9)), (3, .int (iI sp)), (0, .ref o), (1, .int (iI x)), (2, .int (iI y))]) hx hb dX4_ends_42 hl (by decide) rfl (fun ls hl => ?_)
          refine g_iconst hx hb dX4_ends_44 ?_
          refine lv_istore (lv' := [(6, .int (iI 1)), (5, .int (iI ((V 0) (32 + k9)))), (4, .int (iI k9)), (3, .int (iI sp)), (0, .ref o), (1, .int (iI x)), (2, .int (iI y))]) hx hb dX4_ends_45 hl (by decide) rfl (fun ls hl => ?_)
          refine lv_iload hx hb dX4_ends_47 (lv_at hl 1 rfl) ?_
          refine g_iconst hx hb dX4_ends_49 ?_
          refine g_icmp_ge (tgt := 66) hx hb dX4_ends_50 (by decide) (by omega) (by omega) (fun cq4 => ?_) (fun cq4 => ?_)
          · refine g_iconst hx hb dX4_ends_66 ?_
            refine lv_istore (lv' := [(7, .int (iI 1)), (6, .int (iI 1)), (5, .int (iI ((V 0) (32 + k9)))), (4, .int (iI k9)), (3, .int (iI sp)), (0, .ref o), (1, .int (iI x)), (2, .int (iI y))]) hx hb dX4_ends_67 hl (by decide) rfl (fun ls hl => ?_)
            have loop_69 : ∀ (nF : Nat) (s9 : Int) (g9 : Int) (i9 : Int) (j : Nat), (j : Nat) < nF → (0 ≤ s9 ∧ s9 ≤ 1023) → (g9 = 0 ∨ g9 = 1) → (i9 = (j : Int)) → (g9 = 1 → unG (acZ (V 0) (V 0 (32 + k9)) (V 0 (40 + k9))) j s9 = actZ (V 0) (V 0 (32 + k9)) (V 0 (40 + k9)) sp) → (g9 = 0 → s9 = actZ (V 0) (V 0 (32 + k9)) (V 0 (40 + k9)) sp) → (j ≤ 9 ∧ (¬ V 0 (32 + k9) < 2 → j ≤ 1)) → ∀ (H : Heap) (locs : List Loc) (ls : Array Slot), gSat X σ H → va_S (gA X) ss.heap H locs → lv_has ls 9 [(7, .int (iI i9)), (6, .int (iI g9)), (5, .int (iI ((V 0) (32 + k9)))), (4, .int (iI k9)), (3, .int (iI s9)), (0, .ref o), (1, .int (iI x)), (2, .int (iI y))] → W pp l ee (gR 6 0 0 148) ss mm args below meth cd H locs 0 0 Q (F0 mm 69 ls []) := by
              intro nF
              induction nF with
              | zero => intro s9 g9 i9 j hm; exact absurd hm (Nat.not_lt_zero _)
              | succ nF ih_69 =>
                intro s9 g9 i9 j hm hi69_0 hi69_1 hi69_2 hi69_3 hi69_4 hi69_5 H locs ls hG hS hl
                refine lv_iload hx hb dX4_ends_69 (lv_at hl 0 rfl) ?_
                refine g_if_le (tgt := 174) hx hb dX4_ends_71 (by decide) (by omega) (fun cq5 => ?_) (fun cq5 => ?_)
                · have hE : actZ (V 0) (V 0 (32 + k9)) (V 0 (40 + k9)) sp = s9 := by rcases hi69_1 with hg | hg; exact (hi69_4 hg).symm; rw [← hi69_3 hg]; exact unG_0 (by omega)
                  refine g_iinc (lv' := [(4, .int (iI (k9 + 1))), (7, .int (iI i9)), (6, .int (iI g9)), (5, .int (iI ((V 0) (32 + k9)))), (3, .int (iI s9)), (0, .ref o), (1, .int (iI x)), (2, .int (iI y))]) hx hb dX4_ends_174 hl (k := 3) rfl (by decide) rfl (fun ls hl => ?_)
                  refine lv_goto (tgt := 20) hx hb dX4_ends_177 (by decide) ?_
                  exact ih_20 s9 (k9 + 1) (f - 1) (by omega) (by omega) (by omega) (by rw [← hi20_2, ← endA_s (show 0 < f by omega)]; show _ = endA _ _ _ _ _ (actZ (V 0) (V 0 (32 + k9)) (V 0 (40 + k9)) sp); rw [hE])  _ _ _ hG hS (lv_sub hl [0, 4, 5, 6, 7] rfl)
                · refine lv_iload hx hb dX4_ends_74 (lv_at hl 1 rfl) ?_
                  refine g_if_eq (tgt := 174) hx hb dX4_ends_76 (by decide) (by omega) (fun cq6 => ?_) (fun cq6 => ?_)
                  · have hE : actZ (V 0) (V 0 (32 + k9)) (V 0 (40 + k9)) sp = s9 := by rcases hi69_1 with hg | hg; exact (hi69_4 hg).symm; rw [← hi69_3 hg]; exact unG_0 (by omega)
                    refine g_iinc (lv' := [(4, .int (iI (k9 + 1))), (7, .int (iI i9)), (6, .int (iI g9)), (5, .int (iI ((V 0) (32 + k9)))), (3, .int (iI s9)), (0, .ref o), (1, .int (iI x)), (2, .int (iI y))]) hx hb dX4_ends_174 hl (k := 3) rfl (by decide) rfl (fun ls hl => ?_)
                    refine lv_goto (tgt := 20) hx hb dX4_ends_177 (by decide) ?_
                    exact ih_20 s9 (k9 + 1) (f - 1) (by omega) (by omega) (by omega) (by rw [← hi20_2, ← endA_s (show 0 < f by omega)]; show _ = endA _ _ _ _ _ (actZ (V 0) (V 0 (32 + k9)) (V 0 (40 + k9)) sp); rw [hE])  _ _ _ hG hS (lv_sub hl [0, 4, 5, 6, 7] rfl)
                  · refine lv_iload hx hb dX4_ends_79 (lv_at hl 2 rfl) ?_
                    refine g_iconst hx hb dX4_ends_81 ?_
                    refine g_icmp_ge (tgt := 104) hx hb dX4_ends_82 (by decide) (by omega) (by omega) (fun cq7 => ?_) (fun cq7 => by omega)
                    refine lv_iload hx hb dX4_ends_104 (lv_at hl 2 rfl) ?_
                    refine g_iconst hx hb dX4_ends_106 ?_
                    refine g_icmp_ne (tgt := 128) hx hb dX4_ends_107 (by decide) (by omega) (by omega) (fun cq8 => ?_) (fun cq8 => ?_)
                    · refine g_bipush hx hb dX4_ends_128 (by decide) ?_
                      refine lv_iload_n hx hb dX4_ends_130 rfl (lv_at hl 4 rfl) ?_
                      refine g_bipush hx hb dX4_ends_131 (by decide) ?_
                      refine g_irem hx hb dX4_ends_133 (by omega) (by omega) ?_
                      refine g_imul hx hb dX4_ends_134 ?_
                      refine lv_iload_n hx hb dX4_ends_135 rfl (lv_at hl 4 rfl) ?_
                      refine g_bipush hx hb dX4_ends_136 (by decide) ?_
                      refine g_idiv hx hb dX4_ends_138 (by omega) (by omega) ?_
                      refine g_iadd hx hb dX4_ends_139 ?_
                      have hac : acZ (V 0) (V 0 (32 + k9)) (V 0 (40 + k9)) s9 = (32 * (s9 % 32)) + (s9 / 32) := by unfold acZ; (repeat (first | rw [if_pos (by omega)] | rw [if_neg (by omega)]))
                      have hacr := acZ_r (V 0) (V 0 (32 + k9)) (V 0 (40 + k9)) (sp := s9) (by omega)
                      rw [hac] at hacr
                      refine lv_istore (lv' := [(8, .int (iI ((32 * (s9 % 32)) + (s9 / 32)))), (7, .int (iI i9)), (6, .int (iI g9)), (5, .int (iI ((V 0) (32 + k9)))), (4, .int (iI k9)), (3, .int (iI s9)), (0, .ref o), (1, .int (iI x)), (2, .int (iI y))]) hx hb dX4_ends_140 hl (by decide) rfl (fun ls hl => ?_)
                      refine lv_iload hx hb dX4_ends_142 (lv_at hl 0 rfl) ?_
                      refine g_bipush hx hb dX4_ends_144 (by decide) ?_
                      refine g_icmp_eq (tgt := 153) hx hb dX4_ends_146 (by decide) (by omega) (by omega) (fun cq9 => ?_) (fun cq9 => ?_)
                      · refine g_iconst hx hb dX4_ends_153 ?_
                        refine lv_istore (lv' := [(6, .int (iI 0)), (8, .int (iI ((32 * (s9 % 32)) + (s9 / 32)))), (7, .int (iI i9)), (5, .int (iI ((V 0) (32 + k9)))), (4, .int (iI k9)), (3, .int (iI s9)), (0, .ref o), (1, .int (iI x)), (2, .int (iI y))]) hx hb dX4_ends_154 hl (by decide) rfl (fun ls hl => ?_)
                        refine lv_iload hx hb dX4_ends_156 (lv_at hl 0 rfl) ?_
                        refine g_if_eq (tgt := 166) hx hb dX4_ends_158 (by decide) (by omega) (fun cq10 => ?_) (fun cq10 => absurd cq10 (by decide))
                        refine lv_iload_n hx hb dX4_ends_166 rfl (lv_at hl 5 rfl) ?_
                        refine lv_istore_n (lv' := [(3, .int (iI s9)), (6, .int (iI 0)), (8, .int (iI ((32 * (s9 % 32)) + (s9 / 32)))), (7, .int (iI i9)), (5, .int (iI ((V 0) (32 + k9)))), (4, .int (iI k9)), (0, .ref o), (1, .int (iI x)), (2, .int (iI y))]) hx hb dX4_ends_167 rfl hl (by decide) rfl (fun ls hl => ?_)
                        refine g_iinc (lv' := [(7, .int (iI (i9 + (-1)))), (3, .int (iI s9)), (6, .int (iI 0)), (8, .int (iI ((32 * (s9 % 32)) + (s9 / 32)))), (5, .int (iI ((V 0) (32 + k9)))), (4, .int (iI k9)), (0, .ref o), (1, .int (iI x)), (2, .int (iI y))]) hx hb dX4_ends_168 hl (k := 3) rfl (by decide) rfl (fun ls hl => ?_)
                        refine lv_goto (tgt := 69) hx hb dX4_ends_171 (by decide) ?_
                        exact ih_69 s9 0 (i9 + (-1)) (j - 1) (by omega) (by omega) (by omega) (by omega) (fun h => by omega) (fun _ => by rw [← hi69_3 (by omega)]; exact (unG_l (by rw [hac]; assumption)).symm) (by omega)  _ _ _ hG hS (lv_sub hl [0, 2, 4, 5, 1, 6, 7, 8] rfl)
                      · refine g_iconst hx hb dX4_ends_149 ?_
                        refine lv_goto (tgt := 154) hx hb dX4_ends_150 (by decide) ?_
                        refine lv_istore (lv' := [(6, .int (iI 1)), (8, .int (iI ((32 * (s9 % 32)) + (s9 / 32)))), (7, .int (iI i9)), (5, .int (iI ((V 0) (32 + k9)))), (4, .int (iI k9)), (3, .int (iI s9)), (0, .ref o), (1, .int (iI x)), (2, .int (iI y))]) hx hb dX4_ends_154 hl (by decide) rfl (fun ls hl => ?_)
                        refine lv_iload hx hb dX4_ends_156 (lv_at hl 0 rfl) ?_
                        refine g_if_eq (tgt := 166) hx hb dX4_ends_158 (by decide) (by omega) (fun cq11 => absurd cq11 (by decide)) (fun cq11 => ?_)
                        refine lv_iload hx hb dX4_ends_161 (lv_at hl 1 rfl) ?_
                        refine lv_goto (tgt := 167) hx hb dX4_ends_163 (by decide) ?_
                        refine lv_istore_n (lv' := [(3, .int (iI ((32 * (s9 % 32)) + (s9 / 32)))), (6, .int (iI 1)), (8, .int (iI ((32 * (s9 % 32)) + (s9 / 32)))), (7, .int (iI i9)), (5, .int (iI ((V 0) (32 + k9)))), (4, .int (iI k9)), (0, .ref o), (1, .int (iI x)), (2, .int (iI y))]) hx hb dX4_ends_167 rfl hl (by decide) rfl (fun ls hl => ?_)
                        refine g_iinc (lv' := [(7, .int (iI (i9 + (-1)))), (3, .int (iI ((32 * (s9 % 32)) + (s9 / 32)))), (6, .int (iI 1)), (8, .int (iI ((32 * (s9 % 32)) + (s9 / 32)))), (5, .int (iI ((V 0) (32 + k9)))), (4, .int (iI k9)), (0, .ref o), (1, .int (iI x)), (2, .int (iI y))]) hx hb dX4_ends_168 hl (k := 3) rfl (by decide) rfl (fun ls hl => ?_)
                        refine lv_goto (tgt := 69) hx hb dX4_ends_171 (by decide) ?_
                        exact ih_69 ((32 * (s9 % 32)) + (s9 / 32)) 1 (i9 + (-1)) (j - 1) (by omega) (by omega) (by omega) (by omega) (fun _ => by rw [← hi69_3 (by omega), ← hac]; exact unG_s (by rw [hac]; assumption) (by omega)) (fun h => by omega) (by omega)  _ _ _ hG hS (lv_sub hl [0, 2, 4, 5, 1, 6, 7, 8] rfl)
                    · refine lv_aload_n hx hb dX4_ends_110 rfl (lv_at hl 5 rfl) ?_
                      refine lv_iload_n hx hb dX4_ends_111 rfl (lv_at hl 4 rfl) ?_
                      refine lv_aload_n hx hb dX4_ends_112 rfl (lv_at hl 5 rfl) ?_
                      refine g_get (C := RX4) (T := TX4) (N := 30) (v := .ref (a 0)) hx hb hts hown hK hG hM.o rfl in_X4 0 (by decide) q1958 rfl rfl dX4_ends_113 ?_
                      refine g_bipush hx hb dX4_ends_116 (by decide) ?_
                      refine lv_iload hx hb dX4_ends_118 (lv_at hl 3 rfl) ?_
                      refine g_iadd hx hb dX4_ends_120 ?_
                      refine g_iald hx hb hK hG hM.a0 dX4_ends_121 (by omega) ?_
                      refine g_callV (As := [.int (iI s9), .int (iI ((V 0) (40 + k9)))]) (rest := []) 2 hx hb hml hown hts hK hG hS hl.1 (mX4_swapped l X σ o a V Iv hM hT s9 ((V 0) (40 + k9)) (by omega) (by omega)) hM.o rfl q2138 q2140 qs52 q86 q2141 (by decide +kernel) rfl ⟨Nat.le_of_ble_eq_true rfl, Nat.le_of_ble_eq_true rfl⟩ ⟨Nat.le_of_ble_eq_true rfl, Nat.le_of_ble_eq_true rfl⟩ (Nat.le_of_ble_eq_true rfl) dX4_ends_122 (kI (fun r12 σr12 H locs hp hG hS => ?_))
                      obtain ⟨⟨hr12, kr12⟩, rfl⟩ := hp
                      refine lv_goto (tgt := 140) hx hb dX4_ends_125 (by decide) ?_
                      have hac : acZ (V 0) (V 0 (32 + k9)) (V 0 (40 + k9)) s9 = r12 := by unfold acZ; (repeat (first | rw [if_pos (by omega)] | rw [if_neg (by omega)])); exact hr12.symm
                      have hacr := acZ_r (V 0) (V 0 (32 + k9)) (V 0 (40 + k9)) (sp := s9) (by omega)
                      rw [hac] at hacr
                      refine lv_istore (lv' := [(8, .int (iI r12)), (7, .int (iI i9)), (6, .int (iI g9)), (5, .int (iI ((V 0) (32 + k9)))), (4, .int (iI k9)), (3, .int (iI s9)), (0, .ref o), (1, .int (iI x)), (2, .int (iI y))]) hx hb dX4_ends_140 hl (by decide) rfl (fun ls hl => ?_)
                      refine lv_iload hx hb dX4_ends_142 (lv_at hl 0 rfl) ?_
                      refine g_bipush hx hb dX4_ends_144 (by decide) ?_
                      refine g_icmp_eq (tgt := 153) hx hb dX4_ends_146 (by decide) (by omega) (by omega) (fun cq13 => ?_) (fun cq13 => ?_)
                      · refine g_iconst hx hb dX4_ends_153 ?_
                        refine lv_istore (lv' := [(6, .int (iI 0)), (8, .int (iI r12)), (7, .int (iI i9)), (5, .int (iI ((V 0) (32 + k9)))), (4, .int (iI k9)), (3, .int (iI s9)), (0, .ref o), (1, .int (iI x)), (2, .int (iI y))]) hx hb dX4_ends_154 hl (by decide) rfl (fun ls hl => ?_)
                        refine lv_iload hx hb dX4_ends_156 (lv_at hl 0 rfl) ?_
                        refine g_if_eq (tgt := 166) hx hb dX4_ends_158 (by decide) (by omega) (fun cq14 => ?_) (fun cq14 => absurd cq14 (by decide))
                        refine lv_iload_n hx hb dX4_ends_166 rfl (lv_at hl 5 rfl) ?_
                        refine lv_istore_n (lv' := [(3, .int (iI s9)), (6, .int (iI 0)), (8, .int (iI r12)), (7, .int (iI i9)), (5, .int (iI ((V 0) (32 + k9)))), (4, .int (iI k9)), (0, .ref o), (1, .int (iI x)), (2, .int (iI y))]) hx hb dX4_ends_167 rfl hl (by decide) rfl (fun ls hl => ?_)
                        refine g_iinc (lv' := [(7, .int (iI (i9 + (-1)))), (3, .int (iI s9)), (6, .int (iI 0)), (8, .int (iI r12)), (5, .int (iI ((V 0) (32 + k9)))), (4, .int (iI k9)), (0, .ref o), (1, .int (iI x)), (2, .int (iI y))]) hx hb dX4_ends_168 hl (k := 3) rfl (by decide) rfl (fun ls hl => ?_)
                        refine lv_goto (tgt := 69) hx hb dX4_ends_171 (by decide) ?_
                        exact ih_69 s9 0 (i9 + (-1)) (j - 1) (by omega) (by omega) (by omega) (by omega) (fun h => by omega) (fun _ => by rw [← hi69_3 (by omega)]; exact (unG_l (by rw [hac]; assumption)).symm) (by omega)  _ _ _ hG hS (lv_sub hl [0, 2, 4, 5, 1, 6, 7, 8] rfl)
                      · refine g_iconst hx hb dX4_ends_149 ?_
                        refine lv_goto (tgt := 154) hx hb dX4_ends_150 (by decide) ?_
                        refine lv_istore (lv' := [(6, .int (iI 1)), (8, .int (iI r12)), (7, .int (iI i9)), (5, .int (iI ((V 0) (32 + k9)))), (4, .int (iI k9)), (3, .int (iI s9)), (0, .ref o), (1, .int (iI x)), (2, .int (iI y))]) hx hb dX4_ends_154 hl (by decide) rfl (fun ls hl => ?_)
                        refine lv_iload hx hb dX4_ends_156 (lv_at hl 0 rfl) ?_
                        refine g_if_eq (tgt := 166) hx hb dX4_ends_158 (by decide) (by omega) (fun cq15 => absurd cq15 (by decide)) (fun cq15 => ?_)
                        refine lv_iload hx hb dX4_ends_161 (lv_at hl 1 rfl) ?_
                        refine lv_goto (tgt := 167) hx hb dX4_ends_163 (by decide) ?_
                        refine lv_istore_n (lv' := [(3, .int (iI r12)), (6, .int (iI 1)), (8, .int (iI r12)), (7, .int (iI i9)), (5, .int (iI ((V 0) (32 + k9)))), (4, .int (iI k9)), (0, .ref o), (1, .int (iI x)), (2, .int (iI y))]) hx hb dX4_ends_167 rfl hl (by decide) rfl (fun ls hl => ?_)
                        refine g_iinc (lv' := [(7, .int (iI (i9 + (-1)))), (3, .int (iI r12)), (6, .int (iI 1)), (8, .int (iI r12)), (5, .int (iI ((V 0) (32 + k9)))), (4, .int (iI k9)), (0, .ref o), (1, .int (iI x)), (2, .int (iI y))]) hx hb dX4_ends_168 hl (k := 3) rfl (by decide) rfl (fun ls hl => ?_)
                        refine lv_goto (tgt := 69) hx hb dX4_ends_171 (by decide) ?_
                        exact ih_69 r12 1 (i9 + (-1)) (j - 1) (by omega) (by omega) (by omega) (by omega) (fun _ => by rw [← hi69_3 (by omega), ← hac]; exact unG_s (by rw [hac]; assumption) (by omega)) (fun h => by omega) (by omega)  _ _ _ hG hS (lv_sub hl [0, 2, 4, 5, 1, 6, 7, 8] rfl)
            exact loop_69 _ sp 1 1 1 (Nat.lt_succ_self _) (by omega) (by omega) (by omega) (fun _ => by unfold actZ; first | rw [if_pos (by omega)] | rw [if_neg (by omega)]) (fun h => by omega) (by omega)  _ _ _ hG hS (lv_sub hl [0, 1, 2, 3, 4, 5, 6, 7] rfl)
          · refine lv_aload_n hx hb dX4_ends_53 rfl (lv_at hl 4 rfl) ?_
            refine g_get (C := RX4) (T := TX4) (N := 30) (v := .ref (a 0)) hx hb hts hown hK hG hM.o rfl in_X4 0 (by decide) q1958 rfl rfl dX4_ends_54 ?_
            refine g_bipush hx hb dX4_ends_57 (by decide) ?_
            refine lv_iload hx hb dX4_ends_59 (lv_at hl 2 rfl) ?_
            refine g_iadd hx hb dX4_ends_61 ?_
            refine g_iald hx hb hK hG hM.a0 dX4_ends_62 (by omega) ?_
            refine lv_goto (tgt := 67) hx hb dX4_ends_63 (by decide) ?_
            refine lv_istore (lv' := [(7, .int (iI ((V 0) (40 + k9)))), (6, .int (iI 1)), (5, .int (iI ((V 0) (32 + k9)))), (4, .int (iI k9)), (3, .int (iI sp)), (0, .ref o), (1, .int (iI x)), (2, .int (iI y))]) hx hb dX4_ends_67 hl (by decide) rfl (fun ls hl => ?_)
            have loop_69 : ∀ (nF : Nat) (s9 : Int) (g9 : Int) (i9 : Int) (j : Nat), (j : Nat) < nF → (0 ≤ s9 ∧ s9 ≤ 1023) → (g9 = 0 ∨ g9 = 1) → (i9 = (j : Int)) → (g9 = 1 → unG (acZ (V 0) (V 0 (32 + k9)) (V 0 (40 + k9))) j s9 = actZ (V 0) (V 0 (32 + k9)) (V 0 (40 + k9)) sp) → (g9 = 0 → s9 = actZ (V 0) (V 0 (32 + k9)) (V 0 (40 + k9)) sp) → (j ≤ 9 ∧ (¬ V 0 (32 + k9) < 2 → j ≤ 1)) → ∀ (H : Heap) (locs : List Loc) (ls : Array Slot), gSat X σ H → va_S (gA X) ss.heap H locs → lv_has ls 9 [(7, .int (iI i9)), (6, .int (iI g9)), (5, .int (iI ((V 0) (32 + k9)))), (4, .int (iI k9)), (3, .int (iI s9)), (0, .ref o), (1, .int (iI x)), (2, .int (iI y))] → W pp l ee (gR 6 0 0 148) ss mm args below meth cd H locs 0 0 Q (F0 mm 69 ls []) := by
              intro nF
              induction nF with
              | zero => intro s9 g9 i9 j hm; exact absurd hm (Nat.not_lt_zero _)
              | succ nF ih_69 =>
                intro s9 g9 i9 j hm hi69_0 hi69_1 hi69_2 hi69_3 hi69_4 hi69_5 H locs ls hG hS hl
                refine lv_iload hx hb dX4_ends_69 (lv_at hl 0 rfl) ?_
                refine g_if_le (tgt := 174) hx hb dX4_ends_71 (by decide) (by omega) (fun cq16 => ?_) (fun cq16 => ?_)
                · have hE : actZ (V 0) (V 0 (32 + k9)) (V 0 (40 + k9)) sp = s9 := by rcases hi69_1 with hg | hg; exact (hi69_4 hg).symm; rw [← hi69_3 hg]; exact unG_0 (by omega)
                  refine g_iinc (lv' := [(4, .int (iI (k9 + 1))), (7, .int (iI i9)), (6, .int (iI g9)), (5, .int (iI ((V 0) (32 + k9)))), (3, .int (iI s9)), (0, .ref o), (1, .int (iI x)), (2, .int (iI y))]) hx hb dX4_ends_174 hl (k := 3) rfl (by decide) rfl (fun ls hl => ?_)
                  refine lv_goto (tgt := 20) hx hb dX4_ends_177 (by decide) ?_
                  exact ih_20 s9 (k9 + 1) (f - 1) (by omega) (by omega) (by omega) (by rw [← hi20_2, ← endA_s (show 0 < f by omega)]; show _ = endA _ _ _ _ _ (actZ (V 0) (V 0 (32 + k9)) (V 0 (40 + k9)) sp); rw [hE])  _ _ _ hG hS (lv_sub hl [0, 4, 5, 6, 7] rfl)
                · refine lv_iload hx hb dX4_ends_74 (lv_at hl 1 rfl) ?_
                  refine g_if_eq (tgt := 174) hx hb dX4_ends_76 (by decide) (by omega) (fun cq17 => ?_) (fun cq17 => ?_)
                  · have hE : actZ (V 0) (V 0 (32 + k9)) (V 0 (40 + k9)) sp = s9 := by rcases hi69_1 with hg | hg; exact (hi69_4 hg).symm; rw [← hi69_3 hg]; exact unG_0 (by omega)
                    refine g_iinc (lv' := [(4, .int (iI (k9 + 1))), (7, .int (iI i9)), (6, .int (iI g9)), (5, .int (iI ((V 0) (32 + k9)))), (3, .int (iI s9)), (0, .ref o), (1, .int (iI x)), (2, .int (iI y))]) hx hb dX4_ends_174 hl (k := 3) rfl (by decide) rfl (fun ls hl => ?_)
                    refine lv_goto (tgt := 20) hx hb dX4_ends_177 (by decide) ?_
                    exact ih_20 s9 (k9 + 1) (f - 1) (by omega) (by omega) (by omega) (by rw [← hi20_2, ← endA_s (show 0 < f by omega)]; show _ = endA _ _ _ _ _ (actZ (V 0) (V 0 (32 + k9)) (V 0 (40 + k9)) sp); rw [hE])  _ _ _ hG hS (lv_sub hl [0, 4, 5, 6, 7] rfl)
                  · refine lv_iload hx hb dX4_ends_79 (lv_at hl 2 rfl) ?_
                    refine g_iconst hx hb dX4_ends_81 ?_
                    refine g_icmp_ge (tgt := 104) hx hb dX4_ends_82 (by decide) (by omega) (by omega) (fun cq18 => by omega) (fun cq18 => ?_)
                    refine lv_aload_n hx hb dX4_ends_85 rfl (lv_at hl 5 rfl) ?_
                    refine lv_iload_n hx hb dX4_ends_86 rfl (lv_at hl 4 rfl) ?_
                    refine lv_iload hx hb dX4_ends_87 (lv_at hl 2 rfl) ?_
                    refine g_iconst hx hb dX4_ends_89 ?_
                    refine g_icmp_ne (tgt := 97) hx hb dX4_ends_90 (by decide) (by omega) (by omega) (fun cq19 => ?_) (fun cq19 => ?_)
                    · refine g_iconst hx hb dX4_ends_97 ?_
                      refine g_callV (As := [.int (iI s9), .int (iI 0)]) (rest := []) 2 hx hb hml hown hts hK hG hS hl.1 (mX4_step l X σ o a V Iv hM hT s9 0 (by omega) (by omega)) hM.o rfl q2134 q2136 qs51 q86 q2137 (by decide +kernel) rfl ⟨Nat.le_of_ble_eq_true rfl, Nat.le_of_ble_eq_true rfl⟩ ⟨Nat.le_of_ble_eq_true rfl, Nat.le_of_ble_eq_true rfl⟩ (Nat.le_of_ble_eq_true rfl) dX4_ends_98 (kI (fun r20 σr20 H locs hp hG hS => ?_))
                      obtain ⟨⟨hr20, kr20⟩, rfl⟩ := hp
                      refine lv_goto (tgt := 140) hx hb dX4_ends_101 (by decide) ?_
                      have hac : acZ (V 0) (V 0 (32 + k9)) (V 0 (40 + k9)) s9 = r20 := by unfold acZ; (repeat (first | rw [if_pos (by omega)] | rw [if_neg (by omega)])); exact hr20.symm
                      have hacr := acZ_r (V 0) (V 0 (32 + k9)) (V 0 (40 + k9)) (sp := s9) (by omega)
                      rw [hac] at hacr
                      refine lv_istore (lv' := [(8, .int (iI r20)), (7, .int (iI i9)), (6, .int (iI g9)), (5, .int (iI ((V 0) (32 + k9)))), (4, .int (iI k9)), (3, .int (iI s9)), (0, .ref o), (1, .int (iI x)), (2, .int (iI y))]) hx hb dX4_ends_140 hl (by decide) rfl (fun ls hl => ?_)
                      refine lv_iload hx hb dX4_ends_142 (lv_at hl 0 rfl) ?_
                      refine g_bipush hx hb dX4_ends_144 (by decide) ?_
                      refine g_icmp_eq (tgt := 153) hx hb dX4_ends_146 (by decide) (by omega) (by omega) (fun cq21 => ?_) (fun cq21 => ?_)
                      · refine g_iconst hx hb dX4_ends_153 ?_
                        refine lv_istore (lv' := [(6, .int (iI 0)), (8, .int (iI r20)), (7, .int (iI i9)), (5, .int (iI ((V 0) (32 + k9)))), (4, .int (iI k9)), (3, .int (iI s9)), (0, .ref o), (1, .int (iI x)), (2, .int (iI y))]) hx hb dX4_ends_154 hl (by decide) rfl (fun ls hl => ?_)
                        refine lv_iload hx hb dX4_ends_156 (lv_at hl 0 rfl) ?_
                        refine g_if_eq (tgt := 166) hx hb dX4_ends_158 (by decide) (by omega) (fun cq22 => ?_) (fun cq22 => absurd cq22 (by decide))
                        refine lv_iload_n hx hb dX4_ends_166 rfl (lv_at hl 5 rfl) ?_
                        refine lv_istore_n (lv' := [(3, .int (iI s9)), (6, .int (iI 0)), (8, .int (iI r20)), (7, .int (iI i9)), (5, .int (iI ((V 0) (32 + k9)))), (4, .int (iI k9)), (0, .ref o), (1, .int (iI x)), (2, .int (iI y))]) hx hb dX4_ends_167 rfl hl (by decide) rfl (fun ls hl => ?_)
                        refine g_iinc (lv' := [(7, .int (iI (i9 + (-1)))), (3, .int (iI s9)), (6, .int (iI 0)), (8, .int (iI r20)), (5, .int (iI ((V 0) (32 + k9)))), (4, .int (iI k9)), (0, .ref o), (1, .int (iI x)), (2, .int (iI y))]) hx hb dX4_ends_168 hl (k := 3) rfl (by decide) rfl (fun ls hl => ?_)
                        refine lv_goto (tgt := 69) hx hb dX4_ends_171 (by decide) ?_
                        exact ih_69 s9 0 (i9 + (-1)) (j - 1) (by omega) (by omega) (by omega) (by omega) (fun h => by omega) (fun _ => by rw [← hi69_3 (by omega)]; exact (unG_l (by rw [hac]; assumption)).symm) (by omega)  _ _ _ hG hS (lv_sub hl [0, 2, 4, 5, 1, 6, 7, 8] rfl)
                      · refine g_iconst hx hb dX4_ends_149 ?_
                        refine lv_goto (tgt := 154) hx hb dX4_ends_150 (by decide) ?_
                        refine lv_istore (lv' := [(6, .int (iI 1)), (8, .int (iI r20)), (7, .int (iI i9)), (5, .int (iI ((V 0) (32 + k9)))), (4, .int (iI k9)), (3, .int (iI s9)), (0, .ref o), (1, .int (iI x)), (2, .int (iI y))]) hx hb dX4_ends_154 hl (by decide) rfl (fun ls hl => ?_)
                        refine lv_iload hx hb dX4_ends_156 (lv_at hl 0 rfl) ?_
                        refine g_if_eq (tgt := 166) hx hb dX4_ends_158 (by decide) (by omega) (fun cq23 => absurd cq23 (by decide)) (fun cq23 => ?_)
                        refine lv_iload hx hb dX4_ends_161 (lv_at hl 1 rfl) ?_
                        refine lv_goto (tgt := 167) hx hb dX4_ends_163 (by decide) ?_
                        refine lv_istore_n (lv' := [(3, .int (iI r20)), (6, .int (iI 1)), (8, .int (iI r20)), (7, .int (iI i9)), (5, .int (iI ((V 0) (32 + k9)))), (4, .int (iI k9)), (0, .ref o), (1, .int (iI x)), (2, .int (iI y))]) hx hb dX4_ends_167 rfl hl (by decide) rfl (fun ls hl => ?_)
                        refine g_iinc (lv' := [(7, .int (iI (i9 + (-1)))), (3, .int (iI r20)), (6, .int (iI 1)), (8, .int (iI r20)), (5, .int (iI ((V 0) (32 + k9)))), (4, .int (iI k9)), (0, .ref o), (1, .int (iI x)), (2, .int (iI y))]) hx hb dX4_ends_168 hl (k := 3) rfl (by decide) rfl (fun ls hl => ?_)
                        refine lv_goto (tgt := 69) hx hb dX4_ends_171 (by decide) ?_
                        exact ih_69 r20 1 (i9 + (-1)) (j - 1) (by omega) (by omega) (by omega) (by omega) (fun _ => by rw [← hi69_3 (by omega), ← hac]; exact unG_s (by rw [hac]; assumption) (by omega)) (fun h => by omega) (by omega)  _ _ _ hG hS (lv_sub hl [0, 2, 4, 5, 1, 6, 7, 8] rfl)
                    · refine g_iconst hx hb dX4_ends_93 ?_
                      refine lv_goto (tgt := 98) hx hb dX4_ends_94 (by decide) ?_
                      refine g_callV (As := [.int (iI s9), .int (iI 1)]) (rest := []) 2 hx hb hml hown hts hK hG hS hl.1 (mX4_step l X σ o a V Iv hM hT s9 1 (by omega) (by omega)) hM.o rfl q2134 q2136 qs51 q86 q2137 (by decide +kernel) rfl ⟨Nat.le_of_ble_eq_true rfl, Nat.le_of_ble_eq_true rfl⟩ ⟨Nat.le_of_ble_eq_true rfl, Nat.le_of_ble_eq_true rfl⟩ (Nat.le_of_ble_eq_true rfl) dX4_ends_98 (kI (fun r24 σr24 H locs hp hG hS => ?_))
                      obtain ⟨⟨hr24, kr24⟩, rfl⟩ := hp
                      refine lv_goto (tgt := 140) hx hb dX4_ends_101 (by decide) ?_
                      have hac : acZ (V 0) (V 0 (32 + k9)) (V 0 (40 + k9)) s9 = r24 := by unfold acZ; (repeat (first | rw [if_pos (by omega)] | rw [if_neg (by omega)])); exact hr24.symm
                      have hacr := acZ_r (V 0) (V 0 (32 + k9)) (V 0 (40 + k9)) (sp := s9) (by omega)
                      rw [hac] at hacr
                      refine lv_istore (lv' := [(8, .int (iI r24)), (7, .int (iI i9)), (6, .int (iI g9)), (5, .int (iI ((V 0) (32 + k9)))), (4, .int (iI k9)), (3, .int (iI s9)), (0, .ref o), (1, .int (iI x)), (2, .int (iI y))]) hx hb dX4_ends_140 hl (by decide) rfl (fun ls hl => ?_)
                      refine lv_iload hx hb dX4_ends_142 (lv_at hl 0 rfl) ?_
                      refine g_bipush hx hb dX4_ends_144 (by decide) ?_
                      refine g_icmp_eq (tgt := 153) hx hb dX4_ends_146 (by decide) (by omega) (by omega) (fun cq25 => ?_) (fun cq25 => ?_)
                      · refine g_iconst hx hb dX4_ends_153 ?_
                        refine lv_istore (lv' := [(6, .int (iI 0)), (8, .int (iI r24)), (7, .int (iI i9)), (5, .int (iI ((V 0) (32 + k9)))), (4, .int (iI k9)), (3, .int (iI s9)), (0, .ref o), (1, .int (iI x)), (2, .int (iI y))]) hx hb dX4_ends_154 hl (by decide) rfl (fun ls hl => ?_)
                        refine lv_iload hx hb dX4_ends_156 (lv_at hl 0 rfl) ?_
                        refine g_if_eq (tgt := 166) hx hb dX4_ends_158 (by decide) (by omega) (fun cq26 => ?_) (fun cq26 => absurd cq26 (by decide))
                        refine lv_iload_n hx hb dX4_ends_166 rfl (lv_at hl 5 rfl) ?_
                        refine lv_istore_n (lv' := [(3, .int (iI s9)), (6, .int (iI 0)), (8, .int (iI r24)), (7, .int (iI i9)), (5, .int (iI ((V 0) (32 + k9)))), (4, .int (iI k9)), (0, .ref o), (1, .int (iI x)), (2, .int (iI y))]) hx hb dX4_ends_167 rfl hl (by decide) rfl (fun ls hl => ?_)
                        refine g_iinc (lv' := [(7, .int (iI (i9 + (-1)))), (3, .int (iI s9)), (6, .int (iI 0)), (8, .int (iI r24)), (5, .int (iI ((V 0) (32 + k9)))), (4, .int (iI k9)), (0, .ref o), (1, .int (iI x)), (2, .int (iI y))]) hx hb dX4_ends_168 hl (k := 3) rfl (by decide) rfl (fun ls hl => ?_)
                        refine lv_goto (tgt := 69) hx hb dX4_ends_171 (by decide) ?_
                        exact ih_69 s9 0 (i9 + (-1)) (j - 1) (by omega) (by omega) (by omega) (by omega) (fun h => by omega) (fun _ => by rw [← hi69_3 (by omega)]; exact (unG_l (by rw [hac]; assumption)).symm) (by omega)  _ _ _ hG hS (lv_sub hl [0, 2, 4, 5, 1, 6, 7, 8] rfl)
                      · refine g_iconst hx hb dX4_ends_149 ?_
                        refine lv_goto (tgt := 154) hx hb dX4_ends_150 (by decide) ?_
                        refine lv_istore (lv' := [(6, .int (iI 1)), (8, .int (iI r24)), (7, .int (iI i9)), (5, .int (iI ((V 0) (32 + k9)))), (4, .int (iI k9)), (3, .int (iI s9)), (0, .ref o), (1, .int (iI x)), (2, .int (iI y))]) hx hb dX4_ends_154 hl (by decide) rfl (fun ls hl => ?_)
                        refine lv_iload hx hb dX4_ends_156 (lv_at hl 0 rfl) ?_
                        refine g_if_eq (tgt := 166) hx hb dX4_ends_158 (by decide) (by omega) (fun cq27 => absurd cq27 (by decide)) (fun cq27 => ?_)
                        refine lv_iload hx hb dX4_ends_161 (lv_at hl 1 rfl) ?_
                        refine lv_goto (tgt := 167) hx hb dX4_ends_163 (by decide) ?_
                        refine lv_istore_n (lv' := [(3, .int (iI r24)), (6, .int (iI 1)), (8, .int (iI r24)), (7, .int (iI i9)), (5, .int (iI ((V 0) (32 + k9)))), (4, .int (iI k9)), (0, .ref o), (1, .int (iI x)), (2, .int (iI y))]) hx hb dX4_ends_167 rfl hl (by decide) rfl (fun ls hl => ?_)
                        refine g_iinc (lv' := [(7, .int (iI (i9 + (-1)))), (3, .int (iI r24)), (6, .int (iI 1)), (8, .int (iI r24)), (5, .int (iI ((V 0) (32 + k9)))), (4, .int (iI k9)), (0, .ref o), (1, .int (iI x)), (2, .int (iI y))]) hx hb dX4_ends_168 hl (k := 3) rfl (by decide) rfl (fun ls hl => ?_)
                        refine lv_goto (tgt := 69) hx hb dX4_ends_171 (by decide) ?_
                        exact ih_69 r24 1 (i9 + (-1)) (j - 1) (by omega) (by omega) (by omega) (by omega) (fun _ => by rw [← hi69_3 (by omega), ← hac]; exact unG_s (by rw [hac]; assumption) (by omega)) (fun h => by omega) (by omega)  _ _ _ hG hS (lv_sub hl [0, 2, 4, 5, 1, 6, 7, 8] rfl)
            exact loop_69 _ sp 1 ((V 0) (40 + k9)) (((V 0) (40 + k9)).toNat) (Nat.lt_succ_self _) (by omega) (by omega) (by omega) (fun _ => by unfold actZ; first | rw [if_pos (by omega)] | rw [if_neg (by omega)]) (fun h => by omega) (by omega)  _ _ _ hG hS (lv_sub hl [0, 1, 2, 3, 4, 5, 6, 7] rfl)
    exact loop_20 _ ((32 * x) + y) 0 ((V 0 31).toNat) (Nat.lt_succ_self _) (by omega) (by omega) (rfl)  _ _ _ hG hS (lv_sub hl [0, 1, 2, 3, 4] rfl)
  · refine g_iconst hx hb dX4_ends_8 ?_
    exact g_iret hx hb hr hlocks hQ hG hS (Nat.zero_le _) (Nat.zero_le _) ⟨_, rfl, (by rw [if_neg (by omega)]), rfl⟩ dX4_ends_9
