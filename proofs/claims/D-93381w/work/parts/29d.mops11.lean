set_option maxHeartbeats 8000000 in
theorem mX4_write (l : Launch) (X : gX) (σ : gS) (o : Nat) (a : Nat → Nat) (V : Nat → Int → Int) (Iv : Nat → Int) (hM : MW X σ o a V Iv) (hT : okT (V 0)) (t : Int)  (h0 : -2147483648 ≤ t ∧ t ≤ 2147483647) : gMet l X yX4_write cX4_write 4 (some .int) 1 0 0 25 σ [.ref o, .int (iI t)] (oI (fun r σ' => ∃ (V' : Nat → Int → Int) (I' : Nat → Int), MW X σ' o a V' I' ∧ gKeep (fun t => t = 10) σ σ' ∧ (r = (if 0 ≤ t ∧ t ≤ 1 then ((wrA (V 0) t 9).length : Int) else -1) ∧ ((0 ≤ t ∧ t ≤ 1) ∧ lisP (wrA (V 0) t 9) (V' 26) (I' 27) ∧ (∀ q, q ≠ 26 → V' q = V q) ∧ (∀ j, j ≠ 27 → I' j = Iv j) ∨ ¬ (0 ≤ t ∧ t ≤ 1) ∧ V' = V ∧ I' = Iv)))) := by
  refine gMet.of (by decide) (Nat.le_of_ble_eq_true rfl) ?_
  intro pp ee ss mm args below meth cd Q H locs ls hargs hx hb hr hlocks hml hown hnm hts hK hG hS hQ hl
  have hown : ss.vm.findClass RX4 = some mm.cls := hown
  have hl : lv_has ls 4 [(0, .ref o), (1, .int (iI t))] := hl
  have hkp : gKeep (fun t => t = 10) σ σ := gKeep.rf
  refine lv_iload_n hx hb dX4_write_0 rfl (lv_at hl 1 rfl) ?_
  refine g_i2l hx hb dX4_write_1 (by omega) ?_
  refine lv_lconst (v := lI 0) hx hb dX4_write_2 (by decide) ?_
  refine lv_lconst (v := lI 1) hx hb dX4_write_3 (by decide) ?_
  refine g_callS (As := [.long (lI t), .long (lI 0), .long (lI 1)]) (rest := []) 3 hx hb hml hown hts hK hG hS hl.1 (mX4_in l X σ  t 0 1 (by omega) (by omega) (by omega)) q2056 q2057 q86 q2058 (by decide +kernel) rfl ⟨Nat.le_of_ble_eq_true rfl, Nat.le_of_ble_eq_true rfl⟩ ⟨Nat.le_of_ble_eq_true rfl, Nat.le_of_ble_eq_true rfl⟩ (Nat.le_of_ble_eq_true rfl) dX4_write_4 (kI (fun r1 σr1 H locs hp hG hS => ?_))
  obtain ⟨hr1, rfl⟩ := hp
  refine g_if_ne (tgt := 12) hx hb dX4_write_7 (by decide) (by omega) (fun cq2 => ?_) (fun cq2 => ?_)
  · refine lv_aload_n hx hb dX4_write_12 rfl (lv_at hl 0 rfl) ?_
    refine g_iconst hx hb dX4_write_13 ?_
    refine g_put (C := RX4) (T := TX4) (N := 30) (ty0 := tyX4) (v := .int (iI 0)) hx hb hts hown hK hG hS hM.o rfl in_X4 tyX4_ok nmX4 27 (by decide) q1985 rfl (by decide) rfl rfl (Nat.le_of_ble_eq_true rfl) dX4_write_14 (fun H locs hG hS => ?_)
    obtain ⟨I3, eI3⟩ : ∃ J : Nat → Int, J = va_up Iv 27 0 := ⟨_, rfl⟩
    have i27_3 : I3 27 = 0 := by rw [eI3, va_up_self]
    have fI3 : ∀ j, j ≠ 27 → I3 j = Iv j := fun j hj => by rw [eI3, va_up_ne _ _ hj]
    have hM3 : MW X (gup σ o (10, gO 4 ((mfs a Iv).set 27 (.int (iI 0))))) o a V I3 := by rw [eI3]; exact hM.num (mfs_27 a Iv _)
    have hkp3 : gKeep (fun t => t = 10) σ (gup σ o (10, gO 4 ((mfs a Iv).set 27 (.int (iI 0))))) := hkp.tr (gKeep.up hM.o rfl)
    generalize (gup σ o (10, gO 4 ((mfs a Iv).set 27 (.int (iI 0))))) = σ3 at hG hM3 hkp3
    refine g_bipush hx hb dX4_write_17 (by decide) ?_
    refine lv_istore_n (lv' := [(2, .int (iI 8)), (0, .ref o), (1, .int (iI t))]) hx hb dX4_write_19 rfl hl (by decide) rfl (fun ls hl => ?_)
    have loop_20 : ∀ (nF : Nat) (σL : gS) (VL : Nat → Int → Int) (IL : Nat → Int) (k9 : Int), ((k9 + 1).toNat : Nat) < nF → (MW X σL o a VL IL) → (gKeep (fun t => t = 10) σ σL) → (-1 ≤ k9 ∧ k9 ≤ 8) → (∀ q, q ≠ 26 → VL q = V q) → (∀ j, j ≠ 27 → IL j = Iv j) → (lisP (wrA (V 0) t (8 - k9).toNat) (VL 26) (IL 27)) → ∀ (H : Heap) (locs : List Loc) (ls : Array Slot), gSat X σL H → va_S (gA X) ss.heap H locs → lv_has ls 4 [(2, .int (iI k9)), (0, .ref o), (1, .int (iI t))] → W pp l ee (gR 1 0 0 25) ss mm args below meth cd H locs 0 0 Q (F0 mm 20 ls []) := by
      intro nF
      induction nF with
      | zero => intro σL VL IL k9 hm; exact absurd hm (Nat.not_lt_zero _)
      | succ nF ih_20 =>
        intro σL VL IL k9 hm hML hkL hi20_2 hA hI hLL H locs ls hG hS hl
        have hlen := wrA_len (V 0) t (8 - k9).toNat (by omega)
        have hl1 := hLL.1
        refine lv_iload_n hx hb dX4_write_20 rfl (lv_at hl 0 rfl) ?_
        refine g_if_lt (tgt := 116) hx hb dX4_write_21 (by decide) (by omega) (fun cq4 => ?_) (fun cq4 => ?_)
        · refine lv_aload_n hx hb dX4_write_116 rfl (lv_at hl 1 rfl) ?_
          refine g_get (C := RX4) (T := TX4) (N := 30) (v := .int (iI (IL 27))) hx hb hts hown hK hG hML.o rfl in_X4 27 (by decide) q1985 rfl rfl dX4_write_117 ?_
          exact g_iret hx hb hr hlocks hQ hG hS (Nat.zero_le _) (Nat.zero_le _) ⟨_, rfl, VL, IL, hML, hkL, (⟨by rw [if_pos (by omega), show 9 = (8 - k9).toNat by omega]; exact hLL.1, Or.inl ⟨by omega, by rw [show 9 = (8 - k9).toNat by omega]; exact hLL, hA, hI⟩⟩)⟩ dX4_write_120
        · refine lv_aload_n hx hb dX4_write_24 rfl (lv_at hl 1 rfl) ?_
          refine g_get (C := RX4) (T := TX4) (N := 30) (v := .ref (a 0)) hx hb hts hown hK hG hML.o rfl in_X4 0 (by decide) q1958 rfl rfl dX4_write_25 ?_
          refine g_bipush hx hb dX4_write_28 (by decide) ?_
          refine lv_iload_n hx hb dX4_write_30 rfl (lv_at hl 2 rfl) ?_
          refine g_imul hx hb dX4_write_31 ?_
          refine lv_iload_n hx hb dX4_write_32 rfl (lv_at hl 0 rfl) ?_
          refine g_iadd hx hb dX4_write_33 ?_
          refine g_iald hx hb hK hG hML.a0 dX4_write_34 (by omega) ?_
          refine g_rw (b := (V 0 ((9 * t) + k9))) (by rw [hA 0 (by decide)]) ?_
          refine g_name (fun v9 ev9 => ?_)
          have hv9 : 0 ≤ v9 ∧ v9 ≤ 30 := by rw [ev9]; exact hT _ (by omega) (by omega)
          refine lv_istore_n (lv' := [(3, .int (iI v9)), (2, .int (iI k9)), (0, .ref o), (1, .int (iI t))]) hx hb dX4_write_35 rfl hl (by decide) rfl (fun ls hl => ?_)
          refine lv_iload_n hx hb dX4_write_36 rfl (lv_at hl 0 rfl) ?_
          refine g_if_le (tgt := 110) hx hb dX4_write_37 (by decide) (by omega) (fun cq5 => ?_) (fun cq5 => ?_)
          · refine g_iinc (lv' := [(2, .int (iI (k9 + (-1)))), (3, .int (iI v9)), (0, .ref o), (1, .int (iI t))]) hx hb dX4_write_110 hl (k := 1) rfl (by decide) rfl (fun ls hl => ?_)
            refine lv_goto (tgt := 20) hx hb dX4_write_113 (by decide) ?_
            exact ih_20 σL VL IL (k9 + (-1)) (by omega) (hML) (hkL) (by omega) (hA) (hI) (by rw [show (8 - (k9 + -1)).toNat = (8 - k9).toNat + 1 by omega, wrA, show 8 - (((8 - k9).toNat : Nat) : Int) = k9 by omega, ← ev9, if_neg (by omega)]; exact hLL)  _ _ _ hG hS (lv_sub hl [0, 2, 3] rfl)
          · refine lv_aload_n hx hb dX4_write_40 rfl (lv_at hl 2 rfl) ?_
            refine g_bipush hx hb dX4_write_41 (by decide) ?_
            refine lv_aload_n hx hb dX4_write_43 rfl (lv_at hl 2 rfl) ?_
            refine g_get (C := RX4) (T := TX4) (N := 30) (v := .int (iI (IL 27))) hx hb hts hown hK hG hML.o rfl in_X4 27 (by decide) q1985 rfl rfl dX4_write_44 ?_
            refine g_if_le (tgt := 54) hx hb dX4_write_47 (by decide) (by omega) (fun cq6 => ?_) (fun cq6 => ?_)
            · refine g_iconst hx hb dX4_write_54 ?_
              refine g_callV (As := [.int (iI 43), .int (iI 0)]) (rest := []) 2 hx hb hml hown hts hK hG hS hl.1 (mX4_writes l X σL o a VL IL (wrA (V 0) t (8 - k9).toNat) hML hLL 43 0 (by omega) (by omega) (by omega)) hML.o rfl q2305 q2307 qs67 q86 q2308 (by decide +kernel) rfl ⟨Nat.le_of_ble_eq_true rfl, Nat.le_of_ble_eq_true rfl⟩ ⟨Nat.le_of_ble_eq_true rfl, Nat.le_of_ble_eq_true rfl⟩ (Nat.le_of_ble_eq_true rfl) dX4_write_55 (kV (fun σr7 H locs hp hG hS => ?_))
              obtain ⟨V7, I7, hM7, kp7, hrel7⟩ := hp
              have hkp7 := hkL.tr kp7
              have hlen7 : ((((wrA (V 0) t (8 - k9).toNat) ++ List.replicate (0 : Int).toNat (43)).length : Nat) : Int) = ((wrA (V 0) t (8 - k9).toNat).length : Int) + 0 := by rw [List.length_append, List.length_replicate]; omega
              have hA7 : ∀ q, q ≠ 26 → V7 q = V q := fun q h => (hrel7.2.1 q h).trans (hA q h)
              have hI7 : ∀ j, j ≠ 27 → I7 j = Iv j := fun j h => (hrel7.2.2 j h).trans (hI j h)
              refine lv_aload_n hx hb dX4_write_58 rfl (lv_at hl 2 rfl) ?_
              refine g_bipush hx hb dX4_write_59 (by decide) ?_
              refine lv_iload_n hx hb dX4_write_61 rfl (lv_at hl 0 rfl) ?_
              refine g_bipush hx hb dX4_write_62 (by decide) ?_
              refine g_idiv hx hb dX4_write_64 (by omega) (by omega) ?_
              refine g_iadd hx hb dX4_write_65 ?_
              refine lv_iload_n hx hb dX4_write_66 rfl (lv_at hl 0 rfl) ?_
              refine g_bipush hx hb dX4_write_67 (by decide) ?_
              refine g_icmp_le (tgt := 76) hx hb dX4_write_69 (by decide) (by omega) (by omega) (fun cq8 => ?_) (fun cq8 => ?_)
              · refine g_iconst hx hb dX4_write_76 ?_
                refine g_callV (As := [.int (iI (48 + (v9 / 10))), .int (iI 0)]) (rest := []) 2 hx hb hml hown hts hK hG hS hl.1 (mX4_writes l X σr7 o a V7 I7 ((wrA (V 0) t (8 - k9).toNat) ++ List.replicate (0 : Int).toNat (43)) hM7 hrel7.1 (48 + (v9 / 10)) 0 (by omega) (by omega) (by omega)) hM7.o rfl q2305 q2307 qs67 q86 q2308 (by decide +kernel) rfl ⟨Nat.le_of_ble_eq_true rfl, Nat.le_of_ble_eq_true rfl⟩ ⟨Nat.le_of_ble_eq_true rfl, Nat.le_of_ble_eq_true rfl⟩ (Nat.le_of_ble_eq_true rfl) dX4_write_77 (kV (fun σr9 H locs hp hG hS => ?_))
                obtain ⟨V9, I9, hM9, kp9, hrel9⟩ := hp
                have hkp9 := hkp7.tr kp9
                have hlen9 : (((((wrA (V 0) t (8 - k9).toNat) ++ List.replicate (0 : Int).toNat (43)) ++ List.replicate (0 : Int).toNat ((48 + (v9 / 10)))).length : Nat) : Int) = (((wrA (V 0) t (8 - k9).toNat) ++ List.replicate (0 : Int).toNat (43)).length : Int) + 0 := by rw [List.length_append, List.length_replicate]; omega
                have hA9 : ∀ q, q ≠ 26 → V9 q = V q := fun q h => (hrel9.2.1 q h).trans (hA7 q h)
                have hI9 : ∀ j, j ≠ 27 → I9 j = Iv j := fun j h => (hrel9.2.2 j h).trans (hI7 j h)
                refine lv_aload_n hx hb dX4_write_80 rfl (lv_at hl 2 rfl) ?_
                refine g_bipush hx hb dX4_write_81 (by decide) ?_
                refine lv_iload_n hx hb dX4_write_83 rfl (lv_at hl 0 rfl) ?_
                refine g_bipush hx hb dX4_write_84 (by decide) ?_
                refine g_irem hx hb dX4_write_86 (by omega) (by omega) ?_
                refine g_iadd hx hb dX4_write_87 ?_
                refine g_iconst hx hb dX4_write_88 ?_
                refine g_callV (As := [.int (iI (48 + (v9 % 10))), .int (iI 1)]) (rest := []) 2 hx hb hml hown hts hK hG hS hl.1 (mX4_writes l X σr9 o a V9 I9 (((wrA (V 0) t (8 - k9).toNat) ++ List.replicate (0 : Int).toNat (43)) ++ List.replicate (0 : Int).toNat ((48 + (v9 / 10)))) hM9 hrel9.1 (48 + (v9 % 10)) 1 (by omega) (by omega) (by omega)) hM9.o rfl q2305 q2307 qs67 q86 q2308 (by decide +kernel) rfl ⟨Nat.le_of_ble_eq_true rfl, Nat.le_of_ble_eq_true rfl⟩ ⟨Nat.le_of_ble_eq_true rfl, Nat.le_of_ble_eq_true rfl⟩ (Nat.le_of_ble_eq_true rfl) dX4_write_89 (kV (fun σr10 H locs hp hG hS => ?_))
                obtain ⟨V10, I10, hM10, kp10, hrel10⟩ := hp
                have hkp10 := hkp9.tr kp10
                have hlen10 : ((((((wrA (V 0) t (8 - k9).toNat) ++ List.replicate (0 : Int).toNat (43)) ++ List.replicate (0 : Int).toNat ((48 + (v9 / 10)))) ++ List.replicate (1 : Int).toNat ((48 + (v9 % 10)))).length : Nat) : Int) = ((((wrA (V 0) t (8 - k9).toNat) ++ List.replicate (0 : Int).toNat (43)) ++ List.replicate (0 : Int).toNat ((48 + (v9 / 10)))).length : Int) + 1 := by rw [List.length_append, List.length_replicate]; omega
                have hA10 : ∀ q, q ≠ 26 → V10 q = V q := fun q h => (hrel10.2.1 q h).trans (hA9 q h)
                have hI10 : ∀ j, j ≠ 27 → I10 j = Iv j := fun j h => (hrel10.2.2 j h).trans (hI9 j h)
                refine lv_aload_n hx hb dX4_write_92 rfl (lv_at hl 2 rfl) ?_
                refine g_bipush hx hb dX4_write_93 (by decide) ?_
                refine lv_iload_n hx hb dX4_write_95 rfl (lv_at hl 1 rfl) ?_
                refine g_iconst hx hb dX4_write_96 ?_
                refine g_idiv hx hb dX4_write_97 (by omega) (by omega) ?_
                refine g_callV (As := [.int (iI 120), .int (iI (k9 / 3))]) (rest := []) 2 hx hb hml hown hts hK hG hS hl.1 (mX4_writes l X σr10 o a V10 I10 ((((wrA (V 0) t (8 - k9).toNat) ++ List.replicate (0 : Int).toNat (43)) ++ List.replicate (0 : Int).toNat ((48 + (v9 / 10)))) ++ List.replicate (1 : Int).toNat ((48 + (v9 % 10)))) hM10 hrel10.1 120 (k9 / 3) (by omega) (by omega) (by omega)) hM10.o rfl q2305 q2307 qs67 q86 q2308 (by decide +kernel) rfl ⟨Nat.le_of_ble_eq_true rfl, Nat.le_of_ble_eq_true rfl⟩ ⟨Nat.le_of_ble_eq_true rfl, Nat.le_of_ble_eq_true rfl⟩ (Nat.le_of_ble_eq_true rfl) dX4_write_98 (kV (fun σr11 H locs hp hG hS => ?_))
                obtain ⟨V11, I11, hM11, kp11, hrel11⟩ := hp
                have hkp11 := hkp10.tr kp11
                have hlen11 : (((((((wrA (V 0) t (8 - k9).toNat) ++ List.replicate (0 : Int).toNat (43)) ++ List.replicate (0 : Int).toNat ((48 + (v9 / 10)))) ++ List.replicate (1 : Int).toNat ((48 + (v9 % 10)))) ++ List.replicate ((k9 / 3) : Int).toNat (120)).length : Nat) : Int) = (((((wrA (V 0) t (8 - k9).toNat) ++ List.replicate (0 : Int).toNat (43)) ++ List.replicate (0 : Int).toNat ((48 + (v9 / 10)))) ++ List.replicate (1 : Int).toNat ((48 + (v9 % 10)))).length : Int) + (k9 / 3) := by rw [List.length_append, List.length_replicate]; omega
                have hA11 : ∀ q, q ≠ 26 → V11 q = V q := fun q h => (hrel11.2.1 q h).trans (hA10 q h)
                have hI11 : ∀ j, j ≠ 27 → I11 j = Iv j := fun j h => (hrel11.2.2 j h).trans (hI10 j h)
                refine lv_aload_n hx hb dX4_write_101 rfl (lv_at hl 2 rfl) ?_
                refine g_bipush hx hb dX4_write_102 (by decide) ?_
                refine lv_iload_n hx hb dX4_write_104 rfl (lv_at hl 1 rfl) ?_
                refine g_iconst hx hb dX4_write_105 ?_
                refine g_irem hx hb dX4_write_106 (by omega) (by omega) ?_
                refine g_callV (As := [.int (iI 121), .int (iI (k9 % 3))]) (rest := []) 2 hx hb hml hown hts hK hG hS hl.1 (mX4_writes l X σr11 o a V11 I11 (((((wrA (V 0) t (8 - k9).toNat) ++ List.replicate (0 : Int).toNat (43)) ++ List.replicate (0 : Int).toNat ((48 + (v9 / 10)))) ++ List.replicate (1 : Int).toNat ((48 + (v9 % 10)))) ++ List.replicate ((k9 / 3) : Int).toNat (120)) hM11 hrel11.1 121 (k9 % 3) (by omega) (by omega) (by omega)) hM11.o rfl q2305 q2307 qs67 q86 q2308 (by decide +kernel) rfl ⟨Nat.le_of_ble_eq_true rfl, Nat.le_of_ble_eq_true rfl⟩ ⟨Nat.le_of_ble_eq_true rfl, Nat.le_of_ble_eq_true rfl⟩ (Nat.le_of_ble_eq_true rfl) dX4_write_107 (kV (fun σr12 H locs hp hG hS => ?_))
                obtain ⟨V12, I12, hM12, kp12, hrel12⟩ := hp
                have hkp12 := hkp11.tr kp12
                have hlen12 : ((((((((wrA (V 0) t (8 - k9).toNat) ++ List.replicate (0 : Int).toNat (43)) ++ List.replicate (0 : Int).toNat ((48 + (v9 / 10)))) ++ List.replicate (1 : Int).toNat ((48 + (v9 % 10)))) ++ List.replicate ((k9 / 3) : Int).toNat (120)) ++ List.replicate ((k9 % 3) : Int).toNat (121)).length : Nat) : Int) = ((((((wrA (V 0) t (8 - k9).toNat) ++ List.replicate (0 : Int).toNat (43)) ++ List.replicate (0 : Int).toNat ((48 + (v9 / 10)))) ++ List.replicate (1 : Int).toNat ((48 + (v9 % 10)))) ++ List.replicate ((k9 / 3) : Int).toNat (120)).length : Int) + (k9 % 3) := by rw [List.length_append, List.length_replicate]; omega
                have hA12 : ∀ q, q ≠ 26 → V12 q = V q := fun q h => (hrel12.2.1 q h).trans (hA11 q h)
                have hI12 : ∀ j, j ≠ 27 → I12 j = Iv j := fun j h => (hrel12.2.2 j h).trans (hI11 j h)
                refine g_iinc (lv' := [(2, .int (iI (k9 + (-1)))), (3, .int (iI v9)), (0, .ref o), (1, .int (iI t))]) hx hb dX4_write_110 hl (k := 1) rfl (by decide) rfl (fun ls hl => ?_)
                refine lv_goto (tgt := 20) hx hb dX4_write_113 (by decide) ?_
                exact ih_20 σr12 V12 I12 (k9 + (-1)) (by omega) (hM12) (hkp12) (by omega) (hA12) (hI12) (by rw [show (8 - (k9 + -1)).toNat = (8 - k9).toNat + 1 by omega, wrA, show 8 - (((8 - k9).toNat : Nat) : Int) = k9 by omega, ← ev9, if_pos (by omega), wrS, if_neg (by omega), if_neg (by omega)]; exact hrel12.1)  _ _ _ hG hS (lv_sub hl [0, 2, 3] rfl)
              · refine g_iconst hx hb dX4_write_72 ?_
                refine lv_goto (tgt := 77) hx hb dX4_write_73 (by decide) ?_
                refine g_callV (As := [.int (iI (48 + (v9 / 10))), .int (iI 1)]) (rest := []) 2 hx hb hml hown hts hK hG hS hl.1 (mX4_writes l X σr7 o a V7 I7 ((wrA (V 0) t (8 - k9).toNat) ++ List.replicate (0 : Int).toNat (43)) hM7 hrel7.1 (48 + (v9 / 10)) 1 (by omega) (by omega) (by omega)) hM7.o rfl q2305 q2307 qs67 q86 q2308 (by decide +kernel) rfl ⟨Nat.le_of_ble_eq_true rfl, Nat.le_of_ble_eq_true rfl⟩ ⟨Nat.le_of_ble_eq_true rfl, Nat.le_of_ble_eq_true rfl⟩ (Nat.le_of_ble_eq_true rfl) dX4_write_77 (kV (fun σr13 H locs hp hG hS => ?_))
                obtain ⟨V13, I13, hM13, kp13, hrel13⟩ := hp
                have hkp13 := hkp7.tr kp13
                have hlen13 : (((((wrA (V 0) t (8 - k9).toNat) ++ List.replicate (0 : Int).toNat (43)) ++ List.replicate (1 : Int).toNat ((48 + (v9 / 10)))).length : Nat) : Int) = (((wrA (V 0) t (8 - k9).toNat) ++ List.replicate (0 : Int).toNat (43)).length : Int) + 1 := by rw [List.length_append, List.length_replicate]; omega
                have hA13 : ∀ q, q ≠ 26 → V13 q = V q := fun q h => (hrel13.2.1 q h).trans (hA7 q h)
                have hI13 : ∀ j, j ≠ 27 → I13 j = Iv j := fun j h => (hrel13.2.2 j h).trans (hI7 j h)
                refine lv_aload_n hx hb dX4_write_80 rfl (lv_at hl 2 rfl) ?_
                refine g_bipush hx hb dX4_write_81 (by decide) ?_
                refine lv_iload_n hx hb dX4_write_83 rfl (lv_at hl 0 rfl) ?_
                refine g_bipush hx hb dX4_write_84 (by decide) ?_
                refine g_irem hx hb dX4_write_86 (by omega) (by omega) ?_
                refine g_iadd hx hb dX4_write_87 ?_
                refine g_iconst hx hb dX4_write_88 ?_
                refine g_callV (As := [.int (iI (48 + (v9 % 10))), .int (iI 1)]) (rest := []) 2 hx hb hml hown hts hK hG hS hl.1 (mX4_writes l X σr13 o a V13 I13 (((wrA (V 0) t (8 - k9).toNat) ++ List.replicate (0 : Int).toNat (43)) ++ List.replicate (1 : Int).toNat ((48 + (v9 / 10)))) hM13 hrel13.1 (48 + (v9 % 10)) 1 (by omega) (by omega) (by omega)) hM13.o rfl q2305 q2307 qs67 q86 q2308 (by decide +kernel) rfl ⟨Nat.le_of_ble_eq_true rfl, Nat.le_of_ble_eq_true rfl⟩ ⟨Nat.le_of_ble_eq_true rfl, Nat.le_of_ble_eq_true rfl⟩ (Nat.le_of_ble_eq_true rfl) dX4_write_89 (kV (fun σr14 H locs hp hG hS => ?_))
                obtain ⟨V14, I14, hM14, kp14, hrel14⟩ := hp
                have hkp14 := hkp13.tr kp14
                have hlen14 : ((((((wrA (V 0) t (8 - k9).toNat) ++ List.replicate (0 : Int).toNat (43)) ++ List.replicate (1 : Int).toNat ((48 + (v9 / 10)))) ++ List.replicate (1 : Int).toNat ((48 + (v9 % 10)))).length : Nat) : Int) = ((((wrA (V 0) t (8 - k9).toNat) ++ List.replicate (0 : Int).toNat (43)) ++ List.replicate (1 : Int).toNat ((48 + (v9 / 10)))).length : Int) + 1 := by rw [List.length_append, List.length_replicate]; omega
                have hA14 : ∀ q, q ≠ 26 → V14 q = V q := fun q h => (hrel14.2.1 q h).trans (hA13 q h)
                have hI14 : ∀ j, j ≠ 27 → I14 j = Iv j := fun j h => (hrel14.2.2 j h).trans (hI13 j h)
                refine lv_aload_n hx hb dX4_write_92 rfl (lv_at hl 2 rfl) ?_
                refine g_bipush hx hb dX4_write_93 (by decide) ?_
                refine lv_iload_n hx hb dX4_write_95 rfl (lv_at hl 1 rfl) ?_
                refine g_iconst hx hb dX4_write_96 ?_
                refine g_idiv hx hb dX4_write_97 (by omega) (by omega) ?_
                refine g_callV (As := [.int (iI 120), .int (iI (k9 / 3))]) (rest := []) 2 hx hb hml hown hts hK hG hS hl.1 (mX4_writes l X σr14 o a V14 I14 ((((wrA (V 0) t (8 - k9).toNat) ++ List.replicate (0 : Int).toNat (43)) ++ List.replicate (1 : Int).toNat ((48 + (v9 / 10)))) ++ List.replicate (1 : Int).toNat ((48 + (v9 % 10)))) hM14 hrel14.1 120 (k9 / 3) (by omega) (by omega) (by omega)) hM14.o rfl q2305 q2307 qs67 q86 q2308 (by decide +kernel) rfl ⟨Nat.le_of_ble_eq_true rfl, Nat.le_of_ble_eq_true rfl⟩ ⟨Nat.le_of_ble_eq_true rfl, Nat.le_of_ble_eq_true rfl⟩ (Nat.le_of_ble_eq_true rfl) dX4_write_98 (kV (fun σr15 H locs hp hG hS => ?_))
                obtain ⟨V15, I15, hM15, kp15, hrel15⟩ := hp
                have hkp15 := hkp14.tr kp15
                have hlen15 : (((((((wrA (V 0) t (8 - k9).toNat) ++ List.replicate (0 : Int).toNat (43)) ++ List.replicate (1 : Int).toNat ((48 + (v9 / 10)))) ++ List.replicate (1 : Int).toNat ((48 + (v9 % 10)))) ++ List.replicate ((k9 / 3) : Int).toNat (120)).length : Nat) : Int) = (((((wrA (V 0) t (8 - k9).toNat) ++ List.replicate (0 : Int).toNat (43)) ++ List.replicate (1 : Int).toNat ((48 + (v9 / 10)))) ++ List.replicate (1 : Int).toNat ((48 + (v9 % 10)))).length : Int) + (k9 / 3) := by rw [List.length_append, List.length_replicate]; omega
                have hA15 : ∀ q, q ≠ 26 → V15 q = V q := fun q h => (hrel15.2.1 q h).trans (hA14 q h)
                have hI15 : ∀ j, j ≠ 27 → I15 j = Iv j := fun j h => (hrel15.2.2 j h).trans (hI14 j h)
                refine lv_aload_n hx hb dX4_write_101 rfl (lv_at hl 2 rfl) ?_
                refine g_bipush hx hb dX4_write_102 (by decide) ?_
                refine lv_iload_n hx hb dX4_write_104 rfl (lv_at hl 1 rfl) ?_
                refine g_iconst hx hb dX4_write_105 ?_
                refine g_irem hx hb dX4_write_106 (by omega) (by omega) ?_
                refine g_callV (As := [.int (iI 121), .int (iI (k9 % 3))]) (rest := []) 2 hx hb hml hown hts hK hG hS hl.1 (mX4_writes l X σr15 o a V15 I15 (((((wrA (V 0) t (8 - k9).toNat) ++ List.replicate (0 : Int).toNat (43)) ++ List.replicate (1 : Int).toNat ((48 + (v9 / 10)))) ++ List.replicate (1 : Int).toNat ((48 + (v9 % 10)))) ++ List.replicate ((k9 / 3) : Int).toNat (120)) hM15 hrel15.1 121 (k9 % 3) (by omega) (by omega) (by omega)) hM15.o rfl q2305 q2307 qs67 q86 q2308 (by decide +kernel) rfl ⟨Nat.le_of_ble_eq_true rfl, Nat.le_of_ble_eq_true rfl⟩ ⟨Nat.le_of_ble_eq_true rfl, Nat.le_of_ble_eq_true rfl⟩ (Nat.le_of_ble_eq_true rfl) dX4_write_107 (kV (fun σr16 H locs hp hG hS => ?_))
                obtain ⟨V16, I16, hM16, kp16, hrel16⟩ := hp
                have hkp16 := hkp15.tr kp16
                have hlen16 : ((((((((wrA (V 0) t (8 - k9).toNat) ++ List.replicate (0 : Int).toNat (43)) ++ List.replicate (1 : Int).toNat ((48 + (v9 / 10)))) ++ List.replicate (1 : Int).toNat ((48 + (v9 % 10)))) ++ List.replicate ((k9 / 3) : Int).toNat (120)) ++ List.replicate ((k9 % 3) : Int).toNat (121)).length : Nat) : Int) = ((((((wrA (V 0) t (8 - k9).toNat) ++ List.replicate (0 : Int).toNat (43)) ++ List.replicate (1 : Int).toNat ((48 + (v9 / 10)))) ++ List.replicate (1 : Int).toNat ((48 + (v9 % 10)))) ++ List.replicate ((k9 / 3) : Int).toNat (120)).length : Int) + (k9 % 3) := by rw [List.length_append, List.length_replicate]; omega
                have hA16 : ∀ q, q ≠ 26 → V16 q = V q := fun q h => (hrel16.2.1 q h).trans (hA15 q h)
                have hI16 : ∀ j, j ≠ 27 → I16 j = Iv j := fun j h => (hrel16.2.2 j h).trans (hI15 j h)
                refine g_iinc (lv' := [(2, .int (iI (k9 + (-1)))), (3, .int (iI v9)), (0, .ref o), (1, .int (iI t))]) hx hb dX4_write_110 hl (k := 1) rfl (by decide) rfl (fun ls hl => ?_)
                refine lv_goto (tgt := 20) hx hb dX4_write_113 (by decide) ?_
                exact ih_20 σr16 V16 I16 (k9 + (-1)) (by omega) (hM16) (hkp16) (by omega) (hA16) (hI16) (by rw [show (8 - (k9 + -1)).toNat = (8 - k9).toNat + 1 by omega, wrA, show 8 - (((8 - k9).toNat : Nat) : Int) = k9 by omega, ← ev9, if_pos (by omega), wrS, if_neg (by omega), if_pos (by omega)]; exact hrel16.1)  _ _ _ hG hS (lv_sub hl [0, 2, 3] rfl)
            · refine g_iconst hx hb dX4_write_50 ?_
              refine lv_goto (tgt := 55) hx hb dX4_write_51 (by decide) ?_
              refine g_callV (As := [.int (iI 43), .int (iI 1)]) (rest := []) 2 hx hb hml hown hts hK hG hS hl.1 (mX4_writes l X σL o a VL IL (wrA (V 0) t (8 - k9).toNat) hML hLL 43 1 (by omega) (by omega) (by omega)) hML.o rfl q2305 q2307 qs67 q86 q2308 (by decide +kernel) rfl ⟨Nat.le_of_ble_eq_true rfl, Nat.le_of_ble_eq_true rfl⟩ ⟨Nat.le_of_ble_eq_true rfl, Nat.le_of_ble_eq_true rfl⟩ (Nat.le_of_ble_eq_true rfl) dX4_write_55 (kV (fun σr17 H locs hp hG hS => ?_))
              obtain ⟨V17, I17, hM17, kp17, hrel17⟩ := hp
              have hkp17 := hkL.tr kp17
              have hlen17 : ((((wrA (V 0) t (8 - k9).toNat) ++ List.replicate (1 : Int).toNat (43)).length : Nat) : Int) = ((wrA (V 0) t (8 - k9).toNat).length : Int) + 1 := by rw [List.length_append, List.length_replicate]; omega
              have hA17 : ∀ q, q ≠ 26 → V17 q = V q := fun q h => (hrel17.2.1 q h).trans (hA q h)
              have hI17 : ∀ j, j ≠ 27 → I17 j = Iv j := fun j h => (hrel17.2.2 j h).trans (hI j h)
              refine lv_aload_n hx hb dX4_write_58 rfl (lv_at hl 2 rfl) ?_
              refine g_bipush hx hb dX4_write_59 (by decide) ?_
              refine lv_iload_n hx hb dX4_write_61 rfl (lv_at hl 0 rfl) ?_
              refine g_bipush hx hb dX4_write_62 (by decide) ?_
              refine g_idiv hx hb dX4_write_64 (by omega) (by omega) ?_
              refine g_iadd hx hb dX4_write_65 ?_
              refine lv_iload_n hx hb dX4_write_66 rfl (lv_at hl 0 rfl) ?_
              refine g_bipush hx hb dX4_write_67 (by decide) ?_
              refine g_icmp_le (tgt := 76) hx hb dX4_write_69 (by decide) (by omega) (by omega) (fun cq18 => ?_) (fun cq18 => ?_)
              · refine g_iconst hx hb dX4_write_76 ?_
                refine g_callV (As := [.int (iI (48 + (v9 / 10))), .int (iI 0)]) (rest := []) 2 hx hb hml hown hts hK hG hS hl.1 (mX4_writes l X σr17 o a V17 I17 ((wrA (V 0) t (8 - k9).toNat) ++ List.replicate (1 : Int).toNat (43)) hM17 hrel17.1 (48 + (v9 / 10)) 0 (by omega) (by omega) (by omega)) hM17.o rfl q2305 q2307 qs67 q86 q2308 (by decide +kernel) rfl ⟨Nat.le_of_ble_eq_true rfl, Nat.le_of_ble_eq_true rfl⟩ ⟨Nat.le_of_ble_eq_true rfl, Nat.le_of_ble_eq_true rfl⟩ (Nat.le_of_ble_eq_true rfl) dX4_write_77 (kV (fun σr19 H locs hp hG hS => ?_))
                obtain ⟨V19, I19, hM19, kp19, hrel19⟩ := hp
                have hkp19 := hkp17.tr kp19
                have hlen19 : (((((wrA (V 0) t (8 - k9).toNat) ++ List.replicate (1 : Int).toNat (43)) ++ List.replicate (0 : Int).toNat ((48 + (v9 / 10)))).length : Nat) : Int) = (((wrA (V 0) t (8 - k9).toNat) ++ List.replicate (1 : Int).toNat (43)).length : Int) + 0 := by rw [List.length_append, List.length_replicate]; omega
                have hA19 : ∀ q, q ≠ 26 → V19 q = V q := fun q h => (hrel19.2.1 q h).trans (hA17 q h)
                have hI19 : ∀ j, j ≠ 27 → I19 j = Iv j := fun j h => (hrel19.2.2 j h).trans (hI17 j h)
                refine lv_aload_n hx hb dX4_write_80 rfl (lv_at hl 2 rfl) ?_
                refine g_bipush hx hb dX4_write_81 (by decide) ?_
                refine lv_iload_n hx hb dX4_write_83 rfl (lv_at hl 0 rfl) ?_
                refine g_bipush hx hb dX4_write_84 (by decide) ?_
                refine g_irem hx hb dX4_write_86 (by omega) (by omega) ?_
                refine g_iadd hx hb dX4_write_87 ?_
                refine g_iconst hx hb dX4_write_88 ?_
                refine g_callV (As := [.int (iI (48 + (v9 % 10))), .int (iI 1)]) (rest := []) 2 hx hb hml hown hts hK hG hS hl.1 (mX4_writes l X σr19 o a V19 I19 (((wrA (V 0) t (8 - k9).toNat) ++ List.replicate (1 : Int).toNat (43)) ++ List.replicate (0 : Int).toNat ((48 + (v9 / 10)))) hM19 hrel19.1 (48 + (v9 % 10)) 1 (by omega) (by omega) (by omega)) hM19.o rfl q2305 q2307 qs67 q86 q2308 (by decide +kernel) rfl ⟨Nat.le_of_ble_eq_true rfl, Nat.le_of_ble_eq_true rfl⟩ ⟨Nat.le_of_ble_eq_true rfl, Nat.le_of_ble_eq_true rfl⟩ (Nat.le_of_ble_eq_true rfl) dX4_write_89 (kV (fun σr20 H locs hp hG hS => ?_))
                obtain ⟨V20, I20, hM20, kp20, hrel20⟩ := hp
                have hkp20 := hkp19.tr kp20
                have hlen20 : ((((((wrA (V 0) t (8 - k9).toNat) ++ List.replicate (1 : Int).toNat (43)) ++ List.replicate (0 : Int).toNat ((48 + (v9 / 10)))) ++ List.replicate (1 : Int).toNat ((48 + (v9 % 10)))).length : Nat) : Int) = ((((wrA (V 0) t (8 - k9).toNat) ++ List.replicate (1 : Int).toNat (43)) ++ List.replicate (0 : Int).toNat ((48 + (v9 / 10)))).length : Int) + 1 := by rw [List.length_append, List.length_replicate]; omega
                have hA20 : ∀ q, q ≠ 26 → V20 q = V q := fun q h => (hrel20.2.1 q h).trans (hA19 q h)
                have hI20 : ∀ j, j ≠ 27 → I20 j = Iv j := fun j h => (hrel20.2.2 j h).trans (hI19 j h)
                refine lv_aload_n hx hb dX4_write_92 rfl (lv_at hl 2 rfl) ?_
                refine g_bipush hx hb dX4_write_93 (by decide) ?_
                refine lv_iload_n hx hb dX4_write_95 rfl (lv_at hl 1 rfl) ?_
                refine g_iconst hx hb dX4_write_96 ?_
                refine g_idiv hx hb dX4_write_97 (by omega) (by omega) ?_
                refine g_callV (As := [.int (iI 120), .int (iI (k9 / 3))]) (rest := []) 2 hx hb hml hown hts hK hG hS hl.1 (mX4_writes l X σr20 o a V20 I20 ((((wrA (V 0) t (8 - k9).toNat) ++ List.replicate (1 : Int).toNat (43)) ++ List.replicate (0 : Int).toNat ((48 + (v9 / 10)))) ++ List.replicate (1 : Int).toNat ((48 + (v9 % 10)))) hM20 hrel20.1 120 (k9 / 3) (by omega) (by omega) (by omega)) hM20.o rfl q2305 q2307 qs67 q86 q2308 (by decide +kernel) rfl ⟨Nat.le_of_ble_eq_true rfl, Nat.le_of_ble_eq_true rfl⟩ ⟨Nat.le_of_ble_eq_true rfl, Nat.le_of_ble_eq_true rfl⟩ (Nat.le_of_ble_eq_true rfl) dX4_write_98 (kV (fun σr21 H locs hp hG hS => ?_))
                obtain ⟨V21, I21, hM21, kp21, hrel21⟩ := hp
                have hkp21 := hkp20.tr kp21
                have hlen21 : (((((((wrA (V 0) t (8 - k9).toNat) ++ List.replicate (1 : Int).toNat (43)) ++ List.replicate (0 : Int).toNat ((48 + (v9 / 10)))) ++ List.replicate (1 : Int).toNat ((48 + (v9 % 10)))) ++ List.replicate ((k9 / 3) : Int).toNat (120)).length : Nat) : Int) = (((((wrA (V 0) t (8 - k9).toNat) ++ List.replicate (1 : Int).toNat (43)) ++ List.replicate (0 : Int).toNat ((48 + (v9 / 10)))) ++ List.replicate (1 : Int).toNat ((48 + (v9 % 10)))).length : Int) + (k9 / 3) := by rw [List.length_append, List.length_replicate]; omega
                have hA21 : ∀ q, q ≠ 26 → V21 q = V q := fun q h => (hrel21.2.1 q h).trans (hA20 q h)
                have hI21 : ∀ j, j ≠ 27 → I21 j = Iv j := fun j h => (hrel21.2.2 j h).trans (hI20 j h)
                refine lv_aload_n hx hb dX4_write_101 rfl (lv_at hl 2 rfl) ?_
                refine g_bipush hx hb dX4_write_102 (by decide) ?_
                refine lv_iload_n hx hb dX4_write_104 rfl (lv_at hl 1 rfl) ?_
                refine g_iconst hx hb dX4_write_105 ?_
                refine g_irem hx hb dX4_write_106 (by omega) (by omega) ?_
                refine g_callV (As := [.int (iI 121), .int (iI (k9 % 3))]) (rest := []) 2 hx hb hml hown hts hK hG hS hl.1 (mX4_writes l X σr21 o a V21 I21 (((((wrA (V 0) t (8 - k9).toNat) ++ List.replicate (1 : Int).toNat (43)) ++ List.replicate (0 : Int).toNat ((48 + (v9 / 10)))) ++ List.replicate (1 : Int).toNat ((48 + (v9 % 10)))) ++ List.replicate ((k9 / 3) : Int).toNat (120)) hM21 hrel21.1 121 (k9 % 3) (by omega) (by omega) (by omega)) hM21.o rfl q2305 q2307 qs67 q86 q2308 (by decide +kernel) rfl ⟨Nat.le_of_ble_eq_true rfl, Nat.le_of_ble_eq_true rfl⟩ ⟨Nat.le_of_ble_eq_true rfl, Nat.le_of_ble_eq_true rfl⟩ (Nat.le_of_ble_eq_true rfl) dX4_write_107 (kV (fun σr22 H locs hp hG hS => ?_))
                obtain ⟨V22, I22, hM22, kp22, hrel22⟩ := hp
                have hkp22 := hkp21.tr kp22
                have hlen22 : ((((((((wrA (V 0) t (8 - k9).toNat) ++ List.replicate (1 : Int).toNat (43)) ++ List.replicate (0 : Int).toNat ((48 + (v9 / 10)))) ++ List.replicate (1 : Int).toNat ((48 + (v9 % 10)))) ++ List.replicate ((k9 / 3) : Int).toNat (120)) ++ List.replicate ((k9 % 3) : Int).toNat (121)).length : Nat) : Int) = ((((((wrA (V 0) t (8 - k9).toNat) ++ List.replicate (1 : Int).toNat (43)) ++ List.replicate (0 : Int).toNat ((48 + (v9 / 10)))) ++ List.replicate (1 : Int).toNat ((48 + (v9 % 10)))) ++ List.replicate ((k9 / 3) : Int).toNat (120)).length : Int) + (k9 % 3) := by rw [List.length_append, List.length_replicate]; omega
                have hA22 : ∀ q, q ≠ 26 → V22 q = V q := fun q h => (hrel22.2.1 q h).trans (hA21 q h)
                have hI22 : ∀ j, j ≠ 27 → I22 j = Iv j := fun j h => (hrel22.2.2 j h).trans (hI21 j h)
                refine g_iinc (lv' := [(2, .int (iI (k9 + (-1)))), (3, .int (iI v9)), (0, .ref o), (1, .int (iI t))]) hx hb dX4_write_110 hl (k := 1) rfl (by decide) rfl (fun ls hl => ?_)
                refine lv_goto (tgt := 20) hx hb dX4_write_113 (by decide) ?_
                exact ih_20 σr22 V22 I22 (k9 + (-1)) (by omega) (hM22) (hkp22) (by omega) (hA22) (hI22) (by rw [show (8 - (k9 + -1)).toNat = (8 - k9).toNat + 1 by omega, wrA, show 8 - (((8 - k9).toNat : Nat) : Int) = k9 by omega, ← ev9, if_pos (by omega), wrS, if_pos (by omega), if_neg (by omega)]; exact hrel22.1)  _ _ _ hG hS (lv_sub hl [0, 2, 3] rfl)
              · refine g_iconst hx hb dX4_write_72 ?_
                refine lv_goto (tgt := 77) hx hb dX4_write_73 (by decide) ?_
                refine g_callV (As := [.int (iI (48 + (v9 / 10))), .int (iI 1)]) (rest := []) 2 hx hb hml hown hts hK hG hS hl.1 (mX4_writes l X σr17 o a V17 I17 ((wrA (V 0) t (8 - k9).toNat) ++ List.replicate (1 : Int).toNat (43)) hM17 hrel17.1 (48 + (v9 / 10)) 1 (by omega) (by omega) (by omega)) hM17.o rfl q2305 q2307 qs67 q86 q2308 (by decide +kernel) rfl ⟨Nat.le_of_ble_eq_true rfl, Nat.le_of_ble_eq_true rfl⟩ ⟨Nat.le_of_ble_eq_true rfl, Nat.le_of_ble_eq_true rfl⟩ (Nat.le_of_ble_eq_true rfl) dX4_write_77 (kV (fun σr23 H locs hp hG hS => ?_))
                obtain ⟨V23, I23, hM23, kp23, hrel23⟩ := hp
                have hkp23 := hkp17.tr kp23
                have hlen23 : (((((wrA (V 0) t (8 - k9).toNat) ++ List.replicate (1 : Int).toNat (43)) ++ List.replicate (1 : Int).toNat ((48 + (v9 / 10)))).length : Nat) : Int) = (((wrA (V 0) t (8 - k9).toNat) ++ List.replicate (1 : Int).toNat (43)).length : Int) + 1 := by rw [List.length_append, List.length_replicate]; omega
                have hA23 : ∀ q, q ≠ 26 → V23 q = V q := fun q h => (hrel23.2.1 q h).trans (hA17 q h)
                have hI23 : ∀ j, j ≠ 27 → I23 j = Iv j := fun j h => (hrel23.2.2 j h).trans (hI17 j h)
                refine lv_aload_n hx hb dX4_write_80 rfl (lv_at hl 2 rfl) ?_
                refine g_bipush hx hb dX4_write_81 (by decide) ?_
                refine lv_iload_n hx hb dX4_write_83 rfl (lv_at hl 0 rfl) ?_
                refine g_bipush hx hb dX4_write_84 (by decide) ?_
                refine g_irem hx hb dX4_write_86 (by omega) (by omega) ?_
                refine g_iadd hx hb dX4_write_87 ?_
                refine g_iconst hx hb dX4_write_88 ?_
                refine g_callV (As := [.int (iI (48 + (v9 % 10))), .int (iI 1)]) (rest := []) 2 hx hb hml hown hts hK hG hS hl.1 (mX4_writes l X σr23 o a V23 I23 (((wrA (V 0) t (8 - k9).toNat) ++ List.replicate (1 : Int).toNat (43)) ++ List.replicate (1 : Int).toNat ((48 + (v9 / 10)))) hM23 hrel23.1 (48 + (v9 % 10)) 1 (by omega) (by omega) (by omega)) hM23.o rfl q2305 q2307 qs67 q86 q2308 (by decide +kernel) rfl ⟨Nat.le_of_ble_eq_true rfl, Nat.le_of_ble_eq_true rfl⟩ ⟨Nat.le_of_ble_eq_true rfl, Nat.le_of_ble_eq_true rfl⟩ (Nat.le_of_ble_eq_true rfl) dX4_write_89 (kV (fun σr24 H locs hp hG hS => ?_))
                obtain ⟨V24, I24, hM24, kp24, hrel24⟩ := hp
                have hkp24 := hkp23.tr kp24
                have hlen24 : ((((((wrA (V 0) t (8 - k9).toNat) ++ List.replicate (1 : Int).toNat (43)) ++ List.replicate (1 : Int).toNat ((48 + (v9 / 10)))) ++ List.replicate (1 : Int).toNat ((48 + (v9 % 10)))).length : Nat) : Int) = ((((wrA (V 0) t (8 - k9).toNat) ++ List.replicate (1 : Int).toNat (43)) ++ List.replicate (1 : Int).toNat ((48 + (v9 / 10)))).length : Int) + 1 := by rw [List.length_append, List.length_replicate]; omega
                have hA24 : ∀ q, q ≠ 26 → V24 q = V q := fun q h => (hrel24.2.1 q h).trans (hA23 q h)
                have hI24 : ∀ j, j ≠ 27 → I24 j = Iv j := fun j h => (hrel24.2.2 j h).trans (hI23 j h)
                refine lv_aload_n hx hb dX4_write_92 rfl (lv_at hl 2 rfl) ?_
                refine g_bipush hx hb dX4_write_93 (by decide) ?_
                refine lv_iload_n hx hb dX4_write_95 rfl (lv_at hl 1 rfl) ?_
                refine g_iconst hx hb dX4_write_96 ?_
                refine g_idiv hx hb dX4_write_97 (by omega) (by omega) ?_
                refine g_callV (As := [.int (iI 120), .int (iI (k9 / 3))]) (rest := []) 2 hx hb hml hown hts hK hG hS hl.1 (mX4_writes l X σr24 o a V24 I24 ((((wrA (V 0) t (8 - k9).toNat) ++ List.replicate (1 : Int).toNat (43)) ++ List.replicate (1 : Int).toNat ((48 + (v9 / 10)))) ++ List.replicate (1 : Int).toNat ((48 + (v9 % 10)))) hM24 hrel24.1 120 (k9 / 3) (by omega) (by omega) (by omega)) hM24.o rfl q2305 q2307 qs67 q86 q2308 (by decide +kernel) rfl ⟨Nat.le_of_ble_eq_true rfl, Nat.le_of_ble_eq_true rfl⟩ ⟨Nat.le_of_ble_eq_true rfl, Nat.le_of_ble_eq_true rfl⟩ (Nat.le_of_ble_eq_true rfl) dX4_write_98 (kV (fun σr25 H locs hp hG hS => ?_))
                obtain ⟨V25, I25, hM25, kp25, hrel25⟩ := hp
                have hkp25 := hkp24.tr kp25
                have hlen25 : (((((((wrA (V 0) t (8 - k9).toNat) ++ List.replicate (1 : Int).toNat (43)) ++ List.replicate (1 : Int).toNat ((48 + (v9 / 10)))) ++ List.replicate (1 : Int).toNat ((48 + (v9 % 10)))) ++ List.replicate ((k9 / 3) : Int).toNat (120)).length : Nat) : Int) = (((((wrA (V 0) t (8 - k9).toNat) ++ List.replicate (1 : Int).toNat (43)) ++ List.replicate (1 : Int).toNat ((48 + (v9 / 10)))) ++ List.replicate (1 : Int).toNat ((48 + (v9 % 10)))).length : Int) + (k9 / 3) := by rw [List.length_append, List.length_replicate]; omega
                have hA25 : ∀ q, q ≠ 26 → V25 q = V q := fun q h => (hrel25.2.1 q h).trans (hA24 q h)
                have hI25 : ∀ j, j ≠ 27 → I25 j = Iv j := fun j h => (hrel25.2.2 j h).trans (hI24 j h)
                refine lv_aload_n hx hb dX4_write_101 rfl (lv_at hl 2 rfl) ?_
                refine g_bipush hx hb dX4_write_102 (by decide) ?_
                refine lv_iload_n hx hb dX4_write_104 rfl (lv_at hl 1 rfl) ?_
                refine g_iconst hx hb dX4_write_105 ?_
                refine g_irem hx hb dX4_write_106 (by omega) (by omega) ?_
                refine g_callV (As := [.int (iI 121), .int (iI (k9 % 3))]) (rest := []) 2 hx hb hml hown hts hK hG hS hl.1 (mX4_writes l X σr25 o a V25 I25 (((((wrA (V 0) t (8 - k9).toNat) ++ List.replicate (1 : Int).toNat (43)) ++ List.replicate (1 : Int).toNat ((48 + (v9 / 10)))) ++ List.replicate (1 : Int).toNat ((48 + (v9 % 10)))) ++ List.replicate ((k9 / 3) : Int).toNat (120)) hM25 hrel25.1 121 (k9 % 3) (by omega) (by omega) (by omega)) hM25.o rfl q2305 q2307 qs67 q86 q2308 (by decide +kernel) rfl ⟨Nat.le_of_ble_eq_true rfl, Nat.le_of_ble_eq_true rfl⟩ ⟨Nat.le_of_ble_eq_true rfl, Nat.le_of_ble_eq_true rfl⟩ (Nat.le_of_ble_eq_true rfl) dX4_write_107 (kV (fun σr26 H locs hp hG hS => ?_))
                obtain ⟨V26, I26, hM26, kp26, hrel26⟩ := hp
                have hkp26 := hkp25.tr kp26
                have hlen26 : ((((((((wrA (V 0) t (8 - k9).toNat) ++ List.replicate (1 : Int).toNat (43)) ++ List.replicate (1 : Int).toNat ((48 + (v9 / 10)))) ++ List.replicate (1 : Int).toNat ((48 + (v9 % 10)))) ++ List.replicate ((k9 / 3) : Int).toNat (120)) ++ List.replicate ((k9 % 3) : Int).toNat (121)).length : Nat) : Int) = ((((((wrA (V 0) t (8 - k9).toNat) ++ List.replicate (1 : Int).toNat (43)) ++ List.replicate (1 : Int).toNat ((48 + (v9 / 10)))) ++ List.replicate (1 : Int).toNat ((48 + (v9 % 10)))) ++ List.replicate ((k9 / 3) : Int).toNat (120)).length : Int) + (k9 % 3) := by rw [List.length_append, List.length_replicate]; omega
                have hA26 : ∀ q, q ≠ 26 → V26 q = V q := fun q h => (hrel26.2.1 q h).trans (hA25 q h)
                have hI26 : ∀ j, j ≠ 27 → I26 j = Iv j := fun j h => (hrel26.2.2 j h).trans (hI25 j h)
                refine g_iinc (lv' := [(2, .int (iI (k9 + (-1)))), (3, .int (iI v9)), (0, .ref o), (1, .int (iI t))]) hx hb dX4_write_110 hl (k := 1) rfl (by decide) rfl (fun ls hl => ?_)
                refine lv_goto (tgt := 20) hx hb dX4_write_113 (by decide) ?_
                exact ih_20 σr26 V26 I26 (k9 + (-1)) (by omega) (hM26) (hkp26) (by omega) (hA26) (hI26) (by rw [show (8 - (k9 + -1)).toNat = (8 - k9).toNat + 1 by omega, wrA, show 8 - (((8 - k9).toNat : Nat) : Int) = k9 by omega, ← ev9, if_pos (by omega), wrS, if_pos (by omega), if_pos (by omega)]; exact hrel26.1)  _ _ _ hG hS (lv_sub hl [0, 2, 3] rfl)
    exact loop_20 _ σ3 V I3 8 (Nat.lt_succ_self _) (hM3) (hkp3) (by omega) (fun q h => rfl) (fI3) (by rw [i27_3]; exact lisP_nil _)  _ _ _ hG hS (lv_sub hl [0, 1, 2] rfl)
  · refine g_iconst hx hb dX4_write_10 ?_
    exact g_iret hx hb hr hlocks hQ hG hS (Nat.zero_le _) (Nat.zero_le _) ⟨_, rfl, V, Iv, hM, hkp, (⟨by rw [if_neg (by omega)], Or.inr ⟨by omega, rfl, rfl⟩⟩)⟩ dX4_write_11
