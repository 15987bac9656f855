set_option maxHeartbeats 4000000 in
theorem mX4_rank (l : Launch) (X : gX) (σ : gS) (o : Nat) (a : Nat → Nat) (V : Nat → Int → Int) (Iv : Nat → Int) (hM : MW X σ o a V Iv) (hT : okT (V 0)) (i : Int)  (h0 : -2147483648 ≤ i ∧ i ≤ 2147483647) : gMet l X yX4_rank cX4_rank 5 (some .int) 4 0 0 91 σ [.ref o, .int (iI i)] (oI (fun r σ' => ∃ (V' : Nat → Int → Int) (I' : Nat → Int), MW X σ' o a V' I' ∧ gKeep (fun t => t = 10) σ σ' ∧ (((0 ≤ i ∧ i ≤ 31) ∧ (0 ≤ r ∧ r ≤ 31) ∧ ahA (szZ (V 0)) r 32 = i ∨ (0 ≤ i ∧ i ≤ 31) ∧ r = -1 ∧ (∀ q : Int, 0 ≤ q → q < 32 → ¬ ahA (szZ (V 0)) q 32 = i) ∨ ¬ (0 ≤ i ∧ i ≤ 31) ∧ r = -1) ∧ (∀ q, q ≠ 3 → q ≠ 4 → V' q = V q) ∧ I' = Iv))) := by
  refine gMet.of (by decide) (Nat.le_of_ble_eq_true rfl) ?_
  intro pp ee ss mm args below meth cd Q H locs ls hargs hx hb hr hlocks hml hown hnm hts hK hG hS hQ hl
  have hown : ss.vm.findClass RX4 = some mm.cls := hown
  have hl : lv_has ls 5 [(0, .ref o), (1, .int (iI i))] := hl
  have hkp : gKeep (fun t => t = 10) σ σ := gKeep.rf
  refine lv_iload_n hx hb dX4_rank_0 rfl (lv_at hl 1 rfl) ?_
  refine g_callS (As := [.int (iI i)]) (rest := []) 1 hx hb hml hown hts hK hG hS hl.1 (mX4_isCoordinate l X σ  i (by omega)) q2075 q2076 q86 q2077 (by decide +kernel) rfl ⟨Nat.le_of_ble_eq_true rfl, Nat.le_of_ble_eq_true rfl⟩ ⟨Nat.le_of_ble_eq_true rfl, Nat.le_of_ble_eq_true rfl⟩ (Nat.le_of_ble_eq_true rfl) dX4_rank_1 (kI (fun r1 σr1 H locs hp hG hS => ?_))
  obtain ⟨hr1, rfl⟩ := hp
  refine g_if_ne (tgt := 9) hx hb dX4_rank_4 (by decide) (by omega) (fun cq2 => ?_) (fun cq2 => ?_)
  · refine lv_aload_n hx hb dX4_rank_9 rfl (lv_at hl 0 rfl) ?_
    refine g_callV (As := []) (rest := []) 0 hx hb hml hown hts hK hG hS hl.1 (mX4_findsKept l X σ o a V Iv hM hT  ) hM.o rfl q2154 q2156 qs54 q86 q2157 (by decide +kernel) rfl ⟨Nat.le_of_ble_eq_true rfl, Nat.le_of_ble_eq_true rfl⟩ ⟨Nat.le_of_ble_eq_true rfl, Nat.le_of_ble_eq_true rfl⟩ (Nat.le_of_ble_eq_true rfl) dX4_rank_10 (kV (fun σr3 H locs hp hG hS => ?_))
    obtain ⟨V3, I3, hM3, kp3, hrel3⟩ := hp
    have hkp3 := hkp.tr kp3
    have hV0 : V3 0 = V 0 := hrel3.1 0 (by decide)
    have hT3 : okT (V3 0) := by rw [hV0]; exact hT
    refine g_iconst hx hb dX4_rank_13 ?_
    refine lv_istore_n (lv' := [(2, .int (iI 0)), (0, .ref o), (1, .int (iI i))]) hx hb dX4_rank_14 rfl hl (by decide) rfl (fun ls hl => ?_)
    have loop_15 : ∀ (nF : Nat) (σL : gS) (VL : Nat → Int → Int) (k9 : Int), ((32 - k9).toNat : Nat) < nF → (MW X σL o a VL I3) → (gKeep (fun t => t = 10) σ σL) → (0 ≤ k9 ∧ k9 ≤ 32) → (∀ q, q ≠ 3 → q ≠ 4 → VL q = V q) → (∀ q : Int, 0 ≤ q → q < 1024 → VL 3 q = kepZ (V 0) (q / 32) (q % 32)) → (∀ q : Int, 0 ≤ q → q < k9 → VL 4 q = 0) → ∀ (H : Heap) (locs : List Loc) (ls : Array Slot), gSat X σL H → va_S (gA X) ss.heap H locs → lv_has ls 5 [(2, .int (iI k9)), (0, .ref o), (1, .int (iI i))] → W pp l ee (gR 4 0 0 91) ss mm args below meth cd H locs 0 0 Q (F0 mm 15 ls []) := by
      intro nF
      induction nF with
      | zero => intro σL VL k9 hm; exact absurd hm (Nat.not_lt_zero _)
      | succ nF ih_15 =>
        intro σL VL k9 hm hML hkL hi15_2 hA hK3 hZ H locs ls hG hS hl
        refine lv_iload_n hx hb dX4_rank_15 rfl (lv_at hl 0 rfl) ?_
        refine g_bipush hx hb dX4_rank_16 (by decide) ?_
        refine g_icmp_gt (tgt := 34) hx hb dX4_rank_18 (by decide) (by omega) (by omega) (fun cq4 => ?_) (fun cq4 => ?_)
        · refine g_iconst hx hb dX4_rank_34 ?_
          refine lv_istore_n (lv' := [(2, .int (iI 0)), (0, .ref o), (1, .int (iI i))]) hx hb dX4_rank_35 rfl hl (by decide) rfl (fun ls hl => ?_)
          have loop_36 : ∀ (nF : Nat) (σM : gS) (VM : Nat → Int → Int) (sp : Int), ((1024 - sp).toNat : Nat) < nF → (MW X σM o a VM I3) → (gKeep (fun t => t = 10) σ σM) → (0 ≤ sp ∧ sp ≤ 1024) → (∀ q, q ≠ 3 → q ≠ 4 → VM q = V q) → (∀ q : Int, 0 ≤ q → q < 1024 → VM 3 q = kepZ (V 0) (q / 32) (q % 32)) → (∀ q : Int, 0 ≤ q → q < 32 → VM 4 q = ((fibL (V 0) q sp.toNat).length : Int)) → ∀ (H : Heap) (locs : List Loc) (ls : Array Slot), gSat X σM H → va_S (gA X) ss.heap H locs → lv_has ls 5 [(2, .int (iI sp)), (0, .ref o), (1, .int (iI i))] → W pp l ee (gR 4 0 0 91) ss mm args below meth cd H locs 0 0 Q (F0 mm 36 ls []) := by
            intro nF
            induction nF with
            | zero => intro σM VM sp hm; exact absurd hm (Nat.not_lt_zero _)
            | succ nF ih_36 =>
              intro σM VM sp hm hMM hkM hi36_2 hAM hK3M hSz H locs ls hG hS hl
              refine lv_iload_n hx hb dX4_rank_36 rfl (lv_at hl 0 rfl) ?_
              refine g_sipush hx hb dX4_rank_37 (by decide) ?_
              refine g_icmp_ge (tgt := 75) hx hb dX4_rank_40 (by decide) (by omega) (by omega) (fun cq5 => ?_) (fun cq5 => ?_)
              · refine g_iconst hx hb dX4_rank_75 ?_
                refine lv_istore_n (lv' := [(2, .int (iI 0)), (0, .ref o), (1, .int (iI i))]) hx hb dX4_rank_76 rfl hl (by decide) rfl (fun ls hl => ?_)
                have loop_77 : ∀ (nF : Nat) (k9 : Int), ((32 - k9).toNat : Nat) < nF → (0 ≤ k9 ∧ k9 ≤ 32) → (∀ q : Int, 0 ≤ q → q < k9 → ¬ ahA (szZ (V 0)) q 32 = i) → ∀ (H : Heap) (locs : List Loc) (ls : Array Slot), gSat X σM H → va_S (gA X) ss.heap H locs → lv_has ls 5 [(2, .int (iI k9)), (0, .ref o), (1, .int (iI i))] → W pp l ee (gR 4 0 0 91) ss mm args below meth cd H locs 0 0 Q (F0 mm 77 ls []) := by
                  intro nF
                  induction nF with
                  | zero => intro k9 hm; exact absurd hm (Nat.not_lt_zero _)
                  | succ nF ih_77 =>
                    intro k9 hm hi77_0 hno H locs ls hG hS hl
                    refine lv_iload_n hx hb dX4_rank_77 rfl (lv_at hl 0 rfl) ?_
                    refine g_bipush hx hb dX4_rank_78 (by decide) ?_
                    refine g_icmp_gt (tgt := 160) hx hb dX4_rank_80 (by decide) (by omega) (by omega) (fun cq6 => ?_) (fun cq6 => ?_)
                    · refine g_iconst hx hb dX4_rank_160 ?_
                      exact g_iret hx hb hr hlocks hQ hG hS (Nat.zero_le _) (Nat.zero_le _) ⟨_, rfl, VM, I3, hMM, hkM, (⟨Or.inr (Or.inl ⟨by omega, rfl, fun q h1 h2 => hno q h1 (by omega)⟩), hAM, hrel3.2.2⟩)⟩ dX4_rank_161
                    · refine g_iconst hx hb dX4_rank_83 ?_
                      refine lv_istore_n (lv' := [(3, .int (iI 0)), (2, .int (iI k9)), (0, .ref o), (1, .int (iI i))]) hx hb dX4_rank_84 rfl hl (by decide) rfl (fun ls hl => ?_)
                      refine g_iconst hx hb dX4_rank_85 ?_
                      refine lv_istore (lv' := [(4, .int (iI 0)), (3, .int (iI 0)), (2, .int (iI k9)), (0, .ref o), (1, .int (iI i))]) hx hb dX4_rank_86 hl (by decide) rfl (fun ls hl => ?_)
                      have loop_88 : ∀ (nF : Nat) (a9 : Int) (o9 : Int), ((32 - o9).toNat : Nat) < nF → (0 ≤ o9 ∧ o9 ≤ 32) → (a9 = ahA (szZ (V 0)) k9 o9.toNat) → ∀ (H : Heap) (locs : List Loc) (ls : Array Slot), gSat X σM H → va_S (gA X) ss.heap H locs → lv_has ls 5 [(4, .int (iI o9)), (3, .int (iI a9)), (2, .int (iI k9)), (0, .ref o), (1, .int (iI i))] → W pp l ee (gR 4 0 0 91) ss mm args below meth cd H locs 0 0 Q (F0 mm 88 ls []) := by
                        intro nF
                        induction nF with
                        | zero => intro a9 o9 hm; exact absurd hm (Nat.not_lt_zero _)
                        | succ nF ih_88 =>
                          intro a9 o9 hm hi88_0 ha H locs ls hG hS hl
                          have har := ahA_r (szZ (V 0)) k9 o9.toNat
                          refine lv_iload hx hb dX4_rank_88 (lv_at hl 0 rfl) ?_
                          refine g_bipush hx hb dX4_rank_90 (by decide) ?_
                          refine g_icmp_gt (tgt := 147) hx hb dX4_rank_92 (by decide) (by omega) (by omega) (fun cq7 => ?_) (fun cq7 => ?_)
                          · refine lv_iload_n hx hb dX4_rank_147 rfl (lv_at hl 1 rfl) ?_
                            refine lv_iload_n hx hb dX4_rank_148 rfl (lv_at hl 4 rfl) ?_
                            refine g_icmp_ne (tgt := 154) hx hb dX4_rank_149 (by decide) (by omega) (by omega) (fun cq8 => ?_) (fun cq8 => ?_)
                            · refine g_iinc (lv' := [(2, .int (iI (k9 + 1))), (4, .int (iI o9)), (3, .int (iI a9)), (0, .ref o), (1, .int (iI i))]) hx hb dX4_rank_154 hl (k := 2) rfl (by decide) rfl (fun ls hl => ?_)
                              refine lv_goto (tgt := 77) hx hb dX4_rank_157 (by decide) ?_
                              exact ih_77 (k9 + 1) (by omega) (by omega) (fun q h1 h2 => by by_cases hq : q = k9; (rw [hq, show 32 = o9.toNat by omega, ← ha]; assumption); exact hno q h1 (by omega))  _ _ _ hG hS (lv_sub hl [0, 3, 4] rfl)
                            · refine lv_iload_n hx hb dX4_rank_152 rfl (lv_at hl 2 rfl) ?_
                              exact g_iret hx hb hr hlocks hQ hG hS (Nat.zero_le _) (Nat.zero_le _) ⟨_, rfl, VM, I3, hMM, hkM, (⟨Or.inl ⟨by omega, by omega, by rw [show 32 = o9.toNat by omega, ← ha]; omega⟩, hAM, hrel3.2.2⟩)⟩ dX4_rank_153
                          · refine lv_iload_n hx hb dX4_rank_95 rfl (lv_at hl 1 rfl) ?_
                            refine lv_aload_n hx hb dX4_rank_96 rfl (lv_at hl 3 rfl) ?_
                            refine g_get (C := RX4) (T := TX4) (N := 30) (v := .ref (a 4)) hx hb hts hown hK hG hMM.o rfl in_X4 4 (by decide) q1962 rfl rfl dX4_rank_97 ?_
                            refine lv_iload hx hb dX4_rank_100 (lv_at hl 0 rfl) ?_
                            refine g_iald hx hb hK hG hMM.a4 dX4_rank_102 (by omega) ?_
                            refine g_rw (b := (szZ (V 0) o9)) (by rw [hSz o9 (by omega) (by omega), show sp.toNat = 1024 by omega]; rfl) ?_
                            have hz9 := szZ_r (V 0) o9
                            refine lv_aload_n hx hb dX4_rank_103 rfl (lv_at hl 3 rfl) ?_
                            refine g_get (C := RX4) (T := TX4) (N := 30) (v := .ref (a 4)) hx hb hts hown hK hG hMM.o rfl in_X4 4 (by decide) q1962 rfl rfl dX4_rank_104 ?_
                            refine lv_iload_n hx hb dX4_rank_107 rfl (lv_at hl 2 rfl) ?_
                            refine g_iald hx hb hK hG hMM.a4 dX4_rank_108 (by omega) ?_
                            refine g_rw (b := (szZ (V 0) k9)) (by rw [hSz k9 (by omega) (by omega), show sp.toNat = 1024 by omega]; rfl) ?_
                            have hz10 := szZ_r (V 0) k9
                            refine g_icmp_gt (tgt := 134) hx hb dX4_rank_109 (by decide) (by omega) (by omega) (fun cq11 => ?_) (fun cq11 => ?_)
                            · refine g_iconst hx hb dX4_rank_134 ?_
                              refine lv_goto (tgt := 139) hx hb dX4_rank_135 (by decide) ?_
                              refine g_iadd hx hb dX4_rank_139 ?_
                              refine lv_istore_n (lv' := [(3, .int (iI (a9 + 1))), (4, .int (iI o9)), (2, .int (iI k9)), (0, .ref o), (1, .int (iI i))]) hx hb dX4_rank_140 rfl hl (by decide) rfl (fun ls hl => ?_)
                              refine g_iinc (lv' := [(4, .int (iI (o9 + 1))), (3, .int (iI (a9 + 1))), (2, .int (iI k9)), (0, .ref o), (1, .int (iI i))]) hx hb dX4_rank_141 hl (k := 1) rfl (by decide) rfl (fun ls hl => ?_)
                              refine lv_goto (tgt := 88) hx hb dX4_rank_144 (by decide) ?_
                              exact ih_88 (a9 + 1) (o9 + 1) (by omega) (by omega) (by rw [show (o9 + 1).toNat = o9.toNat + 1 by omega, ahA, ← ha, show ((o9.toNat : Nat) : Int) = o9 by omega]; first | rw [if_pos (by omega)] | rw [if_neg (by omega)])  _ _ _ hG hS (lv_sub hl [0, 1, 2, 3, 4] rfl)
                            · refine lv_aload_n hx hb dX4_rank_112 rfl (lv_at hl 3 rfl) ?_
                              refine g_get (C := RX4) (T := TX4) (N := 30) (v := .ref (a 4)) hx hb hts hown hK hG hMM.o rfl in_X4 4 (by decide) q1962 rfl rfl dX4_rank_113 ?_
                              refine lv_iload hx hb dX4_rank_116 (lv_at hl 0 rfl) ?_
                              refine g_iald hx hb hK hG hMM.a4 dX4_rank_118 (by omega) ?_
                              refine g_rw (b := (szZ (V 0) o9)) (by rw [hSz o9 (by omega) (by omega), show sp.toNat = 1024 by omega]; rfl) ?_
                              have hz12 := szZ_r (V 0) o9
                              refine lv_aload_n hx hb dX4_rank_119 rfl (lv_at hl 3 rfl) ?_
                              refine g_get (C := RX4) (T := TX4) (N := 30) (v := .ref (a 4)) hx hb hts hown hK hG hMM.o rfl in_X4 4 (by decide) q1962 rfl rfl dX4_rank_120 ?_
                              refine lv_iload_n hx hb dX4_rank_123 rfl (lv_at hl 2 rfl) ?_
                              refine g_iald hx hb hK hG hMM.a4 dX4_rank_124 (by omega) ?_
                              refine g_rw (b := (szZ (V 0) k9)) (by rw [hSz k9 (by omega) (by omega), show sp.toNat = 1024 by omega]; rfl) ?_
                              have hz13 := szZ_r (V 0) k9
                              refine g_icmp_ne (tgt := 138) hx hb dX4_rank_125 (by decide) (by omega) (by omega) (fun cq14 => ?_) (fun cq14 => ?_)
                              · refine g_iconst hx hb dX4_rank_138 ?_
                                refine g_iadd hx hb dX4_rank_139 ?_
                                refine lv_istore_n (lv' := [(3, .int (iI (a9 + 0))), (4, .int (iI o9)), (2, .int (iI k9)), (0, .ref o), (1, .int (iI i))]) hx hb dX4_rank_140 rfl hl (by decide) rfl (fun ls hl => ?_)
                                refine g_iinc (lv' := [(4, .int (iI (o9 + 1))), (3, .int (iI (a9 + 0))), (2, .int (iI k9)), (0, .ref o), (1, .int (iI i))]) hx hb dX4_rank_141 hl (k := 1) rfl (by decide) rfl (fun ls hl => ?_)
                                refine lv_goto (tgt := 88) hx hb dX4_rank_144 (by decide) ?_
                                exact ih_88 (a9 + 0) (o9 + 1) (by omega) (by omega) (by rw [show (o9 + 1).toNat = o9.toNat + 1 by omega, ahA, ← ha, show ((o9.toNat : Nat) : Int) = o9 by omega]; first | rw [if_pos (by omega)] | rw [if_neg (by omega)])  _ _ _ hG hS (lv_sub hl [0, 1, 2, 3, 4] rfl)
                              · refine lv_iload hx hb dX4_rank_128 (lv_at hl 0 rfl) ?_
                                refine lv_iload_n hx hb dX4_rank_130 rfl (lv_at hl 2 rfl) ?_
                                refine g_icmp_ge (tgt := 138) hx hb dX4_rank_131 (by decide) (by omega) (by omega) (fun cq15 => ?_) (fun cq15 => ?_)
                                · refine g_iconst hx hb dX4_rank_138 ?_
                                  refine g_iadd hx hb dX4_rank_139 ?_
                                  refine lv_istore_n (lv' := [(3, .int (iI (a9 + 0))), (4, .int (iI o9)), (2, .int (iI k9)), (0, .ref o), (1, .int (iI i))]) hx hb dX4_rank_140 rfl hl (by decide) rfl (fun ls hl => ?_)
                                  refine g_iinc (lv' := [(4, .int (iI (o9 + 1))), (3, .int (iI (a9 + 0))), (2, .int (iI k9)), (0, .ref o), (1, .int (iI i))]) hx hb dX4_rank_141 hl (k := 1) rfl (by decide) rfl (fun ls hl => ?_)
                                  refine lv_goto (tgt := 88) hx hb dX4_rank_144 (by decide) ?_
                                  exact ih_88 (a9 + 0) (o9 + 1) (by omega) (by omega) (by rw [show (o9 + 1).toNat = o9.toNat + 1 by omega, ahA, ← ha, show ((o9.toNat : Nat) : Int) = o9 by omega]; first | rw [if_pos (by omega)] | rw [if_neg (by omega)])  _ _ _ hG hS (lv_sub hl [0, 1, 2, 3, 4] rfl)
                                · refine g_iconst hx hb dX4_rank_134 ?_
                                  refine lv_goto (tgt := 139) hx hb dX4_rank_135 (by decide) ?_
                                  refine g_iadd hx hb dX4_rank_139 ?_
                                  refine lv_istore_n (lv' := [(3, .int (iI (a9 + 1))), (4, .int (iI o9)), (2, .int (iI k9)), (0, .ref o), (1, .int (iI i))]) hx hb dX4_rank_140 rfl hl (by decide) rfl (fun ls hl => ?_)
                                  refine g_iinc (lv' := [(4, .int (iI (o9 + 1))), (3, .int (iI (a9 + 1))), (2, .int (iI k9)), (0, .ref o), (1, .int (iI i))]) hx hb dX4_rank_141 hl (k := 1) rfl (by decide) rfl (fun ls hl => ?_)
                                  refine lv_goto (tgt := 88) hx hb dX4_rank_144 (by decide) ?_
                                  exact ih_88 (a9 + 1) (o9 + 1) (by omega) (by omega) (by rw [show (o9 + 1).toNat = o9.toNat + 1 by omega, ahA, ← ha, show ((o9.toNat : Nat) : Int) = o9 by omega]; first | rw [if_pos (by omega)] | rw [if_neg (by omega)])  _ _ _ hG hS (lv_sub hl [0, 1, 2, 3, 4] rfl)
                      exact loop_88 _ 0 0 (Nat.lt_succ_self _) (by omega) (rfl)  _ _ _ hG hS (lv_sub hl [0, 1, 2, 3, 4] rfl)
                exact loop_77 _ 0 (Nat.lt_succ_self _) (by omega) (fun q h1 h2 => by omega)  _ _ _ hG hS (lv_sub hl [0, 1, 2] rfl)
              · refine lv_aload_n hx hb dX4_rank_43 rfl (lv_at hl 1 rfl) ?_
                refine g_get (C := RX4) (T := TX4) (N := 30) (v := .ref (a 3)) hx hb hts hown hK hG hMM.o rfl in_X4 3 (by decide) q1961 rfl rfl dX4_rank_44 ?_
                refine lv_iload_n hx hb dX4_rank_47 rfl (lv_at hl 0 rfl) ?_
                refine g_iald hx hb hK hG hMM.a3 dX4_rank_48 (by omega) ?_
                refine g_name (fun wa ewa => ?_)
                have hwa : wa = kepZ (V 0) (sp / 32) (sp % 32) := by rw [ewa]; exact hK3M sp (by omega) (by omega)
                have hrwa := kepZ_r (V 0) (sp / 32) (sp % 32)
                rw [← hwa] at hrwa
                refine g_bipush hx hb dX4_rank_49 (by decide) ?_
                refine g_icmp_eq (tgt := 69) hx hb dX4_rank_51 (by decide) (by omega) (by omega) (fun cq16 => ?_) (fun cq16 => ?_)
                · refine g_iinc (lv' := [(2, .int (iI (sp + 1))), (0, .ref o), (1, .int (iI i))]) hx hb dX4_rank_69 hl (k := 0) rfl (by decide) rfl (fun ls hl => ?_)
                  refine lv_goto (tgt := 36) hx hb dX4_rank_72 (by decide) ?_
                  exact ih_36 σM VM (sp + 1) (by omega) (hMM) (hkM) (by omega) (hAM) (hK3M) (fun q h1 h2 => by rw [show (sp + 1).toNat = sp.toNat + 1 by omega, fibL_n (x := sp / 32) (y := sp % 32) (by omega) (by omega) (by rw [← hwa]; omega)]; exact hSz q h1 h2)  _ _ _ hG hS (lv_sub hl [0, 1, 2] rfl)
                · refine lv_aload_n hx hb dX4_rank_54 rfl (lv_at hl 1 rfl) ?_
                  refine g_get (C := RX4) (T := TX4) (N := 30) (v := .ref (a 4)) hx hb hts hown hK hG hMM.o rfl in_X4 4 (by decide) q1962 rfl rfl dX4_rank_55 ?_
                  refine lv_aload_n hx hb dX4_rank_58 rfl (lv_at hl 1 rfl) ?_
                  refine g_get (C := RX4) (T := TX4) (N := 30) (v := .ref (a 3)) hx hb hts hown hK hG hMM.o rfl in_X4 3 (by decide) q1961 rfl rfl dX4_rank_59 ?_
                  refine lv_iload_n hx hb dX4_rank_62 rfl (lv_at hl 0 rfl) ?_
                  refine g_iald hx hb hK hG hMM.a3 dX4_rank_63 (by omega) ?_
                  refine g_name (fun wb ewb => ?_)
                  have hwb : wb = kepZ (V 0) (sp / 32) (sp % 32) := by rw [ewb]; exact hK3M sp (by omega) (by omega)
                  have hrwb := kepZ_r (V 0) (sp / 32) (sp % 32)
                  rw [← hwb] at hrwb
                  refine lv_dup2_11 hx hb dX4_rank_64 rfl rfl ?_
                  refine g_iald hx hb hK hG hMM.a4 dX4_rank_65 (by omega) ?_
                  refine g_iconst hx hb dX4_rank_66 ?_
                  refine g_iadd hx hb dX4_rank_67 ?_
                  refine g_iast hx hb hK hG hS hMM.a4 dX4_rank_68 (by omega) (fun H locs hG hS => ?_)
                  obtain ⟨V17, eV17⟩ : ∃ J : Nat → Int → Int, J = va_up VM 4 (iup (VM 4) wb (((VM 4) wb) + 1)) := ⟨_, rfl⟩
                  have v4_17 : V17 4 = (iup (VM 4) wb (((VM 4) wb) + 1)) := by rw [eV17, va_up_self]
                  have fV17 : ∀ j, j ≠ 4 → V17 j = VM j := fun j hj => by rw [eV17, va_up_ne _ _ hj]
                  have hM17 : MW X (gup σM (a 4) (10, gI (X.2.1 0) 32 (iup (VM 4) wb (((VM 4) wb) + 1)))) o a V17 I3 := by rw [eV17]; exact hMM.set 4 rfl _
                  have hkp17 : gKeep (fun t => t = 10) σ (gup σM (a 4) (10, gI (X.2.1 0) 32 (iup (VM 4) wb (((VM 4) wb) + 1)))) := hkM.tr (gKeep.up hMM.a4 rfl)
                  generalize (gup σM (a 4) (10, gI (X.2.1 0) 32 (iup (VM 4) wb (((VM 4) wb) + 1)))) = σ17 at hG hM17 hkp17
                  refine g_iinc (lv' := [(2, .int (iI (sp + 1))), (0, .ref o), (1, .int (iI i))]) hx hb dX4_rank_69 hl (k := 0) rfl (by decide) rfl (fun ls hl => ?_)
                  refine lv_goto (tgt := 36) hx hb dX4_rank_72 (by decide) ?_
                  exact ih_36 σ17 V17 (sp + 1) (by omega) (hM17) (hkp17) (by omega) (fun q h1 h2 => (fV17 q h2).trans (hAM q h1 h2)) (by rw [fV17 3 (by decide)]; exact hK3M) (fun q h1 h2 => by rw [show (sp + 1).toNat = sp.toNat + 1 by omega, v4_17]; by_cases hq : q = wb; (rw [hq, iup_s, fibL_y (x := sp / 32) (y := sp % 32) (by omega) (by omega) hwb.symm, List.length_append, ← hq, hSz q h1 h2]; simp); (rw [iup_n hq, fibL_n (x := sp / 32) (y := sp % 32) (by omega) (by omega) (by rw [← hwb]; exact fun z => hq z.symm)]; exact hSz q h1 h2))  _ _ _ hG hS (lv_sub hl [0, 1, 2] rfl)
          exact loop_36 _ σL VL 0 (Nat.lt_succ_self _) (hML) (hkL) (by omega) (hA) (hK3) (fun q h1 h2 => by rw [hZ q h1 (by omega)]; rfl)  _ _ _ hG hS (lv_sub hl [0, 1, 2] rfl)
        · refine lv_aload_n hx hb dX4_rank_21 rfl (lv_at hl 1 rfl) ?_
          refine g_get (C := RX4) (T := TX4) (N := 30) (v := .ref (a 4)) hx hb hts hown hK hG hML.o rfl in_X4 4 (by decide) q1962 rfl rfl dX4_rank_22 ?_
          refine lv_iload_n hx hb dX4_rank_25 rfl (lv_at hl 0 rfl) ?_
          refine g_iconst hx hb dX4_rank_26 ?_
          refine g_iast hx hb hK hG hS hML.a4 dX4_rank_27 (by omega) (fun H locs hG hS => ?_)
          obtain ⟨V18, eV18⟩ : ∃ J : Nat → Int → Int, J = va_up VL 4 (iup (VL 4) k9 0) := ⟨_, rfl⟩
          have v4_18 : V18 4 = (iup (VL 4) k9 0) := by rw [eV18, va_up_self]
          have fV18 : ∀ j, j ≠ 4 → V18 j = VL j := fun j hj => by rw [eV18, va_up_ne _ _ hj]
          have hM18 : MW X (gup σL (a 4) (10, gI (X.2.1 0) 32 (iup (VL 4) k9 0))) o a V18 I3 := by rw [eV18]; exact hML.set 4 rfl _
          have hkp18 : gKeep (fun t => t = 10) σ (gup σL (a 4) (10, gI (X.2.1 0) 32 (iup (VL 4) k9 0))) := hkL.tr (gKeep.up hML.a4 rfl)
          generalize (gup σL (a 4) (10, gI (X.2.1 0) 32 (iup (VL 4) k9 0))) = σ18 at hG hM18 hkp18
          refine g_iinc (lv' := [(2, .int (iI (k9 + 1))), (0, .ref o), (1, .int (iI i))]) hx hb dX4_rank_28 hl (k := 0) rfl (by decide) rfl (fun ls hl => ?_)
          refine lv_goto (tgt := 15) hx hb dX4_rank_31 (by decide) ?_
          exact ih_15 σ18 V18 (k9 + 1) (by omega) (hM18) (hkp18) (by omega) (fun q h1 h2 => (fV18 q h2).trans (hA q h1 h2)) (by rw [fV18 3 (by decide)]; exact hK3) (fun q h1 h2 => by rw [v4_18]; by_cases hq : q = k9; (rw [hq, iup_s]); (rw [iup_n hq]; exact hZ q h1 (by omega)))  _ _ _ hG hS (lv_sub hl [0, 1, 2] rfl)
    exact loop_15 _ σr3 V3 0 (Nat.lt_succ_self _) (hM3) (hkp3) (by omega) (fun q h1 h2 => hrel3.1 q h1) (hrel3.2.1) (fun q h1 h2 => by omega)  _ _ _ hG hS (lv_sub hl [0, 1, 2] rfl)
  · refine g_iconst hx hb dX4_rank_7 ?_
    exact g_iret hx hb hr hlocks hQ hG hS (Nat.zero_le _) (Nat.zero_le _) ⟨_, rfl, V, Iv, hM, hkp, (⟨Or.inr (Or.inr ⟨by omega, rfl⟩), fun q h1 h2 => rfl, rfl⟩)⟩ dX4_rank_8
