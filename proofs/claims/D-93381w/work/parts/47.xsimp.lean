theorem mX0_told_2 (l : Launch) (X : gX) (σ : gS)  (sp : Int) (k : Int) (h0 : sp = -7 ∨ (0 ≤ sp ∧ sp ≤ 1023)) (h1 : 0 ≤ k ∧ k ≤ 12) : gMet l X yX0_told_2 cX0_told_2 2 (some .int) 0 0 0 0 σ [.int (iI sp), .int (iI k)] (oI (fun r σ' => (r = jdD k sp ∧ (r = -1 ∨ (0 ≤ r ∧ r ≤ 31))) ∧ σ = σ')) := by
  refine gMet.of (by decide) (Nat.le_of_ble_eq_true rfl) ?_
  intro pp ee ss mm args below meth cd Q H locs ls hargs hx hb hr hlocks hml hown hnm hts hK hG hS hQ hl
  have hown : ss.vm.findClass RX0 = some mm.cls := hown
  have hl : lv_has ls 2 [(0, .int (iI sp)), (1, .int (iI k))] := hl
  refine lv_iload_n hx hb dX0_told_2_0 rfl (lv_at hl 0 rfl) ?_
  refine g_bipush hx hb dX0_told_2_1 (by decide) ?_
  refine g_icmp_ne (tgt := 10) hx hb dX0_told_2_3 (by decide) (by omega) (by omega) (fun cq1 => ?_) (fun cq1 => ?_)
  · refine lv_iload_n hx hb dX0_told_2_10 rfl (lv_at hl 1 rfl) ?_
    refine g_iconst hx hb dX0_told_2_11 ?_
    refine g_irem hx hb dX0_told_2_12 (by omega) (by omega) ?_
    refine g_if_ne (tgt := 23) hx hb dX0_told_2_13 (by decide) (by omega) (fun cq2 => ?_) (fun cq2 => ?_)
    · refine lv_iload_n hx hb dX0_told_2_23 rfl (lv_at hl 0 rfl) ?_
      refine g_bipush hx hb dX0_told_2_24 (by decide) ?_
      refine g_irem hx hb dX0_told_2_26 (by omega) (by omega) ?_
      exact g_iret hx hb hr hlocks hQ hG hS (Nat.zero_le _) (Nat.zero_le _) ⟨_, rfl, ⟨(by unfold jdD; repeat (first | rw [if_pos (by omega)] | rw [if_neg (by omega)])), (by omega)⟩, rfl⟩ dX0_told_2_27
    · refine lv_iload_n hx hb dX0_told_2_16 rfl (lv_at hl 0 rfl) ?_
      refine g_bipush hx hb dX0_told_2_17 (by decide) ?_
      refine g_idiv hx hb dX0_told_2_19 (by omega) (by omega) ?_
      refine lv_goto (tgt := 27) hx hb dX0_told_2_20 (by decide) ?_
      exact g_iret hx hb hr hlocks hQ hG hS (Nat.zero_le _) (Nat.zero_le _) ⟨_, rfl, ⟨(by unfold jdD; repeat (first | rw [if_pos (by omega)] | rw [if_neg (by omega)])), (by omega)⟩, rfl⟩ dX0_told_2_27
  · refine g_iconst hx hb dX0_told_2_6 ?_
    refine lv_goto (tgt := 27) hx hb dX0_told_2_7 (by decide) ?_
    exact g_iret hx hb hr hlocks hQ hG hS (Nat.zero_le _) (Nat.zero_le _) ⟨_, rfl, ⟨(by unfold jdD; repeat (first | rw [if_pos (by omega)] | rw [if_neg (by omega)])), (by omega)⟩, rfl⟩ dX0_told_2_27

theorem mX0_lowest (l : Launch) (X : gX) (σ : gS)  (p9 : Int) (q9 : Int) (w9 : Int) (h0 : 0 ≤ p9 ∧ p9 ≤ 30) (h1 : 1 ≤ q9 ∧ q9 ≤ 30) (h2 : 0 ≤ w9 ∧ w9 ≤ 1) : gMet l X yX0_lowest cX0_lowest 11 (some .long) 0 0 0 0 σ [.long (lI p9), .long (lI q9), .int (iI w9)] (oL (fun r σ' => r = lI ((if w9 = 0 then p9 else q9) / (Nat.gcd p9.toNat q9.toNat : Int)) ∧ σ = σ')) := by
  refine gMet.of (by decide) (Nat.le_of_ble_eq_true rfl) ?_
  intro pp ee ss mm args below meth cd Q H locs ls hargs hx hb hr hlocks hml hown hnm hts hK hG hS hQ hl
  have hown : ss.vm.findClass RX0 = some mm.cls := hown
  have hl : lv_has ls 11 [(0, .long (lI p9)), (2, .long (lI q9)), (4, .int (iI w9))] := hl
  refine lv_lload_n hx hb dX0_lowest_0 rfl (lv_at hl 0 rfl) ?_
  refine lv_lstore (lv' := [(5, .long (lI p9)), (0, .long (lI p9)), (2, .long (lI q9)), (4, .int (iI w9))]) hx hb dX0_lowest_1 hl (by decide) rfl (fun ls hl => ?_)
  refine lv_lload_n hx hb dX0_lowest_3 rfl (lv_at hl 2 rfl) ?_
  refine lv_lstore (lv' := [(7, .long (lI q9)), (5, .long (lI p9)), (0, .long (lI p9)), (2, .long (lI q9)), (4, .int (iI w9))]) hx hb dX0_lowest_4 hl (by decide) rfl (fun ls hl => ?_)
  have loop_6 : ∀ (nF : Nat) (a9 : Int) (b9 : Int), (b9.toNat : Nat) < nF → (0 ≤ a9 ∧ a9 ≤ 30) → (0 ≤ b9 ∧ b9 ≤ 30) → (Nat.gcd a9.toNat b9.toNat = Nat.gcd p9.toNat q9.toNat) → (0 < b9 ∨ 0 < a9) → ∀ (H : Heap) (locs : List Loc) (ls : Array Slot), gSat X σ H → va_S (gA X) ss.heap H locs → lv_has ls 11 [(7, .long (lI b9)), (5, .long (lI a9)), (0, .long (lI p9)), (2, .long (lI q9)), (4, .int (iI w9))] → W pp l ee (gR 0 0 0 0) ss mm args below meth cd H locs 0 0 Q (F0 mm 6 ls []) := by
    intro nF
    induction nF with
    | zero => intro a9 b9 hm; exact absurd hm (Nat.not_lt_zero _)
    | succ nF ih_6 =>
      intro a9 b9 hm hi6_0 hi6_1 hi6_2 hi6_3 H locs ls hG hS hl
      refine lv_lload hx hb dX0_lowest_6 (lv_at hl 0 rfl) ?_
      refine lv_lconst (v := lI 0) hx hb dX0_lowest_8 (by decide) ?_
      refine g_lcmp hx hb dX0_lowest_9 (by omega) (by omega) (fun z1 hz1 => ?_)
      refine g_if_eq (tgt := 31) hx hb dX0_lowest_10 (by decide) (by omega) (fun cq2 => ?_) (fun cq2 => ?_)
      · have hg9 : a9 = (Nat.gcd p9.toNat q9.toNat : Int) := by
          rw [← hi6_2, show b9 = 0 by omega]; simp; omega
        refine lv_iload hx hb dX0_lowest_31 (lv_at hl 4 rfl) ?_
        refine g_if_ne (tgt := 40) hx hb dX0_lowest_33 (by decide) (by omega) (fun cq3 => ?_) (fun cq3 => ?_)
        · refine lv_lload_n hx hb dX0_lowest_40 rfl (lv_at hl 3 rfl) ?_
          refine lv_lload hx hb dX0_lowest_41 (lv_at hl 1 rfl) ?_
          refine g_ldiv (a := q9) (b := a9) hx hb dX0_lowest_43 (by omega) (by omega) ?_
          exact g_lret hx hb hr hlocks hQ hG hS (Nat.zero_le _) (Nat.zero_le _) ⟨_, rfl, (by rw [← hg9, if_neg (by omega)]), rfl⟩ dX0_lowest_44
        · refine lv_lload_n hx hb dX0_lowest_36 rfl (lv_at hl 2 rfl) ?_
          refine lv_goto (tgt := 41) hx hb dX0_lowest_37 (by decide) ?_
          refine lv_lload hx hb dX0_lowest_41 (lv_at hl 1 rfl) ?_
          refine g_ldiv (a := p9) (b := a9) hx hb dX0_lowest_43 (by omega) (by omega) ?_
          exact g_lret hx hb hr hlocks hQ hG hS (Nat.zero_le _) (Nat.zero_le _) ⟨_, rfl, (by rw [← hg9, if_pos (by omega)]), rfl⟩ dX0_lowest_44
      · refine lv_lload hx hb dX0_lowest_13 (lv_at hl 1 rfl) ?_
        refine lv_lload hx hb dX0_lowest_15 (lv_at hl 0 rfl) ?_
        have hmd := md_lt a9 (b := b9) (by omega)
        refine g_lrem (a := a9) (b := b9) hx hb dX0_lowest_17 (by omega) (by omega) ?_
        refine lv_lstore (lv' := [(9, .long (lI (a9 % b9))), (7, .long (lI b9)), (5, .long (lI a9)), (0, .long (lI p9)), (2, .long (lI q9)), (4, .int (iI w9))]) hx hb dX0_lowest_18 hl (by decide) rfl (fun ls hl => ?_)
        refine lv_lload hx hb dX0_lowest_20 (lv_at hl 1 rfl) ?_
        refine lv_lstore (lv' := [(5, .long (lI b9)), (9, .long (lI (a9 % b9))), (7, .long (lI b9)), (0, .long (lI p9)), (2, .long (lI q9)), (4, .int (iI w9))]) hx hb dX0_lowest_22 hl (by decide) rfl (fun ls hl => ?_)
        refine lv_lload hx hb dX0_lowest_24 (lv_at hl 1 rfl) ?_
        refine lv_lstore (lv' := [(7, .long (lI (a9 % b9))), (5, .long (lI b9)), (9, .long (lI (a9 % b9))), (0, .long (lI p9)), (2, .long (lI q9)), (4, .int (iI w9))]) hx hb dX0_lowest_26 hl (by decide) rfl (fun ls hl => ?_)
        refine lv_goto (tgt := 6) hx hb dX0_lowest_28 (by decide) ?_
        exact ih_6 b9 (a9 % b9) (by omega) (by omega) (by have := md_lt a9 (b := b9) (by omega); omega) (by rw [← hi6_2]; exact Int.ofNat.inj (gcd_i a9 b9 (by omega) (by omega))) (by omega)  _ _ _ hG hS (lv_sub hl [0, 1, 3, 4, 5] rfl)
  exact loop_6 _ p9 q9 (Nat.lt_succ_self _) (by omega) (by omega) (rfl) (by omega)  _ _ _ hG hS (lv_sub hl [0, 1, 2, 3, 4] rfl)

set_option maxHeartbeats 4000000 in
theorem mX0_odds (l : Launch) (X : gX) (σ : gS) (b : Nat → Nat) (U : Nat → Int → Int) (J : Nat → Int) (R : Int → Option Nat) (hX : XW X σ b U J R) (hT : okT (U 20)) (k9 : Int) (seed : Int) (m9 : Int) (p9 : Int) (h0 : -2147483648 ≤ k9 ∧ k9 ≤ 2147483647) (h1 : -2147483648 ≤ seed ∧ seed ≤ 2147483647) (h2 : -2147483648 ≤ m9 ∧ m9 ≤ 2147483647) (h3 : -2147483648 ≤ p9 ∧ p9 ≤ 2147483647) : gMet l X yX0_odds cX0_odds 9 (some .long) 5 0 0 118 σ [.ref (b 0), .int (iI k9), .int (iI seed), .int (iI m9), .int (iI p9)] (oL (fun r σ' => r = (if (0 ≤ k9 ∧ k9 ≤ 31) ∧ (1 ≤ m9 ∧ m9 ≤ 30) ∧ (0 ≤ p9 ∧ p9 ≤ 1) then lI ((if p9 = 0 then oddA (U 20) k9 seed m9.toNat else m9) / (Nat.gcd m9.toNat (oddA (U 20) k9 seed m9.toNat).toNat : Int)) else noL) ∧ σ = σ')) := by
  refine gMet.of (by decide) (Nat.le_of_ble_eq_true rfl) ?_
  intro pp ee ss mm args below meth cd Q H locs ls hargs hx hb hr hlocks hml hown hnm hts hK hG hS hQ hl
  have hown : ss.vm.findClass RX0 = some mm.cls := hown
  have hl : lv_has ls 9 [(0, .ref (b 0)), (1, .int (iI k9)), (2, .int (iI seed)), (3, .int (iI m9)), (4, .int (iI p9))] := hl
  refine lv_iload_n hx hb dX0_odds_0 rfl (lv_at hl 1 rfl) ?_
  refine g_callS (As := [.int (iI k9)]) (rest := []) 1 hx hb hml hown hts hK hG hS hl.1 (mX0_isCoordinate l X σ  k9 (by omega)) q594 q595 q69 q596 (by decide +kernel) rfl ⟨Nat.le_of_ble_eq_true rfl, Nat.le_of_ble_eq_true rfl⟩ ⟨Nat.le_of_ble_eq_true rfl, Nat.le_of_ble_eq_true rfl⟩ (Nat.le_of_ble_eq_true rfl) dX0_odds_1 (kI (fun r1 σr1 H locs hp hG hS => ?_))
  obtain ⟨hr1, rfl⟩ := hp
  refine g_if_eq (tgt := 30) hx hb dX0_odds_4 (by decide) (by omega) (fun cq2 => ?_) (fun cq2 => ?_)
  · refine g_ldc2 hx hb (-9223372036854775808) hown (hts _ q625) (by decide) dX0_odds_30 ?_
    exact g_lret hx hb hr hlocks hQ hG hS (Nat.zero_le _) (Nat.zero_le _) ⟨_, rfl, (by rw [if_neg (by omega)]; rfl), rfl⟩ dX0_odds_33
  · refine lv_iload_n hx hb dX0_odds_7 rfl (lv_at hl 3 rfl) ?_
    refine g_i2l hx hb dX0_odds_8 (by omega) ?_
    refine lv_lconst (v := lI 1) hx hb dX0_odds_9 (by decide) ?_
    refine g_ldc2 hx hb (30) hown (hts _ q504) (by decide) dX0_odds_10 ?_
    refine g_callS (As := [.long (lI m9), .long (lI 1), .long (lI (30))]) (rest := []) 3 hx hb hml hown hts hK hG hS hl.1 (mX0_isIn l X σ  m9 1 (30) (by omega) (by omega) (by omega)) q494 q495 q69 q496 (by decide +kernel) rfl ⟨Nat.le_of_ble_eq_true rfl, Nat.le_of_ble_eq_true rfl⟩ ⟨Nat.le_of_ble_eq_true rfl, Nat.le_of_ble_eq_true rfl⟩ (Nat.le_of_ble_eq_true rfl) dX0_odds_13 (kI (fun r3 σr3 H locs hp hG hS => ?_))
    obtain ⟨hr3, rfl⟩ := hp
    refine g_if_eq (tgt := 30) hx hb dX0_odds_16 (by decide) (by omega) (fun cq4 => ?_) (fun cq4 => ?_)
    · refine g_ldc2 hx hb (-9223372036854775808) hown (hts _ q625) (by decide) dX0_odds_30 ?_
      exact g_lret hx hb hr hlocks hQ hG hS (Nat.zero_le _) (Nat.zero_le _) ⟨_, rfl, (by rw [if_neg (by omega)]; rfl), rfl⟩ dX0_odds_33
    · refine lv_iload hx hb dX0_odds_19 (lv_at hl 4 rfl) ?_
      refine g_i2l hx hb dX0_odds_21 (by omega) ?_
      refine lv_lconst (v := lI 0) hx hb dX0_odds_22 (by decide) ?_
      refine lv_lconst (v := lI 1) hx hb dX0_odds_23 (by decide) ?_
      refine g_callS (As := [.long (lI p9), .long (lI 0), .long (lI 1)]) (rest := []) 3 hx hb hml hown hts hK hG hS hl.1 (mX0_isIn l X σ  p9 0 1 (by omega) (by omega) (by omega)) q494 q495 q69 q496 (by decide +kernel) rfl ⟨Nat.le_of_ble_eq_true rfl, Nat.le_of_ble_eq_true rfl⟩ ⟨Nat.le_of_ble_eq_true rfl, Nat.le_of_ble_eq_true rfl⟩ (Nat.le_of_ble_eq_true rfl) dX0_odds_24 (kI (fun r5 σr5 H locs hp hG hS => ?_))
      obtain ⟨hr5, rfl⟩ := hp
      refine g_if_ne (tgt := 34) hx hb dX0_odds_27 (by decide) (by omega) (fun cq6 => ?_) (fun cq6 => ?_)
      · refine g_iconst hx hb dX0_odds_34 ?_
        refine lv_istore (lv' := [(5, .int (iI 0)), (0, .ref (b 0)), (1, .int (iI k9)), (2, .int (iI seed)), (3, .int (iI m9)), (4, .int (iI p9))]) hx hb dX0_odds_35 hl (by decide) rfl (fun ls hl => ?_)
        refine g_iconst hx hb dX0_odds_37 ?_
        refine lv_istore (lv' := [(6, .int (iI 0)), (5, .int (iI 0)), (0, .ref (b 0)), (1, .int (iI k9)), (2, .int (iI seed)), (3, .int (iI m9)), (4, .int (iI p9))]) hx hb dX0_odds_38 hl (by decide) rfl (fun ls hl => ?_)
        have loop_40 : ∀ (nF : Nat) (so9 : Int) (s9 : Int) (k : Nat), (30 - k : Nat) < nF → (s9 = (k : Int)) → (s9 ≤ m9) → (so9 = oddA (U 20) k9 seed k) → ∀ (H : Heap) (locs : List Loc) (ls : Array Slot), gSat X σ H → va_S (gA X) ss.heap H locs → lv_has ls 9 [(6, .int (iI s9)), (5, .int (iI so9)), (0, .ref (b 0)), (1, .int (iI k9)), (2, .int (iI seed)), (3, .int (iI m9)), (4, .int (iI p9))] → W pp l ee (gR 5 0 0 118) ss mm args below meth cd H locs 0 0 Q (F0 mm 40 ls []) := by
          intro nF
          induction nF with
          | zero => intro so9 s9 k hm; exact absurd hm (Nat.not_lt_zero _)
          | succ nF ih_40 =>
            intro so9 s9 k hm hi40_0 hi40_1 hi40_2 H locs ls hG hS hl
            have hor := oddA_r (U 20) k9 seed k
            refine lv_iload hx hb dX0_odds_40 (lv_at hl 0 rfl) ?_
            refine lv_iload_n hx hb dX0_odds_42 rfl (lv_at hl 5 rfl) ?_
            refine g_icmp_ge (tgt := 116) hx hb dX0_odds_43 (by decide) (by omega) (by omega) (fun cq7 => ?_) (fun cq7 => ?_)
            · refine lv_iload hx hb dX0_odds_116 (lv_at hl 1 rfl) ?_
              refine g_i2l hx hb dX0_odds_118 (by omega) ?_
              refine lv_iload_n hx hb dX0_odds_119 rfl (lv_at hl 5 rfl) ?_
              refine g_i2l hx hb dX0_odds_120 (by omega) ?_
              refine lv_iload hx hb dX0_odds_121 (lv_at hl 6 rfl) ?_
              refine g_callS (As := [.long (lI so9), .long (lI m9), .int (iI p9)]) (rest := []) 3 hx hb hml hown hts hK hG hS hl.1 (mX0_lowest l X σ  so9 m9 p9 (by omega) (by omega) (by omega)) q1618 q1619 q69 q1620 (by decide +kernel) rfl ⟨Nat.le_of_ble_eq_true rfl, Nat.le_of_ble_eq_true rfl⟩ ⟨Nat.le_of_ble_eq_true rfl, Nat.le_of_ble_eq_true rfl⟩ (Nat.le_of_ble_eq_true rfl) dX0_odds_123 (kL (fun r8 σr8 H locs hp hG hS => ?_))
              obtain ⟨hr8, rfl⟩ := hp
              exact g_lret hx hb hr hlocks hQ hG hS (Nat.zero_le _) (Nat.zero_le _) ⟨_, rfl, (by rw [if_pos (by omega), show oddA (U 20) k9 seed m9.toNat = so9 by rw [hi40_2, show m9.toNat = k by omega], hr8, Nat.gcd_comm]), rfl⟩ dX0_odds_126
            · refine lv_iload_n hx hb dX0_odds_46 rfl (lv_at hl 4 rfl) ?_
              refine lv_iload hx hb dX0_odds_47 (lv_at hl 0 rfl) ?_
              refine g_iadd hx hb dX0_odds_49 ?_
              refine g_ldcw hx hb (1103515245) hown (hts _ q1617) (by decide) dX0_odds_50 ?_
              refine g_imul hx hb dX0_odds_53 ?_
              refine g_sipush hx hb dX0_odds_54 (by decide) ?_
              refine g_iadd hx hb dX0_odds_57 ?_
              refine lv_istore (lv' := [(7, .int (iI (((seed + s9) * 1103515245) + 12345))), (6, .int (iI s9)), (5, .int (iI so9)), (0, .ref (b 0)), (1, .int (iI k9)), (2, .int (iI seed)), (3, .int (iI m9)), (4, .int (iI p9))]) hx hb dX0_odds_58 hl (by decide) rfl (fun ls hl => ?_)
              refine lv_iload hx hb dX0_odds_60 (lv_at hl 0 rfl) ?_
              refine g_bipush hx hb dX0_odds_62 (by decide) ?_
              refine lv_iushr hx hb dX0_odds_64 (iI_d16 _) ?_
              have hd9 := d16_r (((seed + s9) * 1103515245) + 12345)
              refine g_bipush hx hb dX0_odds_65 (by decide) ?_
              refine g_irem hx hb dX0_odds_67 (by omega) (by omega) ?_
              refine lv_istore (lv' := [(8, .int (iI ((d16 (((seed + s9) * 1103515245) + 12345)) % 32))), (7, .int (iI (((seed + s9) * 1103515245) + 12345))), (6, .int (iI s9)), (5, .int (iI so9)), (0, .ref (b 0)), (1, .int (iI k9)), (2, .int (iI seed)), (3, .int (iI m9)), (4, .int (iI p9))]) hx hb dX0_odds_68 hl (by decide) rfl (fun ls hl => ?_)
              refine lv_iload hx hb dX0_odds_70 (lv_at hl 1 rfl) ?_
              refine g_ldcw hx hb (1103515245) hown (hts _ q1617) (by decide) dX0_odds_72 ?_
              refine g_imul hx hb dX0_odds_75 ?_
              refine g_sipush hx hb dX0_odds_76 (by decide) ?_
              refine g_iadd hx hb dX0_odds_79 ?_
              refine lv_istore (lv' := [(7, .int (iI (((((seed + s9) * 1103515245) + 12345) * 1103515245) + 12345))), (8, .int (iI ((d16 (((seed + s9) * 1103515245) + 12345)) % 32))), (6, .int (iI s9)), (5, .int (iI so9)), (0, .ref (b 0)), (1, .int (iI k9)), (2, .int (iI seed)), (3, .int (iI m9)), (4, .int (iI p9))]) hx hb dX0_odds_80 hl (by decide) rfl (fun ls hl => ?_)
              refine lv_iload hx hb dX0_odds_82 (lv_at hl 3 rfl) ?_
              refine lv_aload_n hx hb dX0_odds_84 rfl (lv_at hl 4 rfl) ?_
              refine lv_iload hx hb dX0_odds_85 (lv_at hl 1 rfl) ?_
              refine lv_iload hx hb dX0_odds_87 (lv_at hl 0 rfl) ?_
              refine g_bipush hx hb dX0_odds_89 (by decide) ?_
              refine lv_iushr hx hb dX0_odds_91 (iI_d16 _) ?_
              have hd10 := d16_r (((((seed + s9) * 1103515245) + 12345) * 1103515245) + 12345)
              refine g_bipush hx hb dX0_odds_92 (by decide) ?_
              refine g_irem hx hb dX0_odds_94 (by omega) (by omega) ?_
              refine g_callV (As := [.int (iI ((d16 (((seed + s9) * 1103515245) + 12345)) % 32)), .int (iI ((d16 (((((seed + s9) * 1103515245) + 12345) * 1103515245) + 12345)) % 32))]) (rest := [.int (iI so9)]) 2 hx hb hml hown hts hK hG hS hl.1 (mX0_keptAt l X σ b U J R hX hT ((d16 (((seed + s9) * 1103515245) + 12345)) % 32) ((d16 (((((seed + s9) * 1103515245) + 12345) * 1103515245) + 12345)) % 32) (by omega) (by omega)) hX.c0 rfl q606 q608 qs18 q69 q609 (by decide +kernel) rfl ⟨Nat.le_of_ble_eq_true rfl, Nat.le_of_ble_eq_true rfl⟩ ⟨Nat.le_of_ble_eq_true rfl, Nat.le_of_ble_eq_true rfl⟩ (Nat.le_of_ble_eq_true rfl) dX0_odds_95 (kI (fun r11 σr11 H locs hp hG hS => ?_))
              obtain ⟨⟨hr11, kr11⟩, rfl⟩ := hp
              refine lv_iload_n hx hb dX0_odds_98 rfl (lv_at hl 5 rfl) ?_
              refine g_icmp_ne (tgt := 106) hx hb dX0_odds_99 (by decide) (by omega) (by omega) (fun cq12 => ?_) (fun cq12 => ?_)
              · refine g_iconst hx hb dX0_odds_106 ?_
                refine g_iadd hx hb dX0_odds_107 ?_
                refine lv_istore (lv' := [(5, .int (iI (so9 + 0))), (7, .int (iI (((((seed + s9) * 1103515245) + 12345) * 1103515245) + 12345))), (8, .int (iI ((d16 (((seed + s9) * 1103515245) + 12345)) % 32))), (6, .int (iI s9)), (0, .ref (b 0)), (1, .int (iI k9)), (2, .int (iI seed)), (3, .int (iI m9)), (4, .int (iI p9))]) hx hb dX0_odds_108 hl (by decide) rfl (fun ls hl => ?_)
                refine g_iinc (lv' := [(6, .int (iI (s9 + 1))), (5, .int (iI (so9 + 0))), (7, .int (iI (((((seed + s9) * 1103515245) + 12345) * 1103515245) + 12345))), (8, .int (iI ((d16 (((seed + s9) * 1103515245) + 12345)) % 32))), (0, .ref (b 0)), (1, .int (iI k9)), (2, .int (iI seed)), (3, .int (iI m9)), (4, .int (iI p9))]) hx hb dX0_odds_110 hl (k := 3) rfl (by decide) rfl (fun ls hl => ?_)
                refine lv_goto (tgt := 40) hx hb dX0_odds_113 (by decide) ?_
                exact ih_40 (so9 + 0) (s9 + 1) (k + 1) (by omega) (by omega) (by omega) (by rw [hi40_2, oddA, ← hi40_0]; simp only [drwZ, ← hr11]; first | rw [if_pos (by assumption)] | rw [if_neg (by assumption)])  _ _ _ hG hS (lv_sub hl [0, 1, 4, 5, 6, 7, 8] rfl)
              · refine g_iconst hx hb dX0_odds_102 ?_
                refine lv_goto (tgt := 107) hx hb dX0_odds_103 (by decide) ?_
                refine g_iadd hx hb dX0_odds_107 ?_
                refine lv_istore (lv' := [(5, .int (iI (so9 + 1))), (7, .int (iI (((((seed + s9) * 1103515245) + 12345) * 1103515245) + 12345))), (8, .int (iI ((d16 (((seed + s9) * 1103515245) + 12345)) % 32))), (6, .int (iI s9)), (0, .ref (b 0)), (1, .int (iI k9)), (2, .int (iI seed)), (3, .int (iI m9)), (4, .int (iI p9))]) hx hb dX0_odds_108 hl (by decide) rfl (fun ls hl => ?_)
                refine g_iinc (lv' := [(6, .int (iI (s9 + 1))), (5, .int (iI (so9 + 1))), (7, .int (iI (((((seed + s9) * 1103515245) + 12345) * 1103515245) + 12345))), (8, .int (iI ((d16 (((seed + s9) * 1103515245) + 12345)) % 32))), (0, .ref (b 0)), (1, .int (iI k9)), (2, .int (iI seed)), (3, .int (iI m9)), (4, .int (iI p9))]) hx hb dX0_odds_110 hl (k := 3) rfl (by decide) rfl (fun ls hl => ?_)
                refine lv_goto (tgt := 40) hx hb dX0_odds_113 (by decide) ?_
                exact ih_40 (so9 + 1) (s9 + 1) (k + 1) (by omega) (by omega) (by omega) (by rw [hi40_2, oddA, ← hi40_0]; simp only [drwZ, ← hr11]; first | rw [if_pos (by assumption)] | rw [if_neg (by assumption)])  _ _ _ hG hS (lv_sub hl [0, 1, 4, 5, 6, 7, 8] rfl)
        exact loop_40 _ 0 0 0 (Nat.lt_succ_self _) (rfl) (by omega) (rfl)  _ _ _ hG hS (lv_sub hl [0, 1, 2, 3, 4, 5, 6] rfl)
      · refine g_ldc2 hx hb (-9223372036854775808) hown (hts _ q625) (by decide) dX0_odds_30 ?_
        exact g_lret hx hb hr hlocks hQ hG hS (Nat.zero_le _) (Nat.zero_le _) ⟨_, rfl, (by rw [if_neg (by omega)]; rfl), rfl⟩ dX0_odds_33

set_option maxHeartbeats 4000000 in
theorem mX0_others (l : Launch) (X : gX) (σ : gS) (b : Nat → Nat) (U : Nat → Int → Int) (J : Nat → Int) (R : Int → Option Nat) (hX : XW X σ b U J R) (hT : okT (U 20))   : gMet l X yX0_others cX0_others 6 (some .int) 0 0 0 0 σ [.ref (b 0)] (oI (fun r σ' => r = nzZ (U 20) 18 ∧ σ = σ')) := by
  refine gMet.of (by decide) (Nat.le_of_ble_eq_true rfl) ?_
  intro pp ee ss mm args below meth cd Q H locs ls hargs hx hb hr hlocks hml hown hnm hts hK hG hS hQ hl
  have hown : ss.vm.findClass RX0 = some mm.cls := hown
  have hl : lv_has ls 6 [(0, .ref (b 0))] := hl
  refine g_iconst hx hb dX0_others_0 ?_
  refine lv_istore_n (lv' := [(1, .int (iI 0)), (0, .ref (b 0))]) hx hb dX0_others_1 rfl hl (by decide) rfl (fun ls hl => ?_)
  refine lv_aload_n hx hb dX0_others_2 rfl (lv_at hl 1 rfl) ?_
  refine g_get (C := RX0) (T := TX0) (N := 20) (v := .ref (b 1)) hx hb hts hown hK hG hX.c0 rfl in_X0 0 (by decide) q420 rfl rfl dX0_others_3 ?_
  refine g_getN (C := RX1) (T := TX1) (N := 4) (v := .ref (b 20)) hx hb hts hown hK hG hX.c1 rfl in_X1 0 (by decide) q187 rfl rfl dX0_others_6 ?_
  refine lv_astore_n (lv' := [(2, .ref (b 20)), (1, .int (iI 0)), (0, .ref (b 0))]) hx hb dX0_others_9 rfl hl (by decide) rfl (fun ls hl => ?_)
  refine lv_aload_n hx hb dX0_others_10 rfl (lv_at hl 0 rfl) ?_
  refine g_alen (n := 18) hx hb 0 hK hG hX.c20 rfl rfl dX0_others_11 ?_
  refine g_rw (b := 18) rfl ?_
  refine lv_istore_n (lv' := [(3, .int (iI 18)), (2, .ref (b 20)), (1, .int (iI 0)), (0, .ref (b 0))]) hx hb dX0_others_12 rfl hl (by decide) rfl (fun ls hl => ?_)
  refine g_iconst hx hb dX0_others_13 ?_
  refine lv_istore (lv' := [(4, .int (iI 0)), (3, .int (iI 18)), (2, .ref (b 20)), (1, .int (iI 0)), (0, .ref (b 0))]) hx hb dX0_others_14 hl (by decide) rfl (fun ls hl => ?_)
  have loop_16 : ∀ (nF : Nat) (n9 : Int) (k9 : Int) (k : Nat), (18 - k : Nat) < nF → (k9 = (k : Int)) → (k ≤ 18) → (n9 = nzZ (U 20) k) → (0 ≤ n9 ∧ n9 ≤ k) → ∀ (H : Heap) (locs : List Loc) (ls : Array Slot), gSat X σ H → va_S (gA X) ss.heap H locs → lv_has ls 6 [(4, .int (iI k9)), (3, .int (iI 18)), (2, .ref (b 20)), (1, .int (iI n9)), (0, .ref (b 0))] → W pp l ee (gR 0 0 0 0) ss mm args below meth cd H locs 0 0 Q (F0 mm 16 ls []) := by
    intro nF
    induction nF with
    | zero => intro n9 k9 k hm; exact absurd hm (Nat.not_lt_zero _)
    | succ nF ih_16 =>
      intro n9 k9 k hm hi16_0 hi16_1 hi16_2 hi16_3 H locs ls hG hS hl
      refine lv_iload hx hb dX0_others_16 (lv_at hl 0 rfl) ?_
      refine lv_iload_n hx hb dX0_others_18 rfl (lv_at hl 1 rfl) ?_
      refine g_icmp_ge (tgt := 47) hx hb dX0_others_19 (by decide) (by omega) (by omega) (fun cq1 => ?_) (fun cq1 => ?_)
      · refine lv_iload_n hx hb dX0_others_47 rfl (lv_at hl 3 rfl) ?_
        exact g_iret hx hb hr hlocks hQ hG hS (Nat.zero_le _) (Nat.zero_le _) ⟨_, rfl, (by rw [hi16_2, show k = 18 by omega]), rfl⟩ dX0_others_48
      · refine lv_aload_n hx hb dX0_others_22 rfl (lv_at hl 2 rfl) ?_
        refine lv_iload hx hb dX0_others_23 (lv_at hl 0 rfl) ?_
        refine g_iald hx hb hK hG hX.c20 dX0_others_25 (by omega) ?_
        refine g_name (fun w2 ew2 => ?_)
        have hw2 : 0 ≤ w2 ∧ w2 ≤ 30 := by rw [ew2]; exact hT _ (by omega) (by omega)
        refine lv_istore (lv' := [(5, .int (iI w2)), (4, .int (iI k9)), (3, .int (iI 18)), (2, .ref (b 20)), (1, .int (iI n9)), (0, .ref (b 0))]) hx hb dX0_others_26 hl (by decide) rfl (fun ls hl => ?_)
        refine lv_iload_n hx hb dX0_others_28 rfl (lv_at hl 4 rfl) ?_
        refine lv_iload hx hb dX0_others_29 (lv_at hl 0 rfl) ?_
        refine g_if_ne (tgt := 38) hx hb dX0_others_31 (by decide) (by omega) (fun cq3 => ?_) (fun cq3 => ?_)
        · refine g_iconst hx hb dX0_others_38 ?_
          refine g_iadd hx hb dX0_others_39 ?_
          refine lv_istore_n (lv' := [(1, .int (iI (n9 + 1))), (5, .int (iI w2)), (4, .int (iI k9)), (3, .int (iI 18)), (2, .ref (b 20)), (0, .ref (b 0))]) hx hb dX0_others_40 rfl hl (by decide) rfl (fun ls hl => ?_)
          refine g_iinc (lv' := [(4, .int (iI (k9 + 1))), (1, .int (iI (n9 + 1))), (5, .int (iI w2)), (3, .int (iI 18)), (2, .ref (b 20)), (0, .ref (b 0))]) hx hb dX0_others_41 hl (k := 2) rfl (by decide) rfl (fun ls hl => ?_)
          refine lv_goto (tgt := 16) hx hb dX0_others_44 (by decide) ?_
          exact ih_16 (n9 + 1) (k9 + 1) (k + 1) (by omega) (by omega) (by omega) (by rw [hi16_2, nzZ, ← hi16_0]; first | rw [if_pos (by omega)] | rw [if_neg (by omega)]) (by omega)  _ _ _ hG hS (lv_sub hl [0, 3, 4, 1, 5] rfl)
        · refine g_iconst hx hb dX0_others_34 ?_
          refine lv_goto (tgt := 39) hx hb dX0_others_35 (by decide) ?_
          refine g_iadd hx hb dX0_others_39 ?_
          refine lv_istore_n (lv' := [(1, .int (iI (n9 + 0))), (5, .int (iI w2)), (4, .int (iI k9)), (3, .int (iI 18)), (2, .ref (b 20)), (0, .ref (b 0))]) hx hb dX0_others_40 rfl hl (by decide) rfl (fun ls hl => ?_)
          refine g_iinc (lv' := [(4, .int (iI (k9 + 1))), (1, .int (iI (n9 + 0))), (5, .int (iI w2)), (3, .int (iI 18)), (2, .ref (b 20)), (0, .ref (b 0))]) hx hb dX0_others_41 hl (k := 2) rfl (by decide) rfl (fun ls hl => ?_)
          refine lv_goto (tgt := 16) hx hb dX0_others_44 (by decide) ?_
          exact ih_16 (n9 + 0) (k9 + 1) (k + 1) (by omega) (by omega) (by omega) (by rw [hi16_2, nzZ, ← hi16_0]; first | rw [if_pos (by omega)] | rw [if_neg (by omega)]) (by omega)  _ _ _ hG hS (lv_sub hl [0, 3, 4, 1, 5] rfl)
  exact loop_16 _ 0 0 0 (Nat.lt_succ_self _) (rfl) (by decide) (rfl) (by omega)  _ _ _ hG hS (lv_sub hl [0, 1, 2, 3, 4] rfl)

set_option maxHeartbeats 8000000 in
theorem mX0_marks (l : Launch) (X : gX) (σ : gS) (b : Nat → Nat) (U : Nat → Int → Int) (J : Nat → Int) (R : Int → Option Nat) (hX : XW X σ b U J R) (hT : okT (U 20)) (sp : Int) (n : Int)  (h0 : 0 ≤ sp ∧ sp ≤ 1023) (h1 : 0 ≤ n ∧ n ≤ 1024) (h2 : ∀ i : Nat, (i : Int) < n → 0 ≤ goZ (U 20) 0 i sp ∧ goZ (U 20) 0 i sp ≤ 1023) : gMet l X yX0_marks cX0_marks 5 none 9 0 0 213 σ [.ref (b 0), .int (iI sp), .int (iI n)] (oV (fun σ' => gKeep (fun t => t = 1) σ σ' ∧ (∃ (U' : Nat → Int → Int) (J' : Nat → Int), XW X σ' b U' J' R ∧ okT (U' 20) ∧ ((∀ q, U' 10 q = mkN (U 20) sp (U 10) n.toNat q) ∧ (∀ q, q ≠ 10 → U' q = U q) ∧ J' = J)))) := by
  refine gMet.of (by decide) (Nat.le_of_ble_eq_true rfl) ?_
  intro pp ee ss mm args below meth cd Q H locs ls hargs hx hb hr hlocks hml hown hnm hts hK hG hS hQ hl
  have hown : ss.vm.findClass RX0 = some mm.cls := hown
  have hl : lv_has ls 5 [(0, .ref (b 0)), (1, .int (iI sp)), (2, .int (iI n))] := hl
  have hkp : gKeep (fun t => t = 1) σ σ := gKeep.rf
  refine lv_iload_n hx hb dX0_marks_0 rfl (lv_at hl 1 rfl) ?_
  refine lv_istore_n (lv' := [(3, .int (iI sp)), (0, .ref (b 0)), (1, .int (iI sp)), (2, .int (iI n))]) hx hb dX0_marks_1 rfl hl (by decide) rfl (fun ls hl => ?_)
  refine g_iconst hx hb dX0_marks_2 ?_
  refine lv_istore (lv' := [(4, .int (iI 0)), (3, .int (iI sp)), (0, .ref (b 0)), (1, .int (iI sp)), (2, .int (iI n))]) hx hb dX0_marks_3 hl (by decide) rfl (fun ls hl => ?_)
  have loop_5 : ∀ (nF : Nat) (σL : gS) (at9 : Int) (k9 : Int) (k : Nat) (UL : Nat → Int → Int), ((n - k).toNat : Nat) < nF → (gKeep (fun t => t = 1) σ σL) → (XW X σL b UL J R) → (okT (UL 20)) → (k9 = (k : Int)) → ((k : Int) ≤ n) → (at9 = goZ (U 20) 0 k sp) → (∀ q, UL 10 q = mkN (U 20) sp (U 10) k q) → (∀ q, q ≠ 10 → UL q = U q) → (at9 = -7 ∨ (0 ≤ at9 ∧ at9 ≤ 1023)) → ∀ (H : Heap) (locs : List Loc) (ls : Array Slot), gSat X σL H → va_S (gA X) ss.heap H locs → lv_has ls 5 [(4, .int (iI k9)), (3, .int (iI at9)), (0, .ref (b 0)), (1, .int (iI sp)), (2, .int (iI n))] → W pp l ee (gR 9 0 0 213) ss mm args below meth cd H locs 0 0 Q (F0 mm 5 ls []) := by
    intro nF
    induction nF with
    | zero => intro σL at9 k9 k UL hm; exact absurd hm (Nat.not_lt_zero _)
    | succ nF ih_5 =>
      intro σL at9 k9 k UL hm hkL hXL hTL hi5_3 hi5_4 hat hmk hou hi5_8 H locs ls hG hS hl
      refine lv_iload hx hb dX0_marks_5 (lv_at hl 0 rfl) ?_
      refine lv_iload_n hx hb dX0_marks_7 rfl (lv_at hl 4 rfl) ?_
      refine g_icmp_ge (tgt := 30) hx hb dX0_marks_8 (by decide) (by omega) (by omega) (fun cq1 => ?_) (fun cq1 => ?_)
      · exact g_vret hx hb hr hlocks hQ hG hS (Nat.zero_le _) (Nat.zero_le _) ⟨rfl, hkL, (⟨UL, J, hXL, hTL, (⟨by rw [show n.toNat = k by omega]; exact hmk, hou, rfl⟩)⟩)⟩ dX0_marks_30
      · have hgo := h2 k (by omega)
        rw [← hat] at hgo
        refine lv_aload_n hx hb dX0_marks_11 rfl (lv_at hl 2 rfl) ?_
        refine g_get (C := RX0) (T := TX0) (N := 20) (v := .ref (b 10)) hx hb hts hown hK hG hXL.c0 rfl in_X0 10 (by decide) q433 rfl rfl dX0_marks_12 ?_
        refine lv_iload_n hx hb dX0_marks_15 rfl (lv_at hl 1 rfl) ?_
        refine g_iconst hx hb dX0_marks_16 ?_
        refine g_zast hx hb hK hG hS hXL.c10 dX0_marks_17 (by first | rfl | decide) (by omega) (fun H locs hG hS => ?_)
        obtain ⟨U2, eU2⟩ : ∃ z : Nat → Int → Int, z = va_up UL 10 (iup (UL 10) at9 1) := ⟨_, rfl⟩
        have u10_2 : U2 10 = (iup (UL 10) at9 1) := by rw [eU2, va_up_self]
        have fU2 : ∀ j, j ≠ 10 → U2 j = UL j := fun j hj => by rw [eU2, va_up_ne _ _ hj]
        have hX2 : XW X (gup σL (b 10) (1, gI (X.2.1 1) 1024 (iup (UL 10) at9 1))) b U2 J R := by rw [eU2]; exact hXL.set 10 rfl (iup (UL 10) at9 1)
        have hT2 : okT (U2 20) := by rw [fU2 20 (by decide)]; exact hTL
        have hkp2 : gKeep (fun t => t = 1) σ (gup σL (b 10) (1, gI (X.2.1 1) 1024 (iup (UL 10) at9 1))) := hkL.tr ((gKeep.up hXL.c10 rfl : gKeep (fun t => t = 1) σL (gup σL (b 10) (1, gI (X.2.1 1) 1024 (iup (UL 10) at9 1)))).mono (fun t (h : t = 1) => (by show t = 1; omega)))
        generalize (gup σL (b 10) (1, gI (X.2.1 1) 1024 (iup (UL 10) at9 1))) = σ2 at hG hX2 hkp2
        refine lv_aload_n hx hb dX0_marks_18 rfl (lv_at hl 2 rfl) ?_
        refine lv_iload_n hx hb dX0_marks_19 rfl (lv_at hl 1 rfl) ?_
        refine g_callV (As := [.int (iI at9)]) (rest := []) 1 hx hb hml hown hts hK hG hS hl.1 (mX0_steps l X σ2 b U2 J R hX2 hT2 at9 (by omega)) hX2.c0 rfl q643 q394 qs7 q69 q395 (by decide +kernel) rfl ⟨Nat.le_of_ble_eq_true rfl, Nat.le_of_ble_eq_true rfl⟩ ⟨Nat.le_of_ble_eq_true rfl, Nat.le_of_ble_eq_true rfl⟩ (Nat.le_of_ble_eq_true rfl) dX0_marks_20 (kI (fun r3 σr3 H locs hp hG hS => ?_))
        obtain ⟨⟨hr3, kr3⟩, rfl⟩ := hp
        refine lv_istore_n (lv' := [(3, .int (iI r3)), (4, .int (iI k9)), (0, .ref (b 0)), (1, .int (iI sp)), (2, .int (iI n))]) hx hb dX0_marks_23 rfl hl (by decide) rfl (fun ls hl => ?_)
        refine g_iinc (lv' := [(4, .int (iI (k9 + 1))), (3, .int (iI r3)), (0, .ref (b 0)), (1, .int (iI sp)), (2, .int (iI n))]) hx hb dX0_marks_24 hl (k := 1) rfl (by decide) rfl (fun ls hl => ?_)
        refine lv_goto (tgt := 5) hx hb dX0_marks_27 (by decide) ?_
        exact ih_5 σ2 r3 (k9 + 1) (k + 1) U2 (by omega) (hkp2) (hX2) (hT2) (by omega) (by omega) (by rw [hr3, fU2 20 (by decide), hou 20 (by decide), hat]; exact (goZ_snoc (by omega)).symm) (fun q => by
                  rw [u10_2, mkN, ← hat]
                  by_cases e : q = at9
                  · rw [e, iup_s, iup_s]
                  · rw [iup_n e, iup_n e]; exact hmk q) (fun q h => (fU2 q h).trans (hou q h)) (by omega)  _ _ _ hG hS (lv_sub hl [0, 1, 2, 3, 4] rfl)
  exact loop_5 _ σ sp 0 0 U (Nat.lt_succ_self _) (hkp) (hX) (hT) (rfl) (by omega) (rfl) (fun q => rfl) (fun q h => rfl) (by omega)  _ _ _ hG hS (lv_sub hl [0, 1, 2, 3, 4] rfl)

set_option maxHeartbeats 8000000 in
theorem mX0_feed (l : Launch) (X : gX) (σ : gS) (b : Nat → Nat) (U : Nat → Int → Int) (J : Nat → Int) (R : Int → Option Nat) (hX : XW X σ b U J R) (hT : okT (U 20)) (b9 : Int)  (h0 : 0 ≤ J 6 ∧ J 6 ≤ 60) (h1 : -2147483648 ≤ b9 ∧ b9 ≤ 2147483647) : gMet l X yX0_feed cX0_feed 2 (some .int) 1 0 0 25 σ [.ref (b 0), .int (iI b9)] (oI (fun r σ' => gKeep (fun t => t = 1) σ σ' ∧ (∃ (U' : Nat → Int → Int) (J' : Nat → Int), XW X σ' b U' J' R ∧ okT (U' 20) ∧ (r = (if 1 ≤ b9 ∧ b9 ≤ 127 then (if J 6 = 60 then -4 else J 6 + 1) else -2) ∧ (((1 ≤ b9 ∧ b9 ≤ 127) ∧ ¬ J 6 = 60) ∧ U' = va_up U 5 (iup (U 5) (J 6) b9) ∧ J' = va_up J 6 (J 6 + 1) ∨ ¬ ((1 ≤ b9 ∧ b9 ≤ 127) ∧ ¬ J 6 = 60) ∧ U' = U ∧ J' = J))))) := by
  refine gMet.of (by decide) (Nat.le_of_ble_eq_true rfl) ?_
  intro pp ee ss mm args below meth cd Q H locs ls hargs hx hb hr hlocks hml hown hnm hts hK hG hS hQ hl
  have hown : ss.vm.findClass RX0 = some mm.cls := hown
  have hl : lv_has ls 2 [(0, .ref (b 0)), (1, .int (iI b9))] := hl
  have hkp : gKeep (fun t => t = 1) σ σ := gKeep.rf
  refine lv_iload_n hx hb dX0_feed_0 rfl (lv_at hl 1 rfl) ?_
  refine g_i2l hx hb dX0_feed_1 (by omega) ?_
  refine lv_lconst (v := lI 1) hx hb dX0_feed_2 (by decide) ?_
  refine g_ldc2 hx hb (127) hown (hts _ q513) (by decide) dX0_feed_3 ?_
  refine g_callS (As := [.long (lI b9), .long (lI 1), .long (lI (127))]) (rest := []) 3 hx hb hml hown hts hK hG hS hl.1 (mX0_isIn l X σ  b9 1 (127) (by omega) (by omega) (by omega)) q494 q495 q69 q496 (by decide +kernel) rfl ⟨Nat.le_of_ble_eq_true rfl, Nat.le_of_ble_eq_true rfl⟩ ⟨Nat.le_of_ble_eq_true rfl, Nat.le_of_ble_eq_true rfl⟩ (Nat.le_of_ble_eq_true rfl) dX0_feed_6 (kI (fun r1 σr1 H locs hp hG hS => ?_))
  obtain ⟨hr1, rfl⟩ := hp
  refine g_if_ne (tgt := 15) hx hb dX0_feed_9 (by decide) (by omega) (fun cq2 => ?_) (fun cq2 => ?_)
  · refine lv_aload_n hx hb dX0_feed_15 rfl (lv_at hl 0 rfl) ?_
    refine g_get (C := RX0) (T := TX0) (N := 20) (v := .int (iI (J 6))) hx hb hts hown hK hG hX.c0 rfl in_X0 6 (by decide) q428 rfl rfl dX0_feed_16 ?_
    refine g_bipush hx hb dX0_feed_19 (by decide) ?_
    refine g_icmp_ne (tgt := 27) hx hb dX0_feed_21 (by decide) (by omega) (by omega) (fun cq3 => ?_) (fun cq3 => ?_)
    · refine lv_aload_n hx hb dX0_feed_27 rfl (lv_at hl 0 rfl) ?_
      refine g_get (C := RX0) (T := TX0) (N := 20) (v := .ref (b 5)) hx hb hts hown hK hG hX.c0 rfl in_X0 5 (by decide) q426 rfl rfl dX0_feed_28 ?_
      refine lv_aload_n hx hb dX0_feed_31 rfl (lv_at hl 0 rfl) ?_
      refine g_get (C := RX0) (T := TX0) (N := 20) (v := .int (iI (J 6))) hx hb hts hown hK hG hX.c0 rfl in_X0 6 (by decide) q428 rfl rfl dX0_feed_32 ?_
      refine lv_iload_n hx hb dX0_feed_35 rfl (lv_at hl 1 rfl) ?_
      refine g_i2b hx hb dX0_feed_36 (by omega) ?_
      refine g_bast hx hb hK hG hS hX.c5 dX0_feed_37 (narB (by omega)) (by omega) (fun H locs hG hS => ?_)
      obtain ⟨U4, eU4⟩ : ∃ z : Nat → Int → Int, z = va_up U 5 (iup (U 5) (J 6) b9) := ⟨_, rfl⟩
      have u5_4 : U4 5 = (iup (U 5) (J 6) b9) := by rw [eU4, va_up_self]
      have fU4 : ∀ j, j ≠ 5 → U4 j = U j := fun j hj => by rw [eU4, va_up_ne _ _ hj]
      have hX4 : XW X (gup σ (b 5) (1, gI (X.2.1 2) 60 (iup (U 5) (J 6) b9))) b U4 J R := by rw [eU4]; exact hX.set 5 rfl (iup (U 5) (J 6) b9)
      have hT4 : okT (U4 20) := by rw [fU4 20 (by decide)]; exact hT
      have hkp4 : gKeep (fun t => t = 1) σ (gup σ (b 5) (1, gI (X.2.1 2) 60 (iup (U 5) (J 6) b9))) := hkp.tr ((gKeep.up hX.c5 rfl : gKeep (fun t => t = 1) σ (gup σ (b 5) (1, gI (X.2.1 2) 60 (iup (U 5) (J 6) b9)))).mono (fun t (h : t = 1) => (by show t = 1; omega)))
      generalize (gup σ (b 5) (1, gI (X.2.1 2) 60 (iup (U 5) (J 6) b9))) = σ4 at hG hX4 hkp4
      refine lv_aload_n hx hb dX0_feed_38 rfl (lv_at hl 0 rfl) ?_
      refine lv_dup hx hb dX0_feed_39 rfl ?_
      refine g_get (C := RX0) (T := TX0) (N := 20) (v := .int (iI (J 6))) hx hb hts hown hK hG hX4.c0 rfl in_X0 6 (by decide) q428 rfl rfl dX0_feed_40 ?_
      refine g_iconst hx hb dX0_feed_43 ?_
      refine g_iadd hx hb dX0_feed_44 ?_
      refine g_put (C := RX0) (T := TX0) (N := 20) (ty0 := tyX0) (v := .int (iI ((J 6) + 1))) hx hb hts hown hK hG hS hX4.c0 rfl in_X0 tyX0_ok nmX0 6 (by decide) q428 rfl (by decide) rfl rfl (Nat.le_of_ble_eq_true rfl) dX0_feed_45 (fun H locs hG hS => ?_)
      obtain ⟨J5, eJ5⟩ : ∃ z : Nat → Int, z = va_up J 6 ((J 6) + 1) := ⟨_, rfl⟩
      have j6_5 : J5 6 = (J 6) + 1 := by rw [eJ5, va_up_self]
      have fJ5 : ∀ j, j ≠ 6 → J5 j = J j := fun j hj => by rw [eJ5, va_up_ne _ _ hj]
      have hX5 : XW X (gup σ4 (b 0) (1, gO 0 ([.ref (b 1), .ref (b 2), .int (iI (J 2)), .ref (b 3), .ref (b 4), .ref (b 5), .int (iI (J 6)), .ref (b 7), .ref (b 8), .int (iI (J 9)), .ref (b 10), .ref (b 11), .ref (b 12), .ref (b 13), .ref (b 14), .ref (b 56), .ref (b 57), .ref (b 58), .ref (b 18), .ref (b 19)].set 6 (.int (iI ((J 6) + 1)))))) b U4 J5 R := by rw [eJ5]; exact hX4.num 6 rfl ((J 6) + 1)
      have hkp5 : gKeep (fun t => t = 1) σ (gup σ4 (b 0) (1, gO 0 ([.ref (b 1), .ref (b 2), .int (iI (J 2)), .ref (b 3), .ref (b 4), .ref (b 5), .int (iI (J 6)), .ref (b 7), .ref (b 8), .int (iI (J 9)), .ref (b 10), .ref (b 11), .ref (b 12), .ref (b 13), .ref (b 14), .ref (b 56), .ref (b 57), .ref (b 58), .ref (b 18), .ref (b 19)].set 6 (.int (iI ((J 6) + 1)))))) := hkp4.tr ((gKeep.up hX4.c0 rfl : gKeep (fun t => t = 1) σ4 (gup σ4 (b 0) (1, gO 0 ([.ref (b 1), .ref (b 2), .int (iI (J 2)), .ref (b 3), .ref (b 4), .ref (b 5), .int (iI (J 6)), .ref (b 7), .ref (b 8), .int (iI (J 9)), .ref (b 10), .ref (b 11), .ref (b 12), .ref (b 13), .ref (b 14), .ref (b 56), .ref (b 57), .ref (b 58), .ref (b 18), .ref (b 19)].set 6 (.int (iI ((J 6) + 1))))))).mono (fun t (h : t = 1) => (by show t = 1; omega)))
      generalize (gup σ4 (b 0) (1, gO 0 ([.ref (b 1), .ref (b 2), .int (iI (J 2)), .ref (b 3), .ref (b 4), .ref (b 5), .int (iI (J 6)), .ref (b 7), .ref (b 8), .int (iI (J 9)), .ref (b 10), .ref (b 11), .ref (b 12), .ref (b 13), .ref (b 14), .ref (b 56), .ref (b 57), .ref (b 58), .ref (b 18), .ref (b 19)].set 6 (.int (iI ((J 6) + 1)))))) = σ5 at hG hX5 hkp5
      refine lv_aload_n hx hb dX0_feed_48 rfl (lv_at hl 0 rfl) ?_
      refine g_get (C := RX0) (T := TX0) (N := 20) (v := .int (iI (J5 6))) hx hb hts hown hK hG hX5.c0 rfl in_X0 6 (by decide) q428 rfl rfl dX0_feed_49 ?_
      exact g_iret hx hb hr hlocks hQ hG hS (Nat.zero_le _) (Nat.zero_le _) ⟨_, rfl, hkp5, (⟨U4, J5, hX5, hT4, (⟨by (repeat (first | rw [if_pos (by omega)] | rw [if_neg (by omega)])) <;> first | rfl | omega, Or.inl ⟨by omega, eU4, eJ5⟩⟩)⟩)⟩ dX0_feed_52
    · refine g_bipush hx hb dX0_feed_24 (by decide) ?_
      exact g_iret hx hb hr hlocks hQ hG hS (Nat.zero_le _) (Nat.zero_le _) ⟨_, rfl, hkp, (⟨U, J, hX, hT, (⟨by (repeat (first | rw [if_pos (by omega)] | rw [if_neg (by omega)])) <;> first | rfl | omega, Or.inr ⟨by omega, rfl, rfl⟩⟩)⟩)⟩ dX0_feed_26
  · refine g_bipush hx hb dX0_feed_12 (by decide) ?_
    exact g_iret hx hb hr hlocks hQ hG hS (Nat.zero_le _) (Nat.zero_le _) ⟨_, rfl, hkp, (⟨U, J, hX, hT, (⟨by (repeat (first | rw [if_pos (by omega)] | rw [if_neg (by omega)])) <;> first | rfl | omega, Or.inr ⟨by omega, rfl, rfl⟩⟩)⟩)⟩ dX0_feed_14

set_option maxHeartbeats 8000000 in
theorem mX0_plan (l : Launch) (X : gX) (σ : gS) (b : Nat → Nat) (U : Nat → Int → Int) (J : Nat → Int) (R : Int → Option Nat) (hX : XW X σ b U J R) (hT : okT (U 20)) (w9 : Int) (v : Int)  (h0 : 0 ≤ J 30 ∧ J 30 ≤ 8) (h1 : -2147483648 ≤ w9 ∧ w9 ≤ 2147483647) (h2 : -2147483648 ≤ v ∧ v ≤ 2147483647) : gMet l X yX0_plan cX0_plan 3 (some .int) 3 0 0 66 σ [.ref (b 0), .int (iI w9), .int (iI v)] (oI (fun r σ' => gKeep (fun t => t = 1) σ σ' ∧ (∃ (U' : Nat → Int → Int) (J' : Nat → Int), XW X σ' b U' J' R ∧ okT (U' 20) ∧ (r = (if w9 = -1 then 0 else if 0 ≤ w9 ∧ w9 ≤ 3 then (if (w9 < 2 → 1 ≤ v ∧ v ≤ 9) ∧ (w9 = 2 → 0 ≤ v ∧ v ≤ 1) then (if J 30 = 8 then -4 else J 30 + 1) else -2) else -1) ∧ (w9 = -1 ∧ U' = U ∧ J' = va_up J 30 0 ∨ ((0 ≤ w9 ∧ w9 ≤ 3) ∧ ((w9 < 2 → 1 ≤ v ∧ v ≤ 9) ∧ (w9 = 2 → 0 ≤ v ∧ v ≤ 1)) ∧ ¬ J 30 = 8) ∧ U' 22 = iup (iup (U 22) (2 * J 30) w9) (2 * J 30 + 1) v ∧ (∀ q, q ≠ 22 → U' q = U q) ∧ J' = va_up J 30 (J 30 + 1) ∨ ¬ w9 = -1 ∧ ¬ ((0 ≤ w9 ∧ w9 ≤ 3) ∧ ((w9 < 2 → 1 ≤ v ∧ v ≤ 9) ∧ (w9 = 2 → 0 ≤ v ∧ v ≤ 1)) ∧ ¬ J 30 = 8) ∧ U' = U ∧ J' = J))))) := by
  refine gMet.of (by decide) (Nat.le_of_ble_eq_true rfl) ?_
  intro pp ee ss mm args below meth cd Q H locs ls hargs hx hb hr hlocks hml hown hnm hts hK hG hS hQ hl
  have hown : ss.vm.findClass RX0 = some mm.cls := hown
  have hl : lv_has ls 3 [(0, .ref (b 0)), (1, .int (iI w9)), (2, .int (iI v))] := hl
  have hkp : gKeep (fun t => t = 1) σ σ := gKeep.rf
  refine lv_iload_n hx hb dX0_plan_0 rfl (lv_at hl 1 rfl) ?_
  refine g_iconst hx hb dX0_plan_1 ?_
  refine g_icmp_ne (tgt := 15) hx hb dX0_plan_2 (by decide) (by omega) (by omega) (fun cq1 => ?_) (fun cq1 => ?_)
  · refine lv_iload_n hx hb dX0_plan_15 rfl (lv_at hl 1 rfl) ?_
    refine g_i2l hx hb dX0_plan_16 (by omega) ?_
    refine lv_lconst (v := lI 0) hx hb dX0_plan_17 (by decide) ?_
    refine lv_aload_n hx hb dX0_plan_18 rfl (lv_at hl 0 rfl) ?_
    refine g_get (C := RX0) (T := TX0) (N := 20) (v := .ref (b 3)) hx hb hts hown hK hG hX.c0 rfl in_X0 3 (by decide) q423 rfl rfl dX0_plan_19 ?_
    refine g_alen (n := 4) hx hb 3 hK hG hX.c3 rfl rfl dX0_plan_22 ?_
    refine g_rw (b := 4) rfl ?_
    refine g_iconst hx hb dX0_plan_23 ?_
    refine g_isub hx hb dX0_plan_24 ?_
    refine g_rw (b := 3) (by decide) ?_
    refine g_i2l hx hb dX0_plan_25 (by omega) ?_
    refine g_callS (As := [.long (lI w9), .long (lI 0), .long (lI 3)]) (rest := []) 3 hx hb hml hown hts hK hG hS hl.1 (mX0_isIn l X σ  w9 0 3 (by omega) (by omega) (by omega)) q494 q495 q69 q496 (by decide +kernel) rfl ⟨Nat.le_of_ble_eq_true rfl, Nat.le_of_ble_eq_true rfl⟩ ⟨Nat.le_of_ble_eq_true rfl, Nat.le_of_ble_eq_true rfl⟩ (Nat.le_of_ble_eq_true rfl) dX0_plan_26 (kI (fun r2 σr2 H locs hp hG hS => ?_))
    obtain ⟨hr2, rfl⟩ := hp
    refine g_if_ne (tgt := 34) hx hb dX0_plan_29 (by decide) (by omega) (fun cq3 => ?_) (fun cq3 => ?_)
    · refine lv_iload_n hx hb dX0_plan_34 rfl (lv_at hl 1 rfl) ?_
      refine lv_iload_n hx hb dX0_plan_35 rfl (lv_at hl 2 rfl) ?_
      refine g_callS (As := [.int (iI w9), .int (iI v)]) (rest := []) 2 hx hb hml hown hts hK hG hS hl.1 (mX0_isSo l X σ  w9 v (by omega) (by omega) (by omega)) q1625 q1626 q69 q1627 (by decide +kernel) rfl ⟨Nat.le_of_ble_eq_true rfl, Nat.le_of_ble_eq_true rfl⟩ ⟨Nat.le_of_ble_eq_true rfl, Nat.le_of_ble_eq_true rfl⟩ (Nat.le_of_ble_eq_true rfl) dX0_plan_36 (kI (fun r4 σr4 H locs hp hG hS => ?_))
      obtain ⟨hr4, rfl⟩ := hp
      refine g_if_ne (tgt := 45) hx hb dX0_plan_39 (by decide) (by omega) (fun cq5 => ?_) (fun cq5 => ?_)
      · refine lv_aload_n hx hb dX0_plan_45 rfl (lv_at hl 0 rfl) ?_
        refine g_get (C := RX0) (T := TX0) (N := 20) (v := .ref (b 1)) hx hb hts hown hK hG hX.c0 rfl in_X0 0 (by decide) q420 rfl rfl dX0_plan_46 ?_
        refine g_getN (C := RX1) (T := TX1) (N := 4) (v := .int (iI (J 30))) hx hb hts hown hK hG hX.c1 rfl in_X1 3 (by decide) q193 rfl rfl dX0_plan_49 ?_
        refine g_bipush hx hb dX0_plan_52 (by decide) ?_
        refine g_icmp_ne (tgt := 60) hx hb dX0_plan_54 (by decide) (by omega) (by omega) (fun cq6 => ?_) (fun cq6 => ?_)
        · refine lv_aload_n hx hb dX0_plan_60 rfl (lv_at hl 0 rfl) ?_
          refine g_get (C := RX0) (T := TX0) (N := 20) (v := .ref (b 1)) hx hb hts hown hK hG hX.c0 rfl in_X0 0 (by decide) q420 rfl rfl dX0_plan_61 ?_
          refine g_getN (C := RX1) (T := TX1) (N := 4) (v := .ref (b 22)) hx hb hts hown hK hG hX.c1 rfl in_X1 2 (by decide) q191 rfl rfl dX0_plan_64 ?_
          refine g_iconst hx hb dX0_plan_67 ?_
          refine lv_aload_n hx hb dX0_plan_68 rfl (lv_at hl 0 rfl) ?_
          refine g_get (C := RX0) (T := TX0) (N := 20) (v := .ref (b 1)) hx hb hts hown hK hG hX.c0 rfl in_X0 0 (by decide) q420 rfl rfl dX0_plan_69 ?_
          refine g_getN (C := RX1) (T := TX1) (N := 4) (v := .int (iI (J 30))) hx hb hts hown hK hG hX.c1 rfl in_X1 3 (by decide) q193 rfl rfl dX0_plan_72 ?_
          refine g_imul hx hb dX0_plan_75 ?_
          refine lv_iload_n hx hb dX0_plan_76 rfl (lv_at hl 1 rfl) ?_
          refine g_iast hx hb hK hG hS hX.c22 dX0_plan_77 (by omega) (fun H locs hG hS => ?_)
          obtain ⟨U7, eU7⟩ : ∃ z : Nat → Int → Int, z = va_up U 22 (iup (U 22) (2 * (J 30)) w9) := ⟨_, rfl⟩
          have u22_7 : U7 22 = (iup (U 22) (2 * (J 30)) w9) := by rw [eU7, va_up_self]
          have fU7 : ∀ j, j ≠ 22 → U7 j = U j := fun j hj => by rw [eU7, va_up_ne _ _ hj]
          have hX7 : XW X (gup σ (b 22) (1, gI (X.2.1 0) 16 (iup (U 22) (2 * (J 30)) w9))) b U7 J R := by rw [eU7]; exact hX.set 22 rfl (iup (U 22) (2 * (J 30)) w9)
          have hT7 : okT (U7 20) := by rw [fU7 20 (by decide)]; exact hT
          have hkp7 : gKeep (fun t => t = 1) σ (gup σ (b 22) (1, gI (X.2.1 0) 16 (iup (U 22) (2 * (J 30)) w9))) := hkp.tr ((gKeep.up hX.c22 rfl : gKeep (fun t => t = 1) σ (gup σ (b 22) (1, gI (X.2.1 0) 16 (iup (U 22) (2 * (J 30)) w9)))).mono (fun t (h : t = 1) => (by show t = 1; omega)))
          generalize (gup σ (b 22) (1, gI (X.2.1 0) 16 (iup (U 22) (2 * (J 30)) w9))) = σ7 at hG hX7 hkp7
          refine lv_aload_n hx hb dX0_plan_78 rfl (lv_at hl 0 rfl) ?_
          refine g_get (C := RX0) (T := TX0) (N := 20) (v := .ref (b 1)) hx hb hts hown hK hG hX7.c0 rfl in_X0 0 (by decide) q420 rfl rfl dX0_plan_79 ?_
          refine g_getN (C := RX1) (T := TX1) (N := 4) (v := .ref (b 22)) hx hb hts hown hK hG hX7.c1 rfl in_X1 2 (by decide) q191 rfl rfl dX0_plan_82 ?_
          refine g_iconst hx hb dX0_plan_85 ?_
          refine lv_aload_n hx hb dX0_plan_86 rfl (lv_at hl 0 rfl) ?_
          refine g_get (C := RX0) (T := TX0) (N := 20) (v := .ref (b 1)) hx hb hts hown hK hG hX7.c0 rfl in_X0 0 (by decide) q420 rfl rfl dX0_plan_87 ?_
          refine g_getN (C := RX1) (T := TX1) (N := 4) (v := .int (iI (J 30))) hx hb hts hown hK hG hX7.c1 rfl in_X1 3 (by decide) q193 rfl rfl dX0_plan_90 ?_
          refine g_imul hx hb dX0_plan_93 ?_
          refine g_iconst hx hb dX0_plan_94 ?_
          refine g_iadd hx hb dX0_plan_95 ?_
          refine lv_iload_n hx hb dX0_plan_96 rfl (lv_at hl 2 rfl) ?_
          refine g_iast hx hb hK hG hS hX7.c22 dX0_plan_97 (by omega) (fun H locs hG hS => ?_)
          obtain ⟨U8, eU8⟩ : ∃ z : Nat → Int → Int, z = va_up U7 22 (iup (U7 22) ((2 * (J 30)) + 1) v) := ⟨_, rfl⟩
          have u22_8 : U8 22 = (iup (U7 22) ((2 * (J 30)) + 1) v) := by rw [eU8, va_up_self]
          have fU8 : ∀ j, j ≠ 22 → U8 j = U7 j := fun j hj => by rw [eU8, va_up_ne _ _ hj]
          have hX8 : XW X (gup σ7 (b 22) (1, gI (X.2.1 0) 16 (iup (U7 22) ((2 * (J 30)) + 1) v))) b U8 J R := by rw [eU8]; exact hX7.set 22 rfl (iup (U7 22) ((2 * (J 30)) + 1) v)
          have hT8 : okT (U8 20) := by rw [fU8 20 (by decide)]; exact hT7
          have hkp8 : gKeep (fun t => t = 1) σ (gup σ7 (b 22) (1, gI (X.2.1 0) 16 (iup (U7 22) ((2 * (J 30)) + 1) v))) := hkp7.tr ((gKeep.up hX7.c22 rfl : gKeep (fun t => t = 1) σ7 (gup σ7 (b 22) (1, gI (X.2.1 0) 16 (iup (U7 22) ((2 * (J 30)) + 1) v)))).mono (fun t (h : t = 1) => (by show t = 1; omega)))
          generalize (gup σ7 (b 22) (1, gI (X.2.1 0) 16 (iup (U7 22) ((2 * (J 30)) + 1) v))) = σ8 at hG hX8 hkp8
          refine lv_aload_n hx hb dX0_plan_98 rfl (lv_at hl 0 rfl) ?_
          refine g_get (C := RX0) (T := TX0) (N := 20) (v := .ref (b 1)) hx hb hts hown hK hG hX8.c0 rfl in_X0 0 (by decide) q420 rfl rfl dX0_plan_99 ?_
          refine lv_dup hx hb dX0_plan_102 rfl ?_
          refine g_getN (C := RX1) (T := TX1) (N := 4) (v := .int (iI (J 30))) hx hb hts hown hK hG hX8.c1 rfl in_X1 3 (by decide) q193 rfl rfl dX0_plan_103 ?_
          refine g_iconst hx hb dX0_plan_106 ?_
          refine g_iadd hx hb dX0_plan_107 ?_
          refine g_putN (C := RX1) (T := TX1) (N := 4) (ty0 := tyX1) (v := .int (iI ((J 30) + 1))) hx hb hts hown hK hG hS hX8.c1 rfl in_X1 tyX1_ok nmX1 3 (by decide) q193 rfl (by decide) rfl rfl (Nat.le_of_ble_eq_true rfl) dX0_plan_108 (fun H locs hG hS => ?_)
          obtain ⟨J9, eJ9⟩ : ∃ z : Nat → Int, z = va_up J 30 ((J 30) + 1) := ⟨_, rfl⟩
          have j30_9 : J9 30 = (J 30) + 1 := by rw [eJ9, va_up_self]
          have fJ9 : ∀ j, j ≠ 30 → J9 j = J j := fun j hj => by rw [eJ9, va_up_ne _ _ hj]
          have hX9 : XW X (gup σ8 (b 1) (1, gO 1 ([.ref (b 20), .ref (b 21), .ref (b 22), .int (iI (J 30))].set 3 (.int (iI ((J 30) + 1)))))) b U8 J9 R := by rw [eJ9]; exact hX8.num 30 rfl ((J 30) + 1)
          have hkp9 : gKeep (fun t => t = 1) σ (gup σ8 (b 1) (1, gO 1 ([.ref (b 20), .ref (b 21), .ref (b 22), .int (iI (J 30))].set 3 (.int (iI ((J 30) + 1)))))) := hkp8.tr ((gKeep.up hX8.c1 rfl : gKeep (fun t => t = 1) σ8 (gup σ8 (b 1) (1, gO 1 ([.ref (b 20), .ref (b 21), .ref (b 22), .int (iI (J 30))].set 3 (.int (iI ((J 30) + 1))))))).mono (fun t (h : t = 1) => (by show t = 1; omega)))
          generalize (gup σ8 (b 1) (1, gO 1 ([.ref (b 20), .ref (b 21), .ref (b 22), .int (iI (J 30))].set 3 (.int (iI ((J 30) + 1)))))) = σ9 at hG hX9 hkp9
          refine lv_aload_n hx hb dX0_plan_111 rfl (lv_at hl 0 rfl) ?_
          refine g_get (C := RX0) (T := TX0) (N := 20) (v := .ref (b 1)) hx hb hts hown hK hG hX9.c0 rfl in_X0 0 (by decide) q420 rfl rfl dX0_plan_112 ?_
          refine g_getN (C := RX1) (T := TX1) (N := 4) (v := .int (iI (J9 30))) hx hb hts hown hK hG hX9.c1 rfl in_X1 3 (by decide) q193 rfl rfl dX0_plan_115 ?_
          exact g_iret hx hb hr hlocks hQ hG hS (Nat.zero_le _) (Nat.zero_le _) ⟨_, rfl, hkp9, (⟨U8, J9, hX9, hT8, (⟨by (repeat (first | rw [if_pos (by omega)] | rw [if_neg (by omega)])) <;> first | rfl | omega, Or.inr (Or.inl ⟨by omega, by rw [u22_8, u22_7], fun q h => (fU8 q h).trans (fU7 q h), eJ9⟩)⟩)⟩)⟩ dX0_plan_118
        · refine g_bipush hx hb dX0_plan_57 (by decide) ?_
          exact g_iret hx hb hr hlocks hQ hG hS (Nat.zero_le _) (Nat.zero_le _) ⟨_, rfl, hkp, (⟨U, J, hX, hT, (⟨by (repeat (first | rw [if_pos (by omega)] | rw [if_neg (by omega)])) <;> first | rfl | omega, Or.inr (Or.inr ⟨by omega, by omega, rfl, rfl⟩)⟩)⟩)⟩ dX0_plan_59
      · refine g_bipush hx hb dX0_plan_42 (by decide) ?_
        exact g_iret hx hb hr hlocks hQ hG hS (Nat.zero_le _) (Nat.zero_le _) ⟨_, rfl, hkp, (⟨U, J, hX, hT, (⟨by (repeat (first | rw [if_pos (by omega)] | rw [if_neg (by omega)])) <;> first | rfl | omega, Or.inr (Or.inr ⟨by omega, by omega, rfl, rfl⟩)⟩)⟩)⟩ dX0_plan_44
    · refine g_iconst hx hb dX0_plan_32 ?_
      exact g_iret hx hb hr hlocks hQ hG hS (Nat.zero_le _) (Nat.zero_le _) ⟨_, rfl, hkp, (⟨U, J, hX, hT, (⟨by (repeat (first | rw [if_pos (by omega)] | rw [if_neg (by omega)])) <;> first | rfl | omega, Or.inr (Or.inr ⟨by omega, by omega, rfl, rfl⟩)⟩)⟩)⟩ dX0_plan_33
  · refine lv_aload_n hx hb dX0_plan_5 rfl (lv_at hl 0 rfl) ?_
    refine g_get (C := RX0) (T := TX0) (N := 20) (v := .ref (b 1)) hx hb hts hown hK hG hX.c0 rfl in_X0 0 (by decide) q420 rfl rfl dX0_plan_6 ?_
    refine g_iconst hx hb dX0_plan_9 ?_
    refine g_putN (C := RX1) (T := TX1) (N := 4) (ty0 := tyX1) (v := .int (iI 0)) hx hb hts hown hK hG hS hX.c1 rfl in_X1 tyX1_ok nmX1 3 (by decide) q193 rfl (by decide) rfl rfl (Nat.le_of_ble_eq_true rfl) dX0_plan_10 (fun H locs hG hS => ?_)
    obtain ⟨J10, eJ10⟩ : ∃ z : Nat → Int, z = va_up J 30 0 := ⟨_, rfl⟩
    have j30_10 : J10 30 = 0 := by rw [eJ10, va_up_self]
    have fJ10 : ∀ j, j ≠ 30 → J10 j = J j := fun j hj => by rw [eJ10, va_up_ne _ _ hj]
    have hX10 : XW X (gup σ (b 1) (1, gO 1 ([.ref (b 20), .ref (b 21), .ref (b 22), .int (iI (J 30))].set 3 (.int (iI 0))))) b U J10 R := by rw [eJ10]; exact hX.num 30 rfl 0
    have hkp10 : gKeep (fun t => t = 1) σ (gup σ (b 1) (1, gO 1 ([.ref (b 20), .ref (b 21), .ref (b 22), .int (iI (J 30))].set 3 (.int (iI 0))))) := hkp.tr ((gKeep.up hX.c1 rfl : gKeep (fun t => t = 1) σ (gup σ (b 1) (1, gO 1 ([.ref (b 20), .ref (b 21), .ref (b 22), .int (iI (J 30))].set 3 (.int (iI 0)))))).mono (fun t (h : t = 1) => (by show t = 1; omega)))
    generalize (gup σ (b 1) (1, gO 1 ([.ref (b 20), .ref (b 21), .ref (b 22), .int (iI (J 30))].set 3 (.int (iI 0))))) = σ10 at hG hX10 hkp10
    refine g_iconst hx hb dX0_plan_13 ?_
    exact g_iret hx hb hr hlocks hQ hG hS (Nat.zero_le _) (Nat.zero_le _) ⟨_, rfl, hkp10, (⟨U, J10, hX10, hT, (⟨by (repeat (first | rw [if_pos (by omega)] | rw [if_neg (by omega)])) <;> first | rfl | omega, Or.inl ⟨by omega, rfl, eJ10⟩⟩)⟩)⟩ dX0_plan_14

