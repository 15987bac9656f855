theorem gcd_i (a b : Int) (hb : 0 < b) (ha : 0 ≤ a) : (Nat.gcd b.toNat (a % b).toNat : Int) = (Nat.gcd a.toNat b.toNat : Int) := by
  have h : (a % b).toNat = a.toNat % b.toNat := by
    obtain ⟨n, rfl⟩ : ∃ n : Nat, a = n := ⟨a.toNat, by omega⟩
    obtain ⟨k, rfl⟩ : ∃ k : Nat, b = k := ⟨b.toNat, by omega⟩
    rw [← Int.natCast_emod]; rfl
  rw [h, Nat.gcd_comm b.toNat, ← Nat.gcd_rec, Nat.gcd_comm]
theorem md_lt (a : Int) {b : Int} (hb : 0 < b) : 0 ≤ a % b ∧ a % b < b := ⟨Int.emod_nonneg _ (by omega), Int.emod_lt_of_pos _ hb⟩
theorem mX4_common_d (l : Launch) (X : gX) : ∀ (d : Nat) (σ : gS) (a9 b9 : Int), 0 ≤ a9 ∧ a9 ≤ 30 → 0 ≤ b9 ∧ b9 ≤ 30 → b9 ≤ d → gMet l X yX4_common cX4_common 2 (some .int) d 0 0 (21 * d) σ [.int (iI a9), .int (iI b9)] (oI (fun r σ' => (r = (Nat.gcd a9.toNat b9.toNat : Int) ∧ (0 ≤ r ∧ r ≤ 30)) ∧ σ = σ')) := by
  intro d
  induction d with
  | zero =>
    intro σ a9 b9 h0 h1 h2
    obtain rfl : b9 = 0 := by omega
    refine gMet.of (by decide) (Nat.le_of_ble_eq_true rfl) ?_
    intro pp ee ss mm args below meth cd Q H locs ls hargs hx hb hr hlocks hml hown hnm hts hK hG hS hQ hl
    have hown : ss.vm.findClass RX4 = some mm.cls := hown
    have hl : lv_has ls 2 [(0, .int (iI a9)), (1, .int (iI 0))] := hl
    refine lv_iload_n hx hb dX4_common_0 rfl (lv_at hl 1 rfl) ?_
    refine g_if_ne (tgt := 8) hx hb dX4_common_1 (by decide) (by omega) (fun cq1 => absurd cq1 (by decide)) (fun cq1 => ?_)
    refine lv_iload_n hx hb dX4_common_4 rfl (lv_at hl 0 rfl) ?_
    refine lv_goto (tgt := 15) hx hb dX4_common_5 (by decide) ?_
    exact g_iret hx hb hr hlocks hQ hG hS (Nat.zero_le _) (Nat.zero_le _) ⟨_, rfl, ⟨(by rw [show (0 : Int) = 0 by omega]; simp; omega), (by omega)⟩, rfl⟩ dX4_common_15
  | succ d ih =>
    intro σ a9 b9 h0 h1 h2
    refine gMet.of (by decide) (Nat.le_of_ble_eq_true rfl) ?_
    intro pp ee ss mm args below meth cd Q H locs ls hargs hx hb hr hlocks hml hown hnm hts hK hG hS hQ hl
    have hown : ss.vm.findClass RX4 = some mm.cls := hown
    have hl : lv_has ls 2 [(0, .int (iI a9)), (1, .int (iI b9))] := hl
    refine lv_iload_n hx hb dX4_common_0 rfl (lv_at hl 1 rfl) ?_
    refine g_if_ne (tgt := 8) hx hb dX4_common_1 (by decide) (by omega) (fun cq1 => ?_) (fun cq1 => ?_)
    · have hmd := md_lt a9 (b := b9) (by omega)
      refine lv_iload_n hx hb dX4_common_8 rfl (lv_at hl 1 rfl) ?_
      refine lv_iload_n hx hb dX4_common_9 rfl (lv_at hl 0 rfl) ?_
      refine lv_iload_n hx hb dX4_common_10 rfl (lv_at hl 1 rfl) ?_
      refine g_irem hx hb dX4_common_11 (by omega) (by omega) ?_
      refine g_callS (As := [.int (iI b9), .int (iI (a9 % b9))]) (rest := []) 2 hx hb hml hown hts hK hG hS hl.1 (ih σ b9 (a9 % b9) (by omega) (by have := md_lt a9 (b := b9) (by omega); omega) (by have := md_lt a9 (b := b9) (by omega); omega)) q2265 q2266 q86 q2267 (by decide +kernel) rfl ⟨Nat.le_refl _, by show 8 + (2 + 11) + 21 * d ≤ 21 * (d + 1); omega⟩ ⟨Nat.zero_le _, Nat.zero_le _⟩ (Nat.le_of_ble_eq_true rfl) dX4_common_12 (kI (fun r2 σr2 H locs hp hG hS => ?_))
      obtain ⟨⟨hr2, kr2⟩, rfl⟩ := hp
      exact g_iret hx hb hr hlocks hQ hG hS (Nat.zero_le _) (Nat.zero_le _) ⟨_, rfl, ⟨(by rw [hr2]; exact gcd_i _ _ (by omega) (by omega)), (by omega)⟩, rfl⟩ dX4_common_15
    · refine lv_iload_n hx hb dX4_common_4 rfl (lv_at hl 0 rfl) ?_
      refine lv_goto (tgt := 15) hx hb dX4_common_5 (by decide) ?_
      exact g_iret hx hb hr hlocks hQ hG hS (Nat.zero_le _) (Nat.zero_le _) ⟨_, rfl, ⟨(by rw [show b9 = 0 by omega]; simp; omega), (by omega)⟩, rfl⟩ dX4_common_15
set_option maxHeartbeats 4000000 in
theorem mX4_odds (l : Launch) (X : gX) (σ : gS) (o : Nat) (a : Nat → Nat) (V : Nat → Int → Int) (Iv : Nat → Int) (hM : MW X σ o a V Iv) (hT : okT (V 0)) (k9 : Int) (seed : Int) (m9 : Int) (p9 : Int) (h0 : -2147483648 ≤ k9 ∧ k9 ≤ 2147483647) (h1 : -2147483648 ≤ seed ∧ seed ≤ 2147483647) (h2 : -2147483648 ≤ m9 ∧ m9 ≤ 2147483647) (h3 : -2147483648 ≤ p9 ∧ p9 ≤ 2147483647) : gMet l X yX4_odds cX4_odds 9 (some .long) 31 0 0 651 σ [.ref o, .int (iI k9), .int (iI seed), .int (iI m9), .int (iI p9)] (oL (fun r σ' => r = (if (0 ≤ k9 ∧ k9 ≤ 31) ∧ (1 ≤ m9 ∧ m9 ≤ 30) ∧ (0 ≤ p9 ∧ p9 ≤ 1) then lI ((if p9 = 0 then oddA (V 0) k9 seed m9.toNat else m9) / (Nat.gcd m9.toNat (oddA (V 0) k9 seed m9.toNat).toNat : Int)) else noL) ∧ σ = σ')) := by
  refine gMet.of (by decide) (Nat.le_of_ble_eq_true rfl) ?_
  intro pp ee ss mm args below meth cd Q H locs ls hargs hx hb hr hlocks hml hown hnm hts hK hG hS hQ hl
  have hown : ss.vm.findClass RX4 = some mm.cls := hown
  have hl : lv_has ls 9 [(0, .ref o), (1, .int (iI k9)), (2, .int (iI seed)), (3, .int (iI m9)), (4, .int (iI p9))] := hl
  refine lv_iload_n hx hb dX4_odds_0 rfl (lv_at hl 1 rfl) ?_
  refine g_callS (As := [.int (iI k9)]) (rest := []) 1 hx hb hml hown hts hK hG hS hl.1 (mX4_isCoordinate l X σ  k9 (by omega)) q2075 q2076 q86 q2077 (by decide +kernel) rfl ⟨Nat.le_of_ble_eq_true rfl, Nat.le_of_ble_eq_true rfl⟩ ⟨Nat.le_of_ble_eq_true rfl, Nat.le_of_ble_eq_true rfl⟩ (Nat.le_of_ble_eq_true rfl) dX4_odds_1 (kI (fun r1 σr1 H locs hp hG hS => ?_))
  obtain ⟨hr1, rfl⟩ := hp
  refine g_if_eq (tgt := 30) hx hb dX4_odds_4 (by decide) (by omega) (fun cq2 => ?_) (fun cq2 => ?_)
  · refine g_ldc2 hx hb (-9223372036854775808) hown (hts _ q2127) (by decide) dX4_odds_30 ?_
    exact g_lret hx hb hr hlocks hQ hG hS (Nat.zero_le _) (Nat.zero_le _) ⟨_, rfl, (by rw [if_neg (by omega)]; rfl), rfl⟩ dX4_odds_33
  · refine lv_iload_n hx hb dX4_odds_7 rfl (lv_at hl 3 rfl) ?_
    refine g_i2l hx hb dX4_odds_8 (by omega) ?_
    refine lv_lconst (v := lI 1) hx hb dX4_odds_9 (by decide) ?_
    refine g_ldc2 hx hb (30) hown (hts _ q2060) (by decide) dX4_odds_10 ?_
    refine g_callS (As := [.long (lI m9), .long (lI 1), .long (lI (30))]) (rest := []) 3 hx hb hml hown hts hK hG hS hl.1 (mX4_in l X σ  m9 1 (30) (by omega) (by omega) (by omega)) q2056 q2057 q86 q2058 (by decide +kernel) rfl ⟨Nat.le_of_ble_eq_true rfl, Nat.le_of_ble_eq_true rfl⟩ ⟨Nat.le_of_ble_eq_true rfl, Nat.le_of_ble_eq_true rfl⟩ (Nat.le_of_ble_eq_true rfl) dX4_odds_13 (kI (fun r3 σr3 H locs hp hG hS => ?_))
    obtain ⟨hr3, rfl⟩ := hp
    refine g_if_eq (tgt := 30) hx hb dX4_odds_16 (by decide) (by omega) (fun cq4 => ?_) (fun cq4 => ?_)
    · refine g_ldc2 hx hb (-9223372036854775808) hown (hts _ q2127) (by decide) dX4_odds_30 ?_
      exact g_lret hx hb hr hlocks hQ hG hS (Nat.zero_le _) (Nat.zero_le _) ⟨_, rfl, (by rw [if_neg (by omega)]; rfl), rfl⟩ dX4_odds_33
    · refine lv_iload hx hb dX4_odds_19 (lv_at hl 4 rfl) ?_
      refine g_i2l hx hb dX4_odds_21 (by omega) ?_
      refine lv_lconst (v := lI 0) hx hb dX4_odds_22 (by decide) ?_
      refine lv_lconst (v := lI 1) hx hb dX4_odds_23 (by decide) ?_
      refine g_callS (As := [.long (lI p9), .long (lI 0), .long (lI 1)]) (rest := []) 3 hx hb hml hown hts hK hG hS hl.1 (mX4_in l X σ  p9 0 1 (by omega) (by omega) (by omega)) q2056 q2057 q86 q2058 (by decide +kernel) rfl ⟨Nat.le_of_ble_eq_true rfl, Nat.le_of_ble_eq_true rfl⟩ ⟨Nat.le_of_ble_eq_true rfl, Nat.le_of_ble_eq_true rfl⟩ (Nat.le_of_ble_eq_true rfl) dX4_odds_24 (kI (fun r5 σr5 H locs hp hG hS => ?_))
      obtain ⟨hr5, rfl⟩ := hp
      refine g_if_ne (tgt := 34) hx hb dX4_odds_27 (by decide) (by omega) (fun cq6 => ?_) (fun cq6 => ?_)
      · refine g_iconst hx hb dX4_odds_34 ?_
        refine lv_istore (lv' := [(5, .int (iI 0)), (0, .ref o), (1, .int (iI k9)), (2, .int (iI seed)), (3, .int (iI m9)), (4, .int (iI p9))]) hx hb dX4_odds_35 hl (by decide) rfl (fun ls hl => ?_)
        refine g_iconst hx hb dX4_odds_37 ?_
        refine lv_istore (lv' := [(6, .int (iI 0)), (5, .int (iI 0)), (0, .ref o), (1, .int (iI k9)), (2, .int (iI seed)), (3, .int (iI m9)), (4, .int (iI p9))]) hx hb dX4_odds_38 hl (by decide) rfl (fun ls hl => ?_)
        have loop_40 : ∀ (nF : Nat) (so9 : Int) (s9 : Int) (k : Nat), (30 - k : Nat) < nF → (s9 = (k : Int)) → (s9 ≤ m9) → (so9 = oddA (V 0) k9 seed k) → ∀ (H : Heap) (locs : List Loc) (ls : Array Slot), gSat X σ H → va_S (gA X) ss.heap H locs → lv_has ls 9 [(6, .int (iI s9)), (5, .int (iI so9)), (0, .ref o), (1, .int (iI k9)), (2, .int (iI seed)), (3, .int (iI m9)), (4, .int (iI p9))] → W pp l ee (gR 31 0 0 651) ss mm args below meth cd H locs 0 0 Q (F0 mm 40 ls []) := by
          intro nF
          induction nF with
          | zero => intro so9 s9 k hm; exact absurd hm (Nat.not_lt_zero _)
          | succ nF ih_40 =>
            intro so9 s9 k hm hi40_0 hi40_1 hi40_2 H locs ls hG hS hl
            have hor := oddA_r (V 0) k9 seed k
            refine lv_iload hx hb dX4_odds_40 (lv_at hl 0 rfl) ?_
            refine lv_iload_n hx hb dX4_odds_42 rfl (lv_at hl 5 rfl) ?_
            refine g_icmp_ge (tgt := 114) hx hb dX4_odds_43 (by decide) (by omega) (by omega) (fun cq7 => ?_) (fun cq7 => ?_)
            · refine lv_iload hx hb dX4_odds_114 (lv_at hl 6 rfl) ?_
              refine g_if_ne (tgt := 124) hx hb dX4_odds_116 (by decide) (by omega) (fun cq8 => ?_) (fun cq8 => ?_)
              · refine lv_iload_n hx hb dX4_odds_124 rfl (lv_at hl 5 rfl) ?_
                refine lv_iload_n hx hb dX4_odds_125 rfl (lv_at hl 5 rfl) ?_
                refine lv_iload hx hb dX4_odds_126 (lv_at hl 1 rfl) ?_
                refine g_callS (As := [.int (iI m9), .int (iI so9)]) (rest := [.int (iI m9)]) 2 hx hb hml hown hts hK hG hS hl.1 (mX4_common_d l X 30 σ m9 so9 (by omega) (by omega) (by omega)) q2265 q2266 q86 q2267 (by decide +kernel) rfl ⟨Nat.le_of_ble_eq_true rfl, Nat.le_of_ble_eq_true rfl⟩ ⟨Nat.le_of_ble_eq_true rfl, Nat.le_of_ble_eq_true rfl⟩ (Nat.le_of_ble_eq_true rfl) dX4_odds_128 (kI (fun r9 σr9 H locs hp hG hS => ?_))
                obtain ⟨⟨hr9, kr9⟩, rfl⟩ := hp
                have hg0 : 0 < r9 := by rw [hr9]; have := Nat.gcd_pos_of_pos_left so9.toNat (show 0 < m9.toNat by omega); omega
                have hdv : m9 / r9 ≤ 30 := Int.le_trans (Int.ediv_le_self _ (by omega)) (by omega)
                have hdv0 : 0 ≤ m9 / r9 := Int.ediv_nonneg (by omega) (by omega)
                refine g_idiv hx hb dX4_odds_131 (by omega) (by omega) ?_
                refine g_i2l hx hb dX4_odds_132 (by omega) ?_
                exact g_lret hx hb hr hlocks hQ hG hS (Nat.zero_le _) (Nat.zero_le _) ⟨_, rfl, (by rw [if_pos (by omega), show oddA (V 0) k9 seed m9.toNat = so9 by rw [hi40_2, show m9.toNat = k by omega], if_neg (by omega), hr9]), rfl⟩ dX4_odds_133
              · refine lv_iload hx hb dX4_odds_119 (lv_at hl 1 rfl) ?_
                refine lv_goto (tgt := 125) hx hb dX4_odds_121 (by decide) ?_
                refine lv_iload_n hx hb dX4_odds_125 rfl (lv_at hl 5 rfl) ?_
                refine lv_iload hx hb dX4_odds_126 (lv_at hl 1 rfl) ?_
                refine g_callS (As := [.int (iI m9), .int (iI so9)]) (rest := [.int (iI so9)]) 2 hx hb hml hown hts hK hG hS hl.1 (mX4_common_d l X 30 σ m9 so9 (by omega) (by omega) (by omega)) q2265 q2266 q86 q2267 (by decide +kernel) rfl ⟨Nat.le_of_ble_eq_true rfl, Nat.le_of_ble_eq_true rfl⟩ ⟨Nat.le_of_ble_eq_true rfl, Nat.le_of_ble_eq_true rfl⟩ (Nat.le_of_ble_eq_true rfl) dX4_odds_128 (kI (fun r10 σr10 H locs hp hG hS => ?_))
                obtain ⟨⟨hr10, kr10⟩, rfl⟩ := hp
                have hg0 : 0 < r10 := by rw [hr10]; have := Nat.gcd_pos_of_pos_left so9.toNat (show 0 < m9.toNat by omega); omega
                have hdv : so9 / r10 ≤ 30 := Int.le_trans (Int.ediv_le_self _ (by omega)) (by omega)
                have hdv0 : 0 ≤ so9 / r10 := Int.ediv_nonneg (by omega) (by omega)
                refine g_idiv hx hb dX4_odds_131 (by omega) (by omega) ?_
                refine g_i2l hx hb dX4_odds_132 (by omega) ?_
                exact g_lret hx hb hr hlocks hQ hG hS (Nat.zero_le _) (Nat.zero_le _) ⟨_, rfl, (by rw [if_pos (by omega), show oddA (V 0) k9 seed m9.toNat = so9 by rw [hi40_2, show m9.toNat = k by omega], if_pos (by omega), hr10]), rfl⟩ dX4_odds_133
            · refine lv_iload_n hx hb dX4_odds_46 rfl (lv_at hl 4 rfl) ?_
              refine lv_iload hx hb dX4_odds_47 (lv_at hl 0 rfl) ?_
              refine g_iadd hx hb dX4_odds_49 ?_
              refine g_ldc hx hb (1103515245) hown (hts _ q2264) (by decide) dX4_odds_50 ?_
              refine g_imul hx hb dX4_odds_52 ?_
              refine g_sipush hx hb dX4_odds_53 (by decide) ?_
              refine g_iadd hx hb dX4_odds_56 ?_
              refine lv_istore (lv' := [(7, .int (iI (((seed + s9) * 1103515245) + 12345))), (6, .int (iI s9)), (5, .int (iI so9)), (0, .ref o), (1, .int (iI k9)), (2, .int (iI seed)), (3, .int (iI m9)), (4, .int (iI p9))]) hx hb dX4_odds_57 hl (by decide) rfl (fun ls hl => ?_)
              refine lv_iload hx hb dX4_odds_59 (lv_at hl 0 rfl) ?_
              refine g_bipush hx hb dX4_odds_61 (by decide) ?_
              refine lv_iushr hx hb dX4_odds_63 (iI_d16 _) ?_
              have hd11 := d16_r (((seed + s9) * 1103515245) + 12345)
              refine g_bipush hx hb dX4_odds_64 (by decide) ?_
              refine g_irem hx hb dX4_odds_66 (by omega) (by omega) ?_
              refine lv_istore (lv' := [(8, .int (iI ((d16 (((seed + s9) * 1103515245) + 12345)) % 32))), (7, .int (iI (((seed + s9) * 1103515245) + 12345))), (6, .int (iI s9)), (5, .int (iI so9)), (0, .ref o), (1, .int (iI k9)), (2, .int (iI seed)), (3, .int (iI m9)), (4, .int (iI p9))]) hx hb dX4_odds_67 hl (by decide) rfl (fun ls hl => ?_)
              refine lv_iload hx hb dX4_odds_69 (lv_at hl 1 rfl) ?_
              refine g_ldc hx hb (1103515245) hown (hts _ q2264) (by decide) dX4_odds_71 ?_
              refine g_imul hx hb dX4_odds_73 ?_
              refine g_sipush hx hb dX4_odds_74 (by decide) ?_
              refine g_iadd hx hb dX4_odds_77 ?_
              refine lv_istore (lv' := [(7, .int (iI (((((seed + s9) * 1103515245) + 12345) * 1103515245) + 12345))), (8, .int (iI ((d16 (((seed + s9) * 1103515245) + 12345)) % 32))), (6, .int (iI s9)), (5, .int (iI so9)), (0, .ref o), (1, .int (iI k9)), (2, .int (iI seed)), (3, .int (iI m9)), (4, .int (iI p9))]) hx hb dX4_odds_78 hl (by decide) rfl (fun ls hl => ?_)
              refine lv_iload hx hb dX4_odds_80 (lv_at hl 3 rfl) ?_
              refine lv_aload_n hx hb dX4_odds_82 rfl (lv_at hl 4 rfl) ?_
              refine lv_iload hx hb dX4_odds_83 (lv_at hl 1 rfl) ?_
              refine lv_iload hx hb dX4_odds_85 (lv_at hl 0 rfl) ?_
              refine g_bipush hx hb dX4_odds_87 (by decide) ?_
              refine lv_iushr hx hb dX4_odds_89 (iI_d16 _) ?_
              have hd12 := d16_r (((((seed + s9) * 1103515245) + 12345) * 1103515245) + 12345)
              refine g_bipush hx hb dX4_odds_90 (by decide) ?_
              refine g_irem hx hb dX4_odds_92 (by omega) (by omega) ?_
              refine g_callV (As := [.int (iI ((d16 (((seed + s9) * 1103515245) + 12345)) % 32)), .int (iI ((d16 (((((seed + s9) * 1103515245) + 12345) * 1103515245) + 12345)) % 32))]) (rest := [.int (iI so9)]) 2 hx hb hml hown hts hK hG hS hl.1 (mX4_keptAt l X σ o a V Iv hM hT ((d16 (((seed + s9) * 1103515245) + 12345)) % 32) ((d16 (((((seed + s9) * 1103515245) + 12345) * 1103515245) + 12345)) % 32) (by omega) (by omega)) hM.o rfl q2090 q2092 qs47 q86 q2093 (by decide +kernel) rfl ⟨Nat.le_of_ble_eq_true rfl, Nat.le_of_ble_eq_true rfl⟩ ⟨Nat.le_of_ble_eq_true rfl, Nat.le_of_ble_eq_true rfl⟩ (Nat.le_of_ble_eq_true rfl) dX4_odds_93 (kI (fun r13 σr13 H locs hp hG hS => ?_))
              obtain ⟨⟨hr13, kr13⟩, rfl⟩ := hp
              refine lv_iload_n hx hb dX4_odds_96 rfl (lv_at hl 5 rfl) ?_
              refine g_icmp_ne (tgt := 104) hx hb dX4_odds_97 (by decide) (by omega) (by omega) (fun cq14 => ?_) (fun cq14 => ?_)
              · refine g_iconst hx hb dX4_odds_104 ?_
                refine g_iadd hx hb dX4_odds_105 ?_
                refine lv_istore (lv' := [(5, .int (iI (so9 + 0))), (7, .int (iI (((((seed + s9) * 1103515245) + 12345) * 1103515245) + 12345))), (8, .int (iI ((d16 (((seed + s9) * 1103515245) + 12345)) % 32))), (6, .int (iI s9)), (0, .ref o), (1, .int (iI k9)), (2, .int (iI seed)), (3, .int (iI m9)), (4, .int (iI p9))]) hx hb dX4_odds_106 hl (by decide) rfl (fun ls hl => ?_)
                refine g_iinc (lv' := [(6, .int (iI (s9 + 1))), (5, .int (iI (so9 + 0))), (7, .int (iI (((((seed + s9) * 1103515245) + 12345) * 1103515245) + 12345))), (8, .int (iI ((d16 (((seed + s9) * 1103515245) + 12345)) % 32))), (0, .ref o), (1, .int (iI k9)), (2, .int (iI seed)), (3, .int (iI m9)), (4, .int (iI p9))]) hx hb dX4_odds_108 hl (k := 3) rfl (by decide) rfl (fun ls hl => ?_)
                refine lv_goto (tgt := 40) hx hb dX4_odds_111 (by decide) ?_
                exact ih_40 (so9 + 0) (s9 + 1) (k + 1) (by omega) (by omega) (by omega) (by rw [hi40_2, oddA, ← hi40_0]; simp only [drwZ, ← hr13]; first | rw [if_pos (by assumption)] | rw [if_neg (by assumption)])  _ _ _ hG hS (lv_sub hl [0, 1, 4, 5, 6, 7, 8] rfl)
              · refine g_iconst hx hb dX4_odds_100 ?_
                refine lv_goto (tgt := 105) hx hb dX4_odds_101 (by decide) ?_
                refine g_iadd hx hb dX4_odds_105 ?_
                refine lv_istore (lv' := [(5, .int (iI (so9 + 1))), (7, .int (iI (((((seed + s9) * 1103515245) + 12345) * 1103515245) + 12345))), (8, .int (iI ((d16 (((seed + s9) * 1103515245) + 12345)) % 32))), (6, .int (iI s9)), (0, .ref o), (1, .int (iI k9)), (2, .int (iI seed)), (3, .int (iI m9)), (4, .int (iI p9))]) hx hb dX4_odds_106 hl (by decide) rfl (fun ls hl => ?_)
                refine g_iinc (lv' := [(6, .int (iI (s9 + 1))), (5, .int (iI (so9 + 1))), (7, .int (iI (((((seed + s9) * 1103515245) + 12345) * 1103515245) + 12345))), (8, .int (iI ((d16 (((seed + s9) * 1103515245) + 12345)) % 32))), (0, .ref o), (1, .int (iI k9)), (2, .int (iI seed)), (3, .int (iI m9)), (4, .int (iI p9))]) hx hb dX4_odds_108 hl (k := 3) rfl (by decide) rfl (fun ls hl => ?_)
                refine lv_goto (tgt := 40) hx hb dX4_odds_111 (by decide) ?_
                exact ih_40 (so9 + 1) (s9 + 1) (k + 1) (by omega) (by omega) (by omega) (by rw [hi40_2, oddA, ← hi40_0]; simp only [drwZ, ← hr13]; first | rw [if_pos (by assumption)] | rw [if_neg (by assumption)])  _ _ _ hG hS (lv_sub hl [0, 1, 4, 5, 6, 7, 8] rfl)
        exact loop_40 _ 0 0 0 (Nat.lt_succ_self _) (rfl) (by omega) (rfl)  _ _ _ hG hS (lv_sub hl [0, 1, 2, 3, 4, 5, 6] rfl)
      · refine g_ldc2 hx hb (-9223372036854775808) hown (hts _ q2127) (by decide) dX4_odds_30 ?_
        exact g_lret hx hb hr hlocks hQ hG hS (Nat.zero_le _) (Nat.zero_le _) ⟨_, rfl, (by rw [if_neg (by omega)]; rfl), rfl⟩ dX4_odds_33

set_option maxHeartbeats 4000000 in
theorem mX4_count (l : Launch) (X : gX) (σ : gS) (o : Nat) (a : Nat → Nat) (V : Nat → Int → Int) (Iv : Nat → Int) (hM : MW X σ o a V Iv) (hT : okT (V 0)) (a9 : Int) (h0 : -2147483648 ≤ a9 ∧ a9 ≤ 2147483647) : gMet l X yX4_count cX4_count 4 (some .int) 0 0 0 0 σ [.ref o, .int (iI a9)] (oI (fun r σ' => r = (if a9 = 0 then V 0 18 else if a9 = 1 then nzZ (V 0) 18 else if a9 = 2 then Iv 23 else if a9 = 3 then Iv 27 else if a9 = 4 then V 0 31 else -2) ∧ σ = σ')) := by
  refine gMet.of (by decide) (Nat.le_of_ble_eq_true rfl) ?_
  intro pp ee ss mm args below meth cd Q H locs ls hargs hx hb hr hlocks hml hown hnm hts hK hG hS hQ hl
  have hown : ss.vm.findClass RX4 = some mm.cls := hown
  have hl : lv_has ls 4 [(0, .ref o), (1, .int (iI a9))] := hl
  refine lv_iload_n hx hb dX4_count_0 rfl (lv_at hl 1 rfl) ?_
  rcases (show a9 = 0 ∨ a9 = 1 ∨ a9 = 2 ∨ a9 = 3 ∨ a9 = 4 ∨ (a9 < 0 ∨ 4 < a9) by omega) with ts1 | ts1 | ts1 | ts1 | ts1 | ts1
  · refine lv_tableIn (tgt := 36) (off := 35) hx hb dX4_count_1 (by rw [iI_toInt (by omega)]; omega) (by rw [iI_toInt (by omega)]; omega) (by rw [iI_toInt (by omega), ts1]; rfl) (by decide) ?_
    refine lv_aload_n hx hb dX4_count_36 rfl (lv_at hl 0 rfl) ?_
    refine g_get (C := RX4) (T := TX4) (N := 30) (v := .ref (a 0)) hx hb hts hown hK hG hM.o rfl in_X4 0 (by decide) q1958 rfl rfl dX4_count_37 ?_
    refine g_bipush hx hb dX4_count_40 (by decide) ?_
    refine g_iald hx hb hK hG hM.a0 dX4_count_42 (by omega) ?_
    exact g_iret hx hb hr hlocks hQ hG hS (Nat.zero_le _) (Nat.zero_le _) ⟨_, rfl, (by repeat (first | rw [if_pos (by omega)] | rw [if_neg (by omega)])), rfl⟩ dX4_count_43
  · refine lv_tableIn (tgt := 44) (off := 43) hx hb dX4_count_1 (by rw [iI_toInt (by omega)]; omega) (by rw [iI_toInt (by omega)]; omega) (by rw [iI_toInt (by omega), ts1]; rfl) (by decide) ?_
    refine g_iconst hx hb dX4_count_44 ?_
    refine lv_istore_n (lv' := [(2, .int (iI 0)), (0, .ref o), (1, .int (iI a9))]) hx hb dX4_count_45 rfl hl (by decide) rfl (fun ls hl => ?_)
    refine g_iconst hx hb dX4_count_46 ?_
    refine lv_istore_n (lv' := [(3, .int (iI 0)), (2, .int (iI 0)), (0, .ref o), (1, .int (iI a9))]) hx hb dX4_count_47 rfl hl (by decide) rfl (fun ls hl => ?_)
    have loop_48 : ∀ (nF : Nat) (n9 : Int) (k9 : Int) (k : Nat), (18 - k : Nat) < nF → (k9 = (k : Int)) → (k ≤ 18) → (n9 = nzZ (V 0) k) → ∀ (H : Heap) (locs : List Loc) (ls : Array Slot), gSat X σ H → va_S (gA X) ss.heap H locs → lv_has ls 4 [(3, .int (iI k9)), (2, .int (iI n9)), (0, .ref o), (1, .int (iI a9))] → W pp l ee (gR 0 0 0 0) ss mm args below meth cd H locs 0 0 Q (F0 mm 48 ls []) := by
      intro nF
      induction nF with
      | zero => intro n9 k9 k hm; exact absurd hm (Nat.not_lt_zero _)
      | succ nF ih_48 =>
        intro n9 k9 k hm hi48_0 hi48_1 hi48_2 H locs ls hG hS hl
        refine lv_iload_n hx hb dX4_count_48 rfl (lv_at hl 0 rfl) ?_
        refine g_bipush hx hb dX4_count_49 (by decide) ?_
        refine g_icmp_ge (tgt := 77) hx hb dX4_count_51 (by decide) (by omega) (by omega) (fun cq2 => ?_) (fun cq2 => ?_)
        · refine lv_iload_n hx hb dX4_count_77 rfl (lv_at hl 1 rfl) ?_
          exact g_iret hx hb hr hlocks hQ hG hS (Nat.zero_le _) (Nat.zero_le _) ⟨_, rfl, (by rw [hi48_2, show k = 18 by omega]; repeat (first | rw [if_pos (by omega)] | rw [if_neg (by omega)])), rfl⟩ dX4_count_78
        · refine lv_iload_n hx hb dX4_count_54 rfl (lv_at hl 1 rfl) ?_
          refine lv_aload_n hx hb dX4_count_55 rfl (lv_at hl 2 rfl) ?_
          refine g_get (C := RX4) (T := TX4) (N := 30) (v := .ref (a 0)) hx hb hts hown hK hG hM.o rfl in_X4 0 (by decide) q1958 rfl rfl dX4_count_56 ?_
          refine lv_iload_n hx hb dX4_count_59 rfl (lv_at hl 0 rfl) ?_
          refine g_iald hx hb hK hG hM.a0 dX4_count_60 (by omega) ?_
          refine g_name (fun w3 ew3 => ?_)
          have hw3 : 0 ≤ w3 ∧ w3 ≤ 30 := by rw [ew3]; exact hT _ (by omega) (by omega)
          refine g_if_eq (tgt := 68) hx hb dX4_count_61 (by decide) (by omega) (fun cq4 => ?_) (fun cq4 => ?_)
          · refine g_iconst hx hb dX4_count_68 ?_
            refine g_iadd hx hb dX4_count_69 ?_
            refine lv_istore_n (lv' := [(2, .int (iI (n9 + 0))), (3, .int (iI k9)), (0, .ref o), (1, .int (iI a9))]) hx hb dX4_count_70 rfl hl (by decide) rfl (fun ls hl => ?_)
            refine g_iinc (lv' := [(3, .int (iI (k9 + 1))), (2, .int (iI (n9 + 0))), (0, .ref o), (1, .int (iI a9))]) hx hb dX4_count_71 hl (k := 1) rfl (by decide) rfl (fun ls hl => ?_)
            refine lv_goto (tgt := 48) hx hb dX4_count_74 (by decide) ?_
            exact ih_48 (n9 + 0) (k9 + 1) (k + 1) (by omega) (by omega) (by omega) (by rw [hi48_2, nzZ, ← hi48_0]; first | rw [if_pos (by omega)] | rw [if_neg (by omega)])  _ _ _ hG hS (lv_sub hl [0, 1, 2, 3] rfl)
          · refine g_iconst hx hb dX4_count_64 ?_
            refine lv_goto (tgt := 69) hx hb dX4_count_65 (by decide) ?_
            refine g_iadd hx hb dX4_count_69 ?_
            refine lv_istore_n (lv' := [(2, .int (iI (n9 + 1))), (3, .int (iI k9)), (0, .ref o), (1, .int (iI a9))]) hx hb dX4_count_70 rfl hl (by decide) rfl (fun ls hl => ?_)
            refine g_iinc (lv' := [(3, .int (iI (k9 + 1))), (2, .int (iI (n9 + 1))), (0, .ref o), (1, .int (iI a9))]) hx hb dX4_count_71 hl (k := 1) rfl (by decide) rfl (fun ls hl => ?_)
            refine lv_goto (tgt := 48) hx hb dX4_count_74 (by decide) ?_
            exact ih_48 (n9 + 1) (k9 + 1) (k + 1) (by omega) (by omega) (by omega) (by rw [hi48_2, nzZ, ← hi48_0]; first | rw [if_pos (by omega)] | rw [if_neg (by omega)])  _ _ _ hG hS (lv_sub hl [0, 1, 2, 3] rfl)
    exact loop_48 _ 0 0 0 (Nat.lt_succ_self _) (rfl) (by decide) (rfl)  _ _ _ hG hS (lv_sub hl [0, 1, 2, 3] rfl)
  · refine lv_tableIn (tgt := 79) (off := 78) hx hb dX4_count_1 (by rw [iI_toInt (by omega)]; omega) (by rw [iI_toInt (by omega)]; omega) (by rw [iI_toInt (by omega), ts1]; rfl) (by decide) ?_
    refine lv_aload_n hx hb dX4_count_79 rfl (lv_at hl 0 rfl) ?_
    refine g_get (C := RX4) (T := TX4) (N := 30) (v := .int (iI (Iv 23))) hx hb hts hown hK hG hM.o rfl in_X4 23 (by decide) q1981 rfl rfl dX4_count_80 ?_
    exact g_iret hx hb hr hlocks hQ hG hS (Nat.zero_le _) (Nat.zero_le _) ⟨_, rfl, (by repeat (first | rw [if_pos (by omega)] | rw [if_neg (by omega)])), rfl⟩ dX4_count_83
  · refine lv_tableIn (tgt := 84) (off := 83) hx hb dX4_count_1 (by rw [iI_toInt (by omega)]; omega) (by rw [iI_toInt (by omega)]; omega) (by rw [iI_toInt (by omega), ts1]; rfl) (by decide) ?_
    refine lv_aload_n hx hb dX4_count_84 rfl (lv_at hl 0 rfl) ?_
    refine g_get (C := RX4) (T := TX4) (N := 30) (v := .int (iI (Iv 27))) hx hb hts hown hK hG hM.o rfl in_X4 27 (by decide) q1985 rfl rfl dX4_count_85 ?_
    exact g_iret hx hb hr hlocks hQ hG hS (Nat.zero_le _) (Nat.zero_le _) ⟨_, rfl, (by repeat (first | rw [if_pos (by omega)] | rw [if_neg (by omega)])), rfl⟩ dX4_count_88
  · refine lv_tableIn (tgt := 89) (off := 88) hx hb dX4_count_1 (by rw [iI_toInt (by omega)]; omega) (by rw [iI_toInt (by omega)]; omega) (by rw [iI_toInt (by omega), ts1]; rfl) (by decide) ?_
    refine lv_aload_n hx hb dX4_count_89 rfl (lv_at hl 0 rfl) ?_
    refine g_get (C := RX4) (T := TX4) (N := 30) (v := .ref (a 0)) hx hb hts hown hK hG hM.o rfl in_X4 0 (by decide) q1958 rfl rfl dX4_count_90 ?_
    refine g_bipush hx hb dX4_count_93 (by decide) ?_
    refine g_iald hx hb hK hG hM.a0 dX4_count_95 (by omega) ?_
    exact g_iret hx hb hr hlocks hQ hG hS (Nat.zero_le _) (Nat.zero_le _) ⟨_, rfl, (by repeat (first | rw [if_pos (by omega)] | rw [if_neg (by omega)])), rfl⟩ dX4_count_96
  · refine lv_tableOut (tgt := 97) hx hb dX4_count_1 (by rw [iI_toInt (by omega)]; omega) (by decide) ?_
    refine g_bipush hx hb dX4_count_97 (by decide) ?_
    exact g_iret hx hb hr hlocks hQ hG hS (Nat.zero_le _) (Nat.zero_le _) ⟨_, rfl, (by repeat (first | rw [if_pos (by omega)] | rw [if_neg (by omega)])), rfl⟩ dX4_count_99

set_option maxHeartbeats 4000000 in
theorem mX4_judge (l : Launch) (X : gX) (σ : gS) (o : Nat) (a : Nat → Nat) (V : Nat → Int → Int) (Iv : Nat → Int) (hM : MW X σ o a V Iv) (hT : okT (V 0)) (i : Int) (x : Int) (y : Int) (h0 : (∀ q : Int, 0 ≤ q → q ≤ 3 → -1 ≤ V 28 q ∧ V 28 q ≤ 12)) (h1 : (∀ q z : Int, 0 ≤ q → q ≤ 3 → -2147483648 ≤ V (40 + q.toNat) z ∧ V (40 + q.toNat) z ≤ 2147483647)) (h2 : -2147483648 ≤ i ∧ i ≤ 2147483647) (h3 : -2147483648 ≤ x ∧ x ≤ 2147483647) (h4 : -2147483648 ≤ y ∧ y ≤ 2147483647) : gMet l X yX4_judge cX4_judge 7 (some .int) 6 0 0 148 σ [.ref o, .int (iI i), .int (iI x), .int (iI y)] (oI (fun r σ' => r = (if (0 ≤ i ∧ i ≤ 3) ∧ okSp x y then (if V 28 i < 0 then -11 else jdA (V 0) (V (40 + i.toNat)) (V 28 i).toNat 0 (32 * x + y)) else -1) ∧ σ = σ')) := by
  refine gMet.of (by decide) (Nat.le_of_ble_eq_true rfl) ?_
  intro pp ee ss mm args below meth cd Q H locs ls hargs hx hb hr hlocks hml hown hnm hts hK hG hS hQ hl
  have hown : ss.vm.findClass RX4 = some mm.cls := hown
  have hl : lv_has ls 7 [(0, .ref o), (1, .int (iI i)), (2, .int (iI x)), (3, .int (iI y))] := hl
  have hLn := h0
  refine lv_iload_n hx hb dX4_judge_0 rfl (lv_at hl 1 rfl) ?_
  refine g_callS (As := [.int (iI i)]) (rest := []) 1 hx hb hml hown hts hK hG hS hl.1 (mX4_isList l X σ  i (by omega)) q2317 q2318 q86 q2319 (by decide +kernel) rfl ⟨Nat.le_of_ble_eq_true rfl, Nat.le_of_ble_eq_true rfl⟩ ⟨Nat.le_of_ble_eq_true rfl, Nat.le_of_ble_eq_true rfl⟩ (Nat.le_of_ble_eq_true rfl) dX4_judge_1 (kI (fun r1 σr1 H locs hp hG hS => ?_))
  obtain ⟨hr1, rfl⟩ := hp
  refine g_if_eq (tgt := 15) hx hb dX4_judge_4 (by decide) (by omega) (fun cq2 => ?_) (fun cq2 => ?_)
  · refine g_iconst hx hb dX4_judge_15 ?_
    exact g_iret hx hb hr hlocks hQ hG hS (Nat.zero_le _) (Nat.zero_le _) ⟨_, rfl, (by rw [if_neg (by omega)]), rfl⟩ dX4_judge_16
  · refine lv_iload_n hx hb dX4_judge_7 rfl (lv_at hl 2 rfl) ?_
    refine lv_iload_n hx hb dX4_judge_8 rfl (lv_at hl 3 rfl) ?_
    refine g_callS (As := [.int (iI x), .int (iI y)]) (rest := []) 2 hx hb hml hown hts hK hG hS hl.1 (mX4_isSpot l X σ  x y (by omega) (by omega)) q2072 q2073 q86 q2074 (by decide +kernel) rfl ⟨Nat.le_of_ble_eq_true rfl, Nat.le_of_ble_eq_true rfl⟩ ⟨Nat.le_of_ble_eq_true rfl, Nat.le_of_ble_eq_true rfl⟩ (Nat.le_of_ble_eq_true rfl) dX4_judge_9 (kI (fun r3 σr3 H locs hp hG hS => ?_))
    obtain ⟨hr3, rfl⟩ := hp
    refine g_if_ne (tgt := 17) hx hb dX4_judge_12 (by decide) (by omega) (fun cq4 => ?_) (fun cq4 => ?_)
    · refine lv_aload_n hx hb dX4_judge_17 rfl (lv_at hl 0 rfl) ?_
      refine g_get (C := RX4) (T := TX4) (N := 30) (v := .ref (a 28)) hx hb hts hown hK hG hM.o rfl in_X4 28 (by decide) q1986 rfl rfl dX4_judge_18 ?_
      refine lv_iload_n hx hb dX4_judge_21 rfl (lv_at hl 1 rfl) ?_
      refine g_iald hx hb hK hG hM.a28 dX4_judge_22 (by omega) ?_
      have hLi := hLn i (by omega) (by omega)
      refine g_if_ge (tgt := 29) hx hb dX4_judge_23 (by decide) (by omega) (fun cq5 => ?_) (fun cq5 => ?_)
      · refine g_bipush hx hb dX4_judge_29 (by decide) ?_
        refine lv_iload_n hx hb dX4_judge_31 rfl (lv_at hl 2 rfl) ?_
        refine g_imul hx hb dX4_judge_32 ?_
        refine lv_iload_n hx hb dX4_judge_33 rfl (lv_at hl 3 rfl) ?_
        refine g_iadd hx hb dX4_judge_34 ?_
        refine lv_istore (lv' := [(4, .int (iI ((32 * x) + y))), (0, .ref o), (1, .int (iI i)), (2, .int (iI x)), (3, .int (iI y))]) hx hb dX4_judge_35 hl (by decide) rfl (fun ls hl => ?_)
        refine g_iconst hx hb dX4_judge_37 ?_
        refine lv_istore (lv' := [(5, .int (iI 0)), (4, .int (iI ((32 * x) + y))), (0, .ref o), (1, .int (iI i)), (2, .int (iI x)), (3, .int (iI y))]) hx hb dX4_judge_38 hl (by decide) rfl (fun ls hl => ?_)
        have loop_40 : ∀ (nF : Nat) (at9 : Int) (k9 : Int) (f : Nat), (f : Nat) < nF → (at9 = -7 ∨ (0 ≤ at9 ∧ at9 ≤ 1023)) → (0 ≤ k9 ∧ k9 + (f : Int) = V 28 i) → (jdA (V 0) (V (40 + i.toNat)) f k9 at9 = jdA (V 0) (V (40 + i.toNat)) (V 28 i).toNat 0 (32 * x + y)) → ∀ (H : Heap) (locs : List Loc) (ls : Array Slot), gSat X σ H → va_S (gA X) ss.heap H locs → lv_has ls 7 [(5, .int (iI k9)), (4, .int (iI at9)), (0, .ref o), (1, .int (iI i)), (2, .int (iI x)), (3, .int (iI y))] → W pp l ee (gR 6 0 0 148) ss mm args below meth cd H locs 0 0 Q (F0 mm 40 ls []) := by
          intro nF
          induction nF with
          | zero => intro at9 k9 f hm; exact absurd hm (Nat.not_lt_zero _)
          | succ nF ih_40 =>
            intro at9 k9 f hm hi40_0 hi40_1 hi40_2 H locs ls hG hS hl
            refine lv_iload hx hb dX4_judge_40 (lv_at hl 0 rfl) ?_
            refine lv_aload_n hx hb dX4_judge_42 rfl (lv_at hl 2 rfl) ?_
            refine g_get (C := RX4) (T := TX4) (N := 30) (v := .ref (a 28)) hx hb hts hown hK hG hM.o rfl in_X4 28 (by decide) q1986 rfl rfl dX4_judge_43 ?_
            refine lv_iload_n hx hb dX4_judge_46 rfl (lv_at hl 3 rfl) ?_
            refine g_iald hx hb hK hG hM.a28 dX4_judge_47 (by omega) ?_
            refine g_icmp_ge (tgt := 135) hx hb dX4_judge_48 (by decide) (by omega) (by omega) (fun cq6 => ?_) (fun cq6 => ?_)
            · refine g_bipush hx hb dX4_judge_135 (by decide) ?_
              exact g_iret hx hb hr hlocks hQ hG hS (Nat.zero_le _) (Nat.zero_le _) ⟨_, rfl, (by rw [if_pos (by omega), if_neg (by omega), ← hi40_2, jdA_0 (by omega)]), rfl⟩ dX4_judge_137
            · refine lv_iload hx hb dX4_judge_51 (lv_at hl 0 rfl) ?_
              refine g_iconst hx hb dX4_judge_53 ?_
              refine g_irem hx hb dX4_judge_54 (by omega) (by omega) ?_
              refine g_if_ne (tgt := 75) hx hb dX4_judge_55 (by decide) (by omega) (fun cq7 => ?_) (fun cq7 => ?_)
              · refine lv_iload hx hb dX4_judge_75 (lv_at hl 1 rfl) ?_
                refine lv_istore (lv' := [(4, .int (iI at9)), (5, .int (iI k9)), (0, .ref o), (1, .int (iI i)), (2, .int (iI x)), (3, .int (iI y))]) hx hb dX4_judge_77 hl (by decide) rfl (fun ls hl => ?_)
                refine lv_iload hx hb dX4_judge_79 (lv_at hl 0 rfl) ?_
                refine g_bipush hx hb dX4_judge_81 (by decide) ?_
                refine g_icmp_ne (tgt := 90) hx hb dX4_judge_83 (by decide) (by omega) (by omega) (fun cq8 => ?_) (fun cq8 => ?_)
                · refine lv_iload hx hb dX4_judge_90 (lv_at hl 1 rfl) ?_
                  refine g_iconst hx hb dX4_judge_92 ?_
                  refine g_irem hx hb dX4_judge_93 (by omega) (by omega) ?_
                  refine g_if_ne (tgt := 105) hx hb dX4_judge_94 (by decide) (by omega) (fun cq9 => ?_) (fun cq9 => by omega)
                  refine lv_iload hx hb dX4_judge_105 (lv_at hl 0 rfl) ?_
                  refine g_bipush hx hb dX4_judge_107 (by decide) ?_
                  refine g_irem hx hb dX4_judge_109 (by omega) (by omega) ?_
                  refine lv_istore (lv' := [(6, .int (iI (at9 % 32))), (4, .int (iI at9)), (5, .int (iI k9)), (0, .ref o), (1, .int (iI i)), (2, .int (iI x)), (3, .int (iI y))]) hx hb dX4_judge_110 hl (by decide) rfl (fun ls hl => ?_)
                  have hjN : jdN (V 0) k9 at9 = at9 := by unfold jdN; (first | rw [if_pos (by omega)] | rw [if_neg (by omega)])
                  have hjD : jdD k9 at9 = at9 % 32 := by unfold jdD; repeat (first | rw [if_pos (by omega)] | rw [if_neg (by omega)])
                  refine lv_aload_n hx hb dX4_judge_112 rfl (lv_at hl 3 rfl) ?_
                  refine g_get (C := RX4) (T := TX4) (N := 30) (v := .ref (a 29)) hx hb hts hown hK hG hM.o rfl in_X4 29 (by decide) q1987 rfl rfl dX4_judge_113 ?_
                  refine lv_iload_n hx hb dX4_judge_116 rfl (lv_at hl 4 rfl) ?_
                  refine g_aaldA (v := .ref (a (40 + i.toNat))) hx hb 7 hK hG hM.a29 rfl dX4_judge_117 (by omega) (rfl) ?_
                  refine lv_iload hx hb dX4_judge_118 (lv_at hl 2 rfl) ?_
                  refine g_iald hx hb hK hG (hM.it (l := i) (by omega)) dX4_judge_120 (by omega) ?_
                  have hIr := h1 i k9 (by omega) (by omega)
                  refine lv_iload hx hb dX4_judge_121 (lv_at hl 0 rfl) ?_
                  refine g_icmp_eq (tgt := 129) hx hb dX4_judge_123 (by decide) (by omega) (by omega) (fun cq10 => ?_) (fun cq10 => ?_)
                  · refine g_iinc (lv' := [(5, .int (iI (k9 + 1))), (6, .int (iI (at9 % 32))), (4, .int (iI at9)), (0, .ref o), (1, .int (iI i)), (2, .int (iI x)), (3, .int (iI y))]) hx hb dX4_judge_129 hl (k := 2) rfl (by decide) rfl (fun ls hl => ?_)
                    refine lv_goto (tgt := 40) hx hb dX4_judge_132 (by decide) ?_
                    exact ih_40 at9 (k9 + 1) (f - 1) (by omega) (by omega) (by omega) (by rw [← hi40_2]; have hjs := jdA_s (T := V 0) (R := V (40 + i.toNat)) (f := f) (k := k9) (a := at9) (by rw [hjN, hjD]; assumption) (by omega); rw [hjN] at hjs; exact hjs)  _ _ _ hG hS (lv_sub hl [0, 2, 3, 4, 5, 6] rfl)
                  · refine lv_iload hx hb dX4_judge_126 (lv_at hl 2 rfl) ?_
                    exact g_iret hx hb hr hlocks hQ hG hS (Nat.zero_le _) (Nat.zero_le _) ⟨_, rfl, (by rw [if_pos (by omega), if_neg (by omega), ← hi40_2, jdA_n (by rw [hjN, hjD]; assumption) (by omega)]), rfl⟩ dX4_judge_128
                · refine g_iconst hx hb dX4_judge_86 ?_
                  refine lv_goto (tgt := 110) hx hb dX4_judge_87 (by decide) ?_
                  refine lv_istore (lv' := [(6, .int (iI (-1))), (4, .int (iI at9)), (5, .int (iI k9)), (0, .ref o), (1, .int (iI i)), (2, .int (iI x)), (3, .int (iI y))]) hx hb dX4_judge_110 hl (by decide) rfl (fun ls hl => ?_)
                  have hjN : jdN (V 0) k9 at9 = at9 := by unfold jdN; (first | rw [if_pos (by omega)] | rw [if_neg (by omega)])
                  have hjD : jdD k9 at9 = -1 := by unfold jdD; repeat (first | rw [if_pos (by omega)] | rw [if_neg (by omega)])
                  refine lv_aload_n hx hb dX4_judge_112 rfl (lv_at hl 3 rfl) ?_
                  refine g_get (C := RX4) (T := TX4) (N := 30) (v := .ref (a 29)) hx hb hts hown hK hG hM.o rfl in_X4 29 (by decide) q1987 rfl rfl dX4_judge_113 ?_
                  refine lv_iload_n hx hb dX4_judge_116 rfl (lv_at hl 4 rfl) ?_
                  refine g_aaldA (v := .ref (a (40 + i.toNat))) hx hb 7 hK hG hM.a29 rfl dX4_judge_117 (by omega) (rfl) ?_
                  refine lv_iload hx hb dX4_judge_118 (lv_at hl 2 rfl) ?_
                  refine g_iald hx hb hK hG (hM.it (l := i) (by omega)) dX4_judge_120 (by omega) ?_
                  have hIr := h1 i k9 (by omega) (by omega)
                  refine lv_iload hx hb dX4_judge_121 (lv_at hl 0 rfl) ?_
                  refine g_icmp_eq (tgt := 129) hx hb dX4_judge_123 (by decide) (by omega) (by omega) (fun cq11 => ?_) (fun cq11 => ?_)
                  · refine g_iinc (lv' := [(5, .int (iI (k9 + 1))), (6, .int (iI (-1))), (4, .int (iI at9)), (0, .ref o), (1, .int (iI i)), (2, .int (iI x)), (3, .int (iI y))]) hx hb dX4_judge_129 hl (k := 2) rfl (by decide) rfl (fun ls hl => ?_)
                    refine lv_goto (tgt := 40) hx hb dX4_judge_132 (by decide) ?_
                    exact ih_40 at9 (k9 + 1) (f - 1) (by omega) (by omega) (by omega) (by rw [← hi40_2]; have hjs := jdA_s (T := V 0) (R := V (40 + i.toNat)) (f := f) (k := k9) (a := at9) (by rw [hjN, hjD]; assumption) (by omega); rw [hjN] at hjs; exact hjs)  _ _ _ hG hS (lv_sub hl [0, 2, 3, 4, 5, 6] rfl)
                  · refine lv_iload hx hb dX4_judge_126 (lv_at hl 2 rfl) ?_
                    exact g_iret hx hb hr hlocks hQ hG hS (Nat.zero_le _) (Nat.zero_le _) ⟨_, rfl, (by rw [if_pos (by omega), if_neg (by omega), ← hi40_2, jdA_n (by rw [hjN, hjD]; assumption) (by omega)]), rfl⟩ dX4_judge_128
              · refine lv_iload hx hb dX4_judge_58 (lv_at hl 1 rfl) ?_
                refine g_bipush hx hb dX4_judge_60 (by decide) ?_
                refine g_icmp_eq (tgt := 75) hx hb dX4_judge_62 (by decide) (by omega) (by omega) (fun cq12 => ?_) (fun cq12 => ?_)
                · refine lv_iload hx hb dX4_judge_75 (lv_at hl 1 rfl) ?_
                  refine lv_istore (lv' := [(4, .int (iI at9)), (5, .int (iI k9)), (0, .ref o), (1, .int (iI i)), (2, .int (iI x)), (3, .int (iI y))]) hx hb dX4_judge_77 hl (by decide) rfl (fun ls hl => ?_)
                  refine lv_iload hx hb dX4_judge_79 (lv_at hl 0 rfl) ?_
                  refine g_bipush hx hb dX4_judge_81 (by decide) ?_
                  refine g_icmp_ne (tgt := 90) hx hb dX4_judge_83 (by decide) (by omega) (by omega) (fun cq13 => by omega) (fun cq13 => ?_)
                  refine g_iconst hx hb dX4_judge_86 ?_
                  refine lv_goto (tgt := 110) hx hb dX4_judge_87 (by decide) ?_
                  refine lv_istore (lv' := [(6, .int (iI (-1))), (4, .int (iI at9)), (5, .int (iI k9)), (0, .ref o), (1, .int (iI i)), (2, .int (iI x)), (3, .int (iI y))]) hx hb dX4_judge_110 hl (by decide) rfl (fun ls hl => ?_)
                  have hjN : jdN (V 0) k9 at9 = at9 := by unfold jdN; (first | rw [if_pos (by omega)] | rw [if_neg (by omega)])
                  have hjD : jdD k9 at9 = -1 := by unfold jdD; repeat (first | rw [if_pos (by omega)] | rw [if_neg (by omega)])
                  refine lv_aload_n hx hb dX4_judge_112 rfl (lv_at hl 3 rfl) ?_
                  refine g_get (C := RX4) (T := TX4) (N := 30) (v := .ref (a 29)) hx hb hts hown hK hG hM.o rfl in_X4 29 (by decide) q1987 rfl rfl dX4_judge_113 ?_
                  refine lv_iload_n hx hb dX4_judge_116 rfl (lv_at hl 4 rfl) ?_
                  refine g_aaldA (v := .ref (a (40 + i.toNat))) hx hb 7 hK hG hM.a29 rfl dX4_judge_117 (by omega) (rfl) ?_
                  refine lv_iload hx hb dX4_judge_118 (lv_at hl 2 rfl) ?_
                  refine g_iald hx hb hK hG (hM.it (l := i) (by omega)) dX4_judge_120 (by omega) ?_
                  have hIr := h1 i k9 (by omega) (by omega)
                  refine lv_iload hx hb dX4_judge_121 (lv_at hl 0 rfl) ?_
                  refine g_icmp_eq (tgt := 129) hx hb dX4_judge_123 (by decide) (by omega) (by omega) (fun cq14 => ?_) (fun cq14 => ?_)
                  · refine g_iinc (lv' := [(5, .int (iI (k9 + 1))), (6, .int (iI (-1))), (4, .int (iI at9)), (0, .ref o), (1, .int (iI i)), (2, .int (iI x)), (3, .int (iI y))]) hx hb dX4_judge_129 hl (k := 2) rfl (by decide) rfl (fun ls hl => ?_)
                    refine lv_goto (tgt := 40) hx hb dX4_judge_132 (by decide) ?_
                    exact ih_40 at9 (k9 + 1) (f - 1) (by omega) (by omega) (by omega) (by rw [← hi40_2]; have hjs := jdA_s (T := V 0) (R := V (40 + i.toNat)) (f := f) (k := k9) (a := at9) (by rw [hjN, hjD]; assumption) (by omega); rw [hjN] at hjs; exact hjs)  _ _ _ hG hS (lv_sub hl [0, 2, 3, 4, 5, 6] rfl)
                  · refine lv_iload hx hb dX4_judge_126 (lv_at hl 2 rfl) ?_
                    exact g_iret hx hb hr hlocks hQ hG hS (Nat.zero_le _) (Nat.zero_le _) ⟨_, rfl, (by rw [if_pos (by omega), if_neg (by omega), ← hi40_2, jdA_n (by rw [hjN, hjD]; assumption) (by omega)]), rfl⟩ dX4_judge_128
                · refine lv_aload_n hx hb dX4_judge_65 rfl (lv_at hl 2 rfl) ?_
                  refine lv_iload hx hb dX4_judge_66 (lv_at hl 1 rfl) ?_
                  refine g_iconst hx hb dX4_judge_68 ?_
                  refine g_callV (As := [.int (iI at9), .int (iI 0)]) (rest := []) 2 hx hb hml hown hts hK hG hS hl.1 (mX4_step l X σ o a V Iv hM hT at9 0 (by omega) (by omega)) hM.o rfl q2134 q2136 qs51 q86 q2137 (by decide +kernel) rfl ⟨Nat.le_of_ble_eq_true rfl, Nat.le_of_ble_eq_true rfl⟩ ⟨Nat.le_of_ble_eq_true rfl, Nat.le_of_ble_eq_true rfl⟩ (Nat.le_of_ble_eq_true rfl) dX4_judge_69 (kI (fun r15 σr15 H locs hp hG hS => ?_))
                  obtain ⟨⟨hr15, kr15⟩, rfl⟩ := hp
                  refine lv_goto (tgt := 77) hx hb dX4_judge_72 (by decide) ?_
                  refine lv_istore (lv' := [(4, .int (iI r15)), (5, .int (iI k9)), (0, .ref o), (1, .int (iI i)), (2, .int (iI x)), (3, .int (iI y))]) hx hb dX4_judge_77 hl (by decide) rfl (fun ls hl => ?_)
                  refine lv_iload hx hb dX4_judge_79 (lv_at hl 0 rfl) ?_
                  refine g_bipush hx hb dX4_judge_81 (by decide) ?_
                  refine g_icmp_ne (tgt := 90) hx hb dX4_judge_83 (by decide) (by omega) (by omega) (fun cq16 => ?_) (fun cq16 => ?_)
                  · refine lv_iload hx hb dX4_judge_90 (lv_at hl 1 rfl) ?_
                    refine g_iconst hx hb dX4_judge_92 ?_
                    refine g_irem hx hb dX4_judge_93 (by omega) (by omega) ?_
                    refine g_if_ne (tgt := 105) hx hb dX4_judge_94 (by decide) (by omega) (fun cq17 => by omega) (fun cq17 => ?_)
                    refine lv_iload hx hb dX4_judge_97 (lv_at hl 0 rfl) ?_
                    refine g_bipush hx hb dX4_judge_99 (by decide) ?_
                    refine g_idiv hx hb dX4_judge_101 (by omega) (by omega) ?_
                    refine lv_goto (tgt := 110) hx hb dX4_judge_102 (by decide) ?_
                    refine lv_istore (lv' := [(6, .int (iI (r15 / 32))), (4, .int (iI r15)), (5, .int (iI k9)), (0, .ref o), (1, .int (iI i)), (2, .int (iI x)), (3, .int (iI y))]) hx hb dX4_judge_110 hl (by decide) rfl (fun ls hl => ?_)
                    have hjN : jdN (V 0) k9 at9 = r15 := by unfold jdN; (first | rw [if_pos (by omega)] | rw [if_neg (by omega)]); exact hr15.symm
                    have hjD : jdD k9 r15 = r15 / 32 := by unfold jdD; repeat (first | rw [if_pos (by omega)] | rw [if_neg (by omega)])
                    refine lv_aload_n hx hb dX4_judge_112 rfl (lv_at hl 3 rfl) ?_
                    refine g_get (C := RX4) (T := TX4) (N := 30) (v := .ref (a 29)) hx hb hts hown hK hG hM.o rfl in_X4 29 (by decide) q1987 rfl rfl dX4_judge_113 ?_
                    refine lv_iload_n hx hb dX4_judge_116 rfl (lv_at hl 4 rfl) ?_
                    refine g_aaldA (v := .ref (a (40 + i.toNat))) hx hb 7 hK hG hM.a29 rfl dX4_judge_117 (by omega) (rfl) ?_
                    refine lv_iload hx hb dX4_judge_118 (lv_at hl 2 rfl) ?_
                    refine g_iald hx hb hK hG (hM.it (l := i) (by omega)) dX4_judge_120 (by omega) ?_
                    have hIr := h1 i k9 (by omega) (by omega)
                    refine lv_iload hx hb dX4_judge_121 (lv_at hl 0 rfl) ?_
                    refine g_icmp_eq (tgt := 129) hx hb dX4_judge_123 (by decide) (by omega) (by omega) (fun cq18 => ?_) (fun cq18 => ?_)
                    · refine g_iinc (lv' := [(5, .int (iI (k9 + 1))), (6, .int (iI (r15 / 32))), (4, .int (iI r15)), (0, .ref o), (1, .int (iI i)), (2, .int (iI x)), (3, .int (iI y))]) hx hb dX4_judge_129 hl (k := 2) rfl (by decide) rfl (fun ls hl => ?_)
                      refine lv_goto (tgt := 40) hx hb dX4_judge_132 (by decide) ?_
                      exact ih_40 r15 (k9 + 1) (f - 1) (by omega) (by omega) (by omega) (by rw [← hi40_2]; have hjs := jdA_s (T := V 0) (R := V (40 + i.toNat)) (f := f) (k := k9) (a := at9) (by rw [hjN, hjD]; assumption) (by omega); rw [hjN] at hjs; exact hjs)  _ _ _ hG hS (lv_sub hl [0, 2, 3, 4, 5, 6] rfl)
                    · refine lv_iload hx hb dX4_judge_126 (lv_at hl 2 rfl) ?_
                      exact g_iret hx hb hr hlocks hQ hG hS (Nat.zero_le _) (Nat.zero_le _) ⟨_, rfl, (by rw [if_pos (by omega), if_neg (by omega), ← hi40_2, jdA_n (by rw [hjN, hjD]; assumption) (by omega)]), rfl⟩ dX4_judge_128
                  · refine g_iconst hx hb dX4_judge_86 ?_
                    refine lv_goto (tgt := 110) hx hb dX4_judge_87 (by decide) ?_
                    refine lv_istore (lv' := [(6, .int (iI (-1))), (4, .int (iI r15)), (5, .int (iI k9)), (0, .ref o), (1, .int (iI i)), (2, .int (iI x)), (3, .int (iI y))]) hx hb dX4_judge_110 hl (by decide) rfl (fun ls hl => ?_)
                    have hjN : jdN (V 0) k9 at9 = r15 := by unfold jdN; (first | rw [if_pos (by omega)] | rw [if_neg (by omega)]); exact hr15.symm
                    have hjD : jdD k9 r15 = -1 := by unfold jdD; repeat (first | rw [if_pos (by omega)] | rw [if_neg (by omega)])
                    refine lv_aload_n hx hb dX4_judge_112 rfl (lv_at hl 3 rfl) ?_
                    refine g_get (C := RX4) (T := TX4) (N := 30) (v := .ref (a 29)) hx hb hts hown hK hG hM.o rfl in_X4 29 (by decide) q1987 rfl rfl dX4_judge_113 ?_
                    refine lv_iload_n hx hb dX4_judge_116 rfl (lv_at hl 4 rfl) ?_
                    refine g_aaldA (v := .ref (a (40 + i.toNat))) hx hb 7 hK hG hM.a29 rfl dX4_judge_117 (by omega) (rfl) ?_
                    refine lv_iload hx hb dX4_judge_118 (lv_at hl 2 rfl) ?_
                    refine g_iald hx hb hK hG (hM.it (l := i) (by omega)) dX4_judge_120 (by omega) ?_
                    have hIr := h1 i k9 (by omega) (by omega)
                    refine lv_iload hx hb dX4_judge_121 (lv_at hl 0 rfl) ?_
                    refine g_icmp_eq (tgt := 129) hx hb dX4_judge_123 (by decide) (by omega) (by omega) (fun cq19 => ?_) (fun cq19 => ?_)
                    · refine g_iinc (lv' := [(5, .int (iI (k9 + 1))), (6, .int (iI (-1))), (4, .int (iI r15)), (0, .ref o), (1, .int (iI i)), (2, .int (iI x)), (3, .int (iI y))]) hx hb dX4_judge_129 hl (k := 2) rfl (by decide) rfl (fun ls hl => ?_)
                      refine lv_goto (tgt := 40) hx hb dX4_judge_132 (by decide) ?_
                      exact ih_40 r15 (k9 + 1) (f - 1) (by omega) (by omega) (by omega) (by rw [← hi40_2]; have hjs := jdA_s (T := V 0) (R := V (40 + i.toNat)) (f := f) (k := k9) (a := at9) (by rw [hjN, hjD]; assumption) (by omega); rw [hjN] at hjs; exact hjs)  _ _ _ hG hS (lv_sub hl [0, 2, 3, 4, 5, 6] rfl)
                    · refine lv_iload hx hb dX4_judge_126 (lv_at hl 2 rfl) ?_
                      exact g_iret hx hb hr hlocks hQ hG hS (Nat.zero_le _) (Nat.zero_le _) ⟨_, rfl, (by rw [if_pos (by omega), if_neg (by omega), ← hi40_2, jdA_n (by rw [hjN, hjD]; assumption) (by omega)]), rfl⟩ dX4_judge_128
        exact loop_40 _ ((32 * x) + y) 0 ((V 28 i).toNat) (Nat.lt_succ_self _) (by omega) (by omega) (rfl)  _ _ _ hG hS (lv_sub hl [0, 1, 2, 3, 4, 5] rfl)
      · refine g_bipush hx hb dX4_judge_26 (by decide) ?_
        exact g_iret hx hb hr hlocks hQ hG hS (Nat.zero_le _) (Nat.zero_le _) ⟨_, rfl, (by rw [if_pos (by omega), if_pos (by omega)]), rfl⟩ dX4_judge_28
    · refine g_iconst hx hb dX4_judge_15 ?_
      exact g_iret hx hb hr hlocks hQ hG hS (Nat.zero_le _) (Nat.zero_le _) ⟨_, rfl, (by rw [if_neg (by omega)]), rfl⟩ dX4_judge_16

theorem mX4_placeIn (l : Launch) (X : gX) (σ : gS) (o : Nat) (a : Nat → Nat) (V : Nat → Int → Int) (Iv : Nat → Int) (hM : MW X σ o a V Iv) (hT : okT (V 0)) (hS0 : okS (V 0)) (sp : Int) (h0 : 0 ≤ sp ∧ sp ≤ 1023) : gMet l X yX4_placeIn cX4_placeIn 3 (some .int) 0 0 0 0 σ [.ref o, .int (iI sp)] (oI (fun r σ' => ((0 ≤ r ∧ r ≤ V 0 18) ∧ (∀ q : Int, 0 ≤ q → q < r → V 0 (19 + q) < sp) ∧ (r < V 0 18 → sp ≤ V 0 (19 + r))) ∧ σ = σ')) := by
  refine gMet.of (by decide) (Nat.le_of_ble_eq_true rfl) ?_
  intro pp ee ss mm args below meth cd Q H locs ls hargs hx hb hr hlocks hml hown hnm hts hK hG hS hQ hl
  have hown : ss.vm.findClass RX4 = some mm.cls := hown
  have hl : lv_has ls 3 [(0, .ref o), (1, .int (iI sp))] := hl
  have hn := hS0.1
  refine g_iconst hx hb dX4_placeIn_0 ?_
  refine lv_istore_n (lv' := [(2, .int (iI 0)), (0, .ref o), (1, .int (iI sp))]) hx hb dX4_placeIn_1 rfl hl (by decide) rfl (fun ls hl => ?_)
  have loop_2 : ∀ (nF : Nat) (k9 : Int), ((V 0 18 - k9).toNat : Nat) < nF → (0 ≤ k9 ∧ k9 ≤ V 0 18) → (∀ q : Int, 0 ≤ q → q < k9 → V 0 (19 + q) < sp) → ∀ (H : Heap) (locs : List Loc) (ls : Array Slot), gSat X σ H → va_S (gA X) ss.heap H locs → lv_has ls 3 [(2, .int (iI k9)), (0, .ref o), (1, .int (iI sp))] → W pp l ee (gR 0 0 0 0) ss mm args below meth cd H locs 0 0 Q (F0 mm 2 ls []) := by
    intro nF
    induction nF with
    | zero => intro k9 hm; exact absurd hm (Nat.not_lt_zero _)
    | succ nF ih_2 =>
      intro k9 hm hi2_0 hZ H locs ls hG hS hl
      refine lv_iload_n hx hb dX4_placeIn_2 rfl (lv_at hl 0 rfl) ?_
      refine lv_aload_n hx hb dX4_placeIn_3 rfl (lv_at hl 1 rfl) ?_
      refine g_get (C := RX4) (T := TX4) (N := 30) (v := .ref (a 0)) hx hb hts hown hK hG hM.o rfl in_X4 0 (by decide) q1958 rfl rfl dX4_placeIn_4 ?_
      refine g_bipush hx hb dX4_placeIn_7 (by decide) ?_
      refine g_iald hx hb hK hG hM.a0 dX4_placeIn_9 (by omega) ?_
      refine g_icmp_ge (tgt := 32) hx hb dX4_placeIn_10 (by decide) (by omega) (by omega) (fun cq1 => ?_) (fun cq1 => ?_)
      · refine lv_iload_n hx hb dX4_placeIn_32 rfl (lv_at hl 0 rfl) ?_
        exact g_iret hx hb hr hlocks hQ hG hS (Nat.zero_le _) (Nat.zero_le _) ⟨_, rfl, ⟨by omega, hZ, fun h => by omega⟩, rfl⟩ dX4_placeIn_33
      · refine lv_aload_n hx hb dX4_placeIn_13 rfl (lv_at hl 1 rfl) ?_
        refine g_get (C := RX4) (T := TX4) (N := 30) (v := .ref (a 0)) hx hb hts hown hK hG hM.o rfl in_X4 0 (by decide) q1958 rfl rfl dX4_placeIn_14 ?_
        refine g_bipush hx hb dX4_placeIn_17 (by decide) ?_
        refine lv_iload_n hx hb dX4_placeIn_19 rfl (lv_at hl 0 rfl) ?_
        refine g_iadd hx hb dX4_placeIn_20 ?_
        refine g_iald hx hb hK hG hM.a0 dX4_placeIn_21 (by omega) ?_
        have hsr := hS0.2.2 k9 (by omega) (by omega)
        refine lv_iload_n hx hb dX4_placeIn_22 rfl (lv_at hl 2 rfl) ?_
        refine g_icmp_ge (tgt := 32) hx hb dX4_placeIn_23 (by decide) (by omega) (by omega) (fun cq2 => ?_) (fun cq2 => ?_)
        · refine lv_iload_n hx hb dX4_placeIn_32 rfl (lv_at hl 0 rfl) ?_
          exact g_iret hx hb hr hlocks hQ hG hS (Nat.zero_le _) (Nat.zero_le _) ⟨_, rfl, ⟨by omega, hZ, fun h => by omega⟩, rfl⟩ dX4_placeIn_33
        · refine g_iinc (lv' := [(2, .int (iI (k9 + 1))), (0, .ref o), (1, .int (iI sp))]) hx hb dX4_placeIn_26 hl (k := 0) rfl (by decide) rfl (fun ls hl => ?_)
          refine lv_goto (tgt := 2) hx hb dX4_placeIn_29 (by decide) ?_
          exact ih_2 (k9 + 1) (by omega) (by omega) (fun q h1 h2 => by by_cases h : q < k9; exact hZ q h1 h; rw [show q = k9 by omega]; assumption)  _ _ _ hG hS (lv_sub hl [0, 1, 2] rfl)
  exact loop_2 _ 0 (Nat.lt_succ_self _) (by omega) (fun q h1 h2 => by omega)  _ _ _ hG hS (lv_sub hl [0, 1, 2] rfl)

theorem mX4_isTold (l : Launch) (X : gX) (σ : gS) (o : Nat) (a : Nat → Nat) (V : Nat → Int → Int) (Iv : Nat → Int) (hM : MW X σ o a V Iv) (hT : okT (V 0)) (hS0 : okS (V 0)) (sp : Int) (h0 : 0 ≤ sp ∧ sp ≤ 1023) : gMet l X yX4_isTold cX4_isTold 3 (some .boolean) 1 0 0 22 σ [.ref o, .int (iI sp)] (oI (fun r σ' => (r = 1 ∧ (∃ q : Int, 0 ≤ q ∧ q < V 0 18 ∧ V 0 (19 + q) = sp) ∨ r = 0 ∧ ∀ q : Int, 0 ≤ q → q < V 0 18 → V 0 (19 + q) ≠ sp) ∧ σ = σ')) := by
  refine gMet.of (by decide) (Nat.le_of_ble_eq_true rfl) ?_
  intro pp ee ss mm args below meth cd Q H locs ls hargs hx hb hr hlocks hml hown hnm hts hK hG hS hQ hl
  have hown : ss.vm.findClass RX4 = some mm.cls := hown
  have hl : lv_has ls 3 [(0, .ref o), (1, .int (iI sp))] := hl
  have hn := hS0.1
  refine lv_aload_n hx hb dX4_isTold_0 rfl (lv_at hl 0 rfl) ?_
  refine lv_iload_n hx hb dX4_isTold_1 rfl (lv_at hl 1 rfl) ?_
  refine g_callV (As := [.int (iI sp)]) (rest := []) 1 hx hb hml hown hts hK hG hS hl.1 (mX4_placeIn l X σ o a V Iv hM hT hS0 sp (by omega)) hM.o rfl q2227 q2229 qs62 q86 q2230 (by decide +kernel) rfl ⟨Nat.le_of_ble_eq_true rfl, Nat.le_of_ble_eq_true rfl⟩ ⟨Nat.le_of_ble_eq_true rfl, Nat.le_of_ble_eq_true rfl⟩ (Nat.le_of_ble_eq_true rfl) dX4_isTold_2 (kI (fun r1 σr1 H locs hp hG hS => ?_))
  obtain ⟨⟨kr1, mr1, nr1⟩, rfl⟩ := hp
  refine lv_istore_n (lv' := [(2, .int (iI r1)), (0, .ref o), (1, .int (iI sp))]) hx hb dX4_isTold_5 rfl hl (by decide) rfl (fun ls hl => ?_)
  refine lv_iload_n hx hb dX4_isTold_6 rfl (lv_at hl 0 rfl) ?_
  refine lv_aload_n hx hb dX4_isTold_7 rfl (lv_at hl 1 rfl) ?_
  refine g_get (C := RX4) (T := TX4) (N := 30) (v := .ref (a 0)) hx hb hts hown hK hG hM.o rfl in_X4 0 (by decide) q1958 rfl rfl dX4_isTold_8 ?_
  refine g_bipush hx hb dX4_isTold_11 (by decide) ?_
  refine g_iald hx hb hK hG hM.a0 dX4_isTold_13 (by omega) ?_
  refine g_icmp_ge (tgt := 34) hx hb dX4_isTold_14 (by decide) (by omega) (by omega) (fun cq2 => ?_) (fun cq2 => ?_)
  · refine g_iconst hx hb dX4_isTold_34 ?_
    exact g_zret hx hb hr hlocks hQ hG hS (Nat.zero_le _) (Nat.zero_le _) (gnz (by omega)) ⟨_, rfl, Or.inr ⟨rfl, fun q h1 h2 => by by_cases h : q < r1; (have := mr1 q h1 h; omega); (by_cases h3 : r1 < q; (have := hS0.2.1 r1 q (by omega) h3 h2; omega); (rw [show q = r1 by omega]; omega))⟩, rfl⟩ dX4_isTold_35
  · refine lv_aload_n hx hb dX4_isTold_17 rfl (lv_at hl 1 rfl) ?_
    refine g_get (C := RX4) (T := TX4) (N := 30) (v := .ref (a 0)) hx hb hts hown hK hG hM.o rfl in_X4 0 (by decide) q1958 rfl rfl dX4_isTold_18 ?_
    refine g_bipush hx hb dX4_isTold_21 (by decide) ?_
    refine lv_iload_n hx hb dX4_isTold_23 rfl (lv_at hl 0 rfl) ?_
    refine g_iadd hx hb dX4_isTold_24 ?_
    refine g_iald hx hb hK hG hM.a0 dX4_isTold_25 (by omega) ?_
    have hsr := hS0.2.2 r1 (by omega) (by omega)
    refine lv_iload_n hx hb dX4_isTold_26 rfl (lv_at hl 2 rfl) ?_
    refine g_icmp_ne (tgt := 34) hx hb dX4_isTold_27 (by decide) (by omega) (by omega) (fun cq3 => ?_) (fun cq3 => ?_)
    · refine g_iconst hx hb dX4_isTold_34 ?_
      exact g_zret hx hb hr hlocks hQ hG hS (Nat.zero_le _) (Nat.zero_le _) (gnz (by omega)) ⟨_, rfl, Or.inr ⟨rfl, fun q h1 h2 => by by_cases h : q < r1; (have := mr1 q h1 h; omega); (by_cases h3 : r1 < q; (have := hS0.2.1 r1 q (by omega) h3 h2; omega); (rw [show q = r1 by omega]; omega))⟩, rfl⟩ dX4_isTold_35
    · refine g_iconst hx hb dX4_isTold_30 ?_
      refine lv_goto (tgt := 35) hx hb dX4_isTold_31 (by decide) ?_
      exact g_zret hx hb hr hlocks hQ hG hS (Nat.zero_le _) (Nat.zero_le _) (gnz (by omega)) ⟨_, rfl, Or.inl ⟨rfl, r1, by omega, by omega, by omega⟩, rfl⟩ dX4_isTold_35
