theorem ta_e {t : Int → Int} {n k p : Int} {R : Int → Int} (h : ¬ p < n) : ∀ f : Nat, tabA t n f k p R = (1, k, p, R) := by
  intro f
  cases f with
  | zero => rfl
  | succ f => rw [tabA, if_neg h]
theorem ta_t {t : Int → Int} {n k p : Int} {R : Int → Int} {f : Nat} (hf : 0 < f) (h : p < n) (h2 : hrZ t n p = 43) (h3 : (trmZ t n (p + 1)).1 = 1) : tabA t n f k p R = tabA t n (f - 1) (k + 1) (trmZ t n (p + 1)).2.1 (addR R (trmZ t n (p + 1))) := by
  conv => lhs; rw [show f = (f - 1) + 1 by omega, tabA, if_pos h, if_pos h2, if_pos h3]
theorem ta_x {t : Int → Int} {n k p : Int} {R : Int → Int} {f : Nat} (hf : 0 < f) (h : p < n) (h2 : hrZ t n p = 43) (h3 : (trmZ t n (p + 1)).1 = 0) : tabA t n f k p R = (0, k + 1, (trmZ t n (p + 1)).2.1, R) := by
  rw [show f = (f - 1) + 1 by omega, tabA, if_pos h, if_pos h2, if_neg (by rw [h3]; decide)]
theorem ta_n {t : Int → Int} {n k p : Int} {R : Int → Int} {f : Nat} (hf : 0 < f) (h : p < n) (h2 : ¬ hrZ t n p = 43) : tabA t n f k p R = (0, k + 1, p, R) := by
  rw [show f = (f - 1) + 1 by omega, tabA, if_pos h, if_neg h2]
theorem addR_eq {G R : Int → Int} {x : Int × Int × Int × Int} (h : ∀ q : Int, 0 ≤ q → q < 9 → G q = R q) (hx : 0 ≤ x.2.2.1 ∧ x.2.2.1 ≤ 8) (q : Int) (h0 : 0 ≤ q) (h9 : q < 9) : addR G x q = addR R x q := by
  unfold addR
  by_cases e : q = x.2.2.1
  · rw [e, iup_s, iup_s, h _ hx.1 (by omega)]
  · rw [iup_n e, iup_n e, h q h0 h9]
theorem addR_r {G : Int → Int} {x : Int × Int × Int × Int} (h : ∀ q : Int, 0 ≤ q → q < 9 → 0 ≤ G q ∧ G q ≤ 30) (q : Int) (h0 : 0 ≤ q) (h9 : q < 9) : 0 ≤ addR G x q ∧ addR G x q ≤ 30 := by
  unfold addR
  by_cases e : q = x.2.2.1
  · rw [e, iup_s]; have := md_lt (G x.2.2.1 + x.2.2.2) (b := 31) (by decide); omega
  · rw [iup_n e]; exact h q h0 h9
theorem okT_cpD {T S : Int → Int} {D N : Nat} (h : okT T) (hs : ∀ q : Int, 0 ≤ q → q < N → 0 ≤ S q ∧ S q ≤ 30) : okT (cpD D N S T) := by
  intro q h1 h2
  unfold cpD
  split
  · exact hs _ (by omega) (by omega)
  · exact h q h1 h2

set_option maxHeartbeats 8000000 in
theorem mX5_all (l : Launch) (X : gX) (σ : gS) (b : Nat → Nat) (U : Nat → Int → Int) (J : Nat → Int) (R : Int → Option Nat) (hX : XW X σ b U J R) (hT : okT (U 20)) (rd : Nat) (hD : σ rd = some (19, gO 5 [.int (iI 0), .ref (b 0)]))  (hTp : 0 ≤ J 6 ∧ J 6 ≤ 60) (hTv : ∀ q : Int, 0 ≤ q → q < J 6 → 1 ≤ U 5 q ∧ U 5 q ≤ 127)  : gMetX l X yX5_all cX5_all 2 (some .int) 7 128 896 154 σ [.ref rd] (oI (fun r σ' => gKeep (fun t => t = 1 ∨ t = 19 ∨ t = 0) σ σ' ∧ (∃ (U' : Nat → Int → Int) (J' : Nat → Int), XW X σ' b U' J' R ∧ okT (U' 20) ∧ ((tabZ (U 5) (J 6)).1 = 1 ∧ r = (tabZ (U 5) (J 6)).2.1 ∧ (∀ q : Int, 0 ≤ q → q < 9 → U' 7 q = (tabZ (U 5) (J 6)).2.2.2 q) ∧ (∀ q : Int, 0 ≤ q → q < 9 → 0 ≤ U' 7 q ∧ U' 7 q ≤ 30) ∧ (∀ q, q ≠ 7 → U' q = U q) ∧ J = J')))) (fun q σ' => ∃ pl : Int, σ' q = some (19, gO 6 [.null, .null, .null, .null, .null, .int (iI 0), .int (iI pl)]) ∧ ((tabZ (U 5) (J 6)).1 = 0 ∧ pl = (tabZ (U 5) (J 6)).2.2.1 ∧ gKeep (fun t => t = 1 ∨ t = 19 ∨ t = 0) σ σ' ∧ ∃ U' : Nat → Int → Int, XW X σ' b U' J R ∧ ∀ q, q ≠ 7 → U' q = U q)) := by
  refine gMetX.of (by decide) (Nat.le_of_ble_eq_true rfl) ?_
  intro pp ee ss mm args below meth cd Q H locs ls hargs hx hb hr hlocks hml hown hnm hts hK hG hS hQ hl hqx
  have hown : ss.vm.findClass RX5 = some mm.cls := hown
  have hl : lv_has ls 2 [(0, .ref rd)] := hl
  have hkp : gKeep (fun t => t = 1 ∨ t = 19 ∨ t = 0) σ σ := gKeep.rf
  refine g_iconst hx hb dX5_all_0 ?_
  refine lv_istore_n (lv' := [(1, .int (iI 0)), (0, .ref rd)]) hx hb dX5_all_1 rfl hl (by decide) rfl (fun ls hl => ?_)
  have loop_2 : ∀ (nF : Nat) (σL : gS) (k9 : Int) (UL : Nat → Int → Int), ((9 - k9).toNat : Nat) < nF → (gKeep (fun t => t = 1 ∨ t = 19 ∨ t = 0) σ σL) → (XW X σL b UL J R) → (σL rd = some (19, gO 5 [.int (iI 0), .ref (b 0)])) → (okT (UL 20)) → (0 ≤ k9 ∧ k9 ≤ 9) → (∀ q : Int, 0 ≤ q → q < k9 → UL 7 q = 0) → (∀ q, q ≠ 7 → UL q = U q) → ∀ (H : Heap) (locs : List Loc) (ls : Array Slot), gSat X σL H → va_S (gA X) ss.heap H locs → lv_has ls 2 [(1, .int (iI k9)), (0, .ref rd)] → W pp l ee (gR 7 128 896 154) ss mm args below meth cd H locs 0 0 Q (F0 mm 2 ls []) := by
    intro nF
    induction nF with
    | zero => intro σL k9 UL hm; exact absurd hm (Nat.not_lt_zero _)
    | succ nF ih_2 =>
      intro σL k9 UL hm hkL hXL hDL hTL hk9 hz9 hu9 H locs ls hG hS hl
      have hTvL : ∀ q : Int, 0 ≤ q → q < J 6 → 1 ≤ UL 5 q ∧ UL 5 q ≤ 127 := by rw [hu9 5 (by decide)]; exact hTv
      refine lv_iload_n hx hb dX5_all_2 rfl (lv_at hl 0 rfl) ?_
      refine g_bipush hx hb dX5_all_3 (by decide) ?_
      refine g_icmp_ge (tgt := 24) hx hb dX5_all_5 (by decide) (by omega) (by omega) (fun cq1 => ?_) (fun cq1 => ?_)
      · refine g_iconst hx hb dX5_all_24 ?_
        refine lv_istore_n (lv' := [(1, .int (iI 1)), (0, .ref rd)]) hx hb dX5_all_25 rfl hl (by decide) rfl (fun ls hl => ?_)
        refine lv_aload_n hx hb dX5_all_26 rfl (lv_at hl 1 rfl) ?_
        refine g_callVX (As := []) (rest := []) 0 hx hb hml hown hts hK hG hS hl.1 (mX5_term l X σL b UL J R hXL hTL rd 0 hDL hTp hTvL (by omega) (fun q h1 h2 => by rw [hz9 q h1 (by omega)]; decide)) hDL rfl q536 q538 qs12 q87 q539 (by decide +kernel) rfl ⟨Nat.le_of_ble_eq_true rfl, Nat.le_of_ble_eq_true rfl⟩ ⟨Nat.le_of_ble_eq_true rfl, Nat.le_of_ble_eq_true rfl⟩ (Nat.le_of_ble_eq_true rfl) dX5_all_27 (fun q9 σx H1 l1 hpx hGx hSx => by obtain ⟨pl, hq9, hrx⟩ := hpx; exact hqx _ _ _ _ _ _ _ q9 _ _ σx ⟨pl, hq9, (by have e := hrx.1; rw [hu9 5 (by decide)] at e; unfold tabZ; rw [if_neg (by rw [e]; decide)]), (by have e := hrx.1; have e2 := hrx.2.1; rw [hu9 5 (by decide)] at e e2; unfold tabZ; rw [if_neg (by rw [e]; decide)]; exact e2), hkL.tr (hrx.2.2.mono (fun t (h : t = 19 ∨ t = 0) => by show t = 1 ∨ t = 19 ∨ t = 0; omega)), UL, hXL.keep hrx.2.2 (by decide), hu9⟩ hGx hSx (Nat.le_of_ble_eq_true rfl) (Nat.le_of_ble_eq_true rfl) hq9) (kV (fun σr2 H locs hp hG hS => ?_))
        obtain ⟨kq3, U3, J3, hX3, hT3, ht1_3, ht2_3, ht3_3, rfl, hD_3⟩ := hp
        have hkp4 : gKeep (fun t => t = 1 ∨ t = 19 ∨ t = 0) σ σr2 := hkL.tr (kq3.mono (fun t (h : t = 1 ∨ t = 19 ∨ t = 0) => (by show t = 1 ∨ t = 19 ∨ t = 0; omega)))
        rw [hu9 5 (by decide)] at ht1_3 ht2_3 hD_3
        have htr3 := trmZ_r (U 5) (n := J 6) (p := 0) (by omega)
        have hu3 : ∀ q, q ≠ 7 → U3 q = U q := fun q h => (ht3_3 q h).trans (hu9 q h)
        have hrr3 : ∀ q : Int, 0 ≤ q → q < 9 → U3 7 q = addR (fun _ => 0) (trmZ (U 5) (J 6) 0) q := fun q h1 h2 => by rw [ht2_3]; exact addR_eq (fun q h1 h2 => hz9 q h1 (by omega)) (by omega) q h1 h2
        have hrd3 : ∀ q : Int, 0 ≤ q → q < 9 → 0 ≤ U3 7 q ∧ U3 7 q ≤ 30 := fun q h1 h2 => by rw [ht2_3]; exact addR_r (fun q h1 h2 => by rw [hz9 q h1 (by omega)]; decide) q h1 h2
        have loop_30 : ∀ (nF : Nat) (σM : gS) (n9 : Int) (pl9 : Int) (RR : Int → Int) (f : Nat) (UM : Nat → Int → Int) (cN : Nat) (sN : Nat), ((J 6 - pl9).toNat : Nat) < nF → (gKeep (fun t => t = 1 ∨ t = 19 ∨ t = 0) σ σM) → (XW X σM b UM J R) → (σM rd = some (19, gO 5 [.int (iI pl9), .ref (b 0)])) → (okT (UM 20)) → (1 ≤ n9 ∧ n9 ≤ pl9 + 1) → (0 ≤ pl9 ∧ pl9 ≤ J 6) → (J 6 ≤ pl9 + f) → (∀ q : Int, 0 ≤ q → q < 9 → UM 7 q = RR q) → (∀ q : Int, 0 ≤ q → q < 9 → 0 ≤ UM 7 q ∧ UM 7 q ≤ 30) → (∀ q, q ≠ 7 → UM q = U q) → (tabA (U 5) (J 6) f n9 pl9 RR = (tabZ (U 5) (J 6))) → ((cN : Int) ≤ 2 * n9 ∧ (sN : Int) ≤ 14 * n9) → ∀ (H : Heap) (locs : List Loc) (ls : Array Slot), gSat X σM H → va_S (gA X) ss.heap H locs → lv_has ls 2 [(1, .int (iI n9)), (0, .ref rd)] → W pp l ee (gR 7 128 896 154) ss mm args below meth cd H locs cN sN Q (F0 mm 30 ls []) := by
          intro nF
          induction nF with
          | zero => intro σM n9 pl9 RR f UM cN sN hm; exact absurd hm (Nat.not_lt_zero _)
          | succ nF ih_30 =>
            intro σM n9 pl9 RR f UM cN sN hm hkM hXM hDM hTM hn9 hpl hff hR7 hrd huM hta hcs H locs ls hG hS hl
            have hTvM : ∀ q : Int, 0 ≤ q → q < J 6 → 1 ≤ UM 5 q ∧ UM 5 q ≤ 127 := by rw [huM 5 (by decide)]; exact hTv
            refine lv_aload_n hx hb dX5_all_30 rfl (lv_at hl 1 rfl) ?_
            refine g_callV (As := []) (rest := []) 0 hx hb hml hown hts hK hG hS hl.1 (mX5_here l X σM b UM J R hXM hTM rd pl9 hDM hTp hTvM (by omega)  ) hDM rfl q544 q546 qs14 q87 q547 (by decide +kernel) rfl ⟨Nat.le_of_ble_eq_true rfl, Nat.le_of_ble_eq_true rfl⟩ ⟨by show _ ≤ 128; omega, by show _ ≤ 896; omega⟩ (Nat.le_of_ble_eq_true rfl) dX5_all_31 (kI (fun r5 σr5 H locs hp hG hS => ?_))
            obtain ⟨⟨hr5, kr5⟩, rfl⟩ := hp
            have hzr5 := heX hr5 hTvM (by omega)
            rw [huM 5 (by decide)] at hzr5
            refine g_bipush hx hb dX5_all_34 (by decide) ?_
            refine g_icmp_ne (tgt := 59) hx hb dX5_all_36 (by decide) (by omega) (by omega) (fun cq6 => ?_) (fun cq6 => ?_)
            · refine lv_aload_n hx hb dX5_all_59 rfl (lv_at hl 1 rfl) ?_
              refine lv_aload_n hx hb dX5_all_60 rfl (lv_at hl 1 rfl) ?_
              refine g_get (C := RX5) (T := TX5) (N := 2) (v := .int (iI pl9)) hx hb hts hown hK hG hDM rfl in_X5 0 (by decide) q525 rfl rfl dX5_all_61 ?_
              refine lv_aload_n hx hb dX5_all_64 rfl (lv_at hl 1 rfl) ?_
              refine g_get (C := RX5) (T := TX5) (N := 2) (v := .ref (b 0)) hx hb hts hown hK hG hDM rfl in_X5 1 (by decide) q526 rfl rfl dX5_all_65 ?_
              refine g_getN (C := RX0) (T := TX0) (N := 20) (v := .int (iI (J 6))) hx hb hts hown hK hG hXM.c0 rfl in_X0 6 (by decide) q427 rfl rfl dX5_all_68 ?_
              refine g_icmp_ne (tgt := 78) hx hb dX5_all_71 (by decide) (by omega) (by omega) (fun cq7 => ?_) (fun cq7 => ?_)
              · refine g_iconst hx hb dX5_all_78 ?_
                refine g_callVX (As := [.int (iI 0)]) (rest := []) 1 hx hb hml hown hts hK hG hS hl.1 (mX5_must l X σM b UM J R hXM hTM rd pl9 hDM 0 (by omega)) hDM rfl q551 q553 qs15 q87 q554 (by decide +kernel) rfl ⟨Nat.le_of_ble_eq_true rfl, Nat.le_of_ble_eq_true rfl⟩ ⟨by show _ ≤ 128; omega, by show _ ≤ 896; omega⟩ (Nat.le_of_ble_eq_true rfl) dX5_all_79 (fun q9 σx H1 l1 hpx hGx hSx => by obtain ⟨pl, hq9, hrx⟩ := hpx; exact hqx _ _ _ _ _ _ _ q9 _ _ σx ⟨pl, hq9, (by rw [← hta, ta_n (by omega) (by omega) (by omega)]), (by rw [← hta, ta_n (by omega) (by omega) (by omega)]; exact hrx.2.1), hkM.tr (hrx.2.2.mono (fun t (h : t = 0) => by show t = 1 ∨ t = 19 ∨ t = 0; omega)), UM, hXM.keep hrx.2.2 (by decide), huM⟩ hGx hSx (by show _ ≤ 128; omega) (by show _ ≤ 896; omega) hq9) (kV (fun σr8 H locs hp hG hS => ?_))
                obtain ⟨-, hz9, rfl⟩ := hp
                refine lv_iload_n hx hb dX5_all_82 rfl (lv_at hl 0 rfl) ?_
                exact g_iret hx hb hr hlocks hQ hG hS (by show _ ≤ 128; omega) (by show _ ≤ 896; omega) ⟨_, rfl, hkM, (⟨UM, J, hXM, hTM, (⟨by rw [← hta, ta_e (by omega)], by rw [← hta, ta_e (by omega)], fun q h1 h2 => by rw [← hta, ta_e (by omega)]; exact hR7 q h1 h2, hrd, huM, rfl⟩)⟩)⟩ dX5_all_83
              · refine g_iconst hx hb dX5_all_74 ?_
                refine lv_goto (tgt := 79) hx hb dX5_all_75 (by decide) ?_
                refine g_callVX (As := [.int (iI 1)]) (rest := []) 1 hx hb hml hown hts hK hG hS hl.1 (mX5_must l X σM b UM J R hXM hTM rd pl9 hDM 1 (by omega)) hDM rfl q551 q553 qs15 q87 q554 (by decide +kernel) rfl ⟨Nat.le_of_ble_eq_true rfl, Nat.le_of_ble_eq_true rfl⟩ ⟨by show _ ≤ 128; omega, by show _ ≤ 896; omega⟩ (Nat.le_of_ble_eq_true rfl) dX5_all_79 (fun q9 σx H1 l1 hpx hGx hSx => by obtain ⟨pl, hq9, hrx⟩ := hpx; exact hqx _ _ _ _ _ _ _ q9 _ _ σx ⟨pl, hq9, (by rw [← hta, ta_n (by omega) (by omega) (by omega)]), (by rw [← hta, ta_n (by omega) (by omega) (by omega)]; exact hrx.2.1), hkM.tr (hrx.2.2.mono (fun t (h : t = 0) => by show t = 1 ∨ t = 19 ∨ t = 0; omega)), UM, hXM.keep hrx.2.2 (by decide), huM⟩ hGx hSx (by show _ ≤ 128; omega) (by show _ ≤ 896; omega) hq9) (kV (fun σr10 H locs hp hG hS => ?_))
                obtain ⟨-, hz11, rfl⟩ := hp
                refine lv_iload_n hx hb dX5_all_82 rfl (lv_at hl 0 rfl) ?_
                exact g_iret hx hb hr hlocks hQ hG hS (by show _ ≤ 128; omega) (by show _ ≤ 896; omega) ⟨_, rfl, hkM, (⟨UM, J, hXM, hTM, (⟨by rw [← hta, ta_e (by omega)], by rw [← hta, ta_e (by omega)], fun q h1 h2 => by rw [← hta, ta_e (by omega)]; exact hR7 q h1 h2, hrd, huM, rfl⟩)⟩)⟩ dX5_all_83
            · refine lv_aload_n hx hb dX5_all_39 rfl (lv_at hl 1 rfl) ?_
              refine lv_dup hx hb dX5_all_40 rfl ?_
              refine g_get (C := RX5) (T := TX5) (N := 2) (v := .int (iI pl9)) hx hb hts hown hK hG hDM rfl in_X5 0 (by decide) q525 rfl rfl dX5_all_41 ?_
              refine g_iconst hx hb dX5_all_44 ?_
              refine g_iadd hx hb dX5_all_45 ?_
              refine g_put (C := RX5) (T := TX5) (N := 2) (ty0 := tyX5) (v := .int (iI (pl9 + 1))) hx hb hts hown hK hG hS hDM rfl in_X5 tyX5_ok nmX5 0 (by decide) q525 rfl (by decide) rfl rfl (Nat.le_of_ble_eq_true rfl) dX5_all_46 (fun H locs hG hS => ?_)
              have hX_12 : XW X (gup σM rd (19, gO 5 ([.int (iI pl9), .ref (b 0)].set 0 (.int (iI (pl9 + 1)))))) b UM J R := hXM.keep (gKeep.up hDM rfl : gKeep (fun t => t = 19) σM (gup σM rd (19, gO 5 ([.int (iI pl9), .ref (b 0)].set 0 (.int (iI (pl9 + 1))))))) (by first | decide | omega | (intro q9; dsimp only at q9; omega))
              have hD_12 : (gup σM rd (19, gO 5 ([.int (iI pl9), .ref (b 0)].set 0 (.int (iI (pl9 + 1)))))) rd = some (19, gO 5 [.int (iI (pl9 + 1)), .ref (b 0)]) := gup_s
              have hkp12 : gKeep (fun t => t = 1 ∨ t = 19 ∨ t = 0) σ (gup σM rd (19, gO 5 ([.int (iI pl9), .ref (b 0)].set 0 (.int (iI (pl9 + 1)))))) := hkM.tr ((gKeep.up hDM rfl : gKeep (fun t => t = 19) σM (gup σM rd (19, gO 5 ([.int (iI pl9), .ref (b 0)].set 0 (.int (iI (pl9 + 1))))))).mono (fun t (h : t = 19) => (by show t = 1 ∨ t = 19 ∨ t = 0; omega)))
              generalize (gup σM rd (19, gO 5 ([.int (iI pl9), .ref (b 0)].set 0 (.int (iI (pl9 + 1)))))) = σ12 at hG hX_12 hD_12 hkp12
              refine lv_aload_n hx hb dX5_all_49 rfl (lv_at hl 1 rfl) ?_
              refine g_callVX (As := []) (rest := []) 0 hx hb hml hown hts hK hG hS hl.1 (mX5_term l X σ12 b UM J R hX_12 hTM rd (pl9 + 1) hD_12 hTp hTvM (by omega) hrd) hD_12 rfl q536 q538 qs12 q87 q539 (by decide +kernel) rfl ⟨Nat.le_of_ble_eq_true rfl, Nat.le_of_ble_eq_true rfl⟩ ⟨by show _ ≤ 128; omega, by show _ ≤ 896; omega⟩ (Nat.le_of_ble_eq_true rfl) dX5_all_50 (fun q9 σx H1 l1 hpx hGx hSx => by obtain ⟨pl, hq9, hrx⟩ := hpx; exact hqx _ _ _ _ _ _ _ q9 _ _ σx ⟨pl, hq9, (by have e := hrx.1; rw [huM 5 (by decide)] at e; rw [← hta, ta_x (by omega) (by omega) (by omega) e]), (by have e := hrx.1; have e2 := hrx.2.1; rw [huM 5 (by decide)] at e e2; rw [← hta, ta_x (by omega) (by omega) (by omega) e]; exact e2), hkp12.tr (hrx.2.2.mono (fun t (h : t = 19 ∨ t = 0) => by show t = 1 ∨ t = 19 ∨ t = 0; omega)), UM, hX_12.keep hrx.2.2 (by decide), huM⟩ hGx hSx (by show _ ≤ 128; omega) (by show _ ≤ 896; omega) hq9) (kV (fun σr13 H locs hp hG hS => ?_))
              obtain ⟨kq14, U14, J14, hX14, hT14, ht1_14, ht2_14, ht3_14, rfl, hD_14⟩ := hp
              have hkp15 : gKeep (fun t => t = 1 ∨ t = 19 ∨ t = 0) σ σr13 := hkp12.tr (kq14.mono (fun t (h : t = 1 ∨ t = 19 ∨ t = 0) => (by show t = 1 ∨ t = 19 ∨ t = 0; omega)))
              rw [huM 5 (by decide)] at ht1_14 ht2_14 hD_14
              have htr14 := trmZ_r (U 5) (n := J 6) (p := pl9 + 1) (by omega)
              have hu14 : ∀ q, q ≠ 7 → U14 q = U q := fun q h => (ht3_14 q h).trans (huM q h)
              have hrr14 : ∀ q : Int, 0 ≤ q → q < 9 → U14 7 q = addR RR (trmZ (U 5) (J 6) (pl9 + 1)) q := fun q h1 h2 => by rw [ht2_14]; exact addR_eq hR7 (by omega) q h1 h2
              have hrd14 : ∀ q : Int, 0 ≤ q → q < 9 → 0 ≤ U14 7 q ∧ U14 7 q ≤ 30 := fun q h1 h2 => by rw [ht2_14]; exact addR_r hrd q h1 h2
              refine g_iinc (lv' := [(1, .int (iI (n9 + 1))), (0, .ref rd)]) hx hb dX5_all_53 hl (k := 0) rfl (by decide) rfl (fun ls hl => ?_)
              refine lv_goto (tgt := 30) hx hb dX5_all_56 (by decide) ?_
              exact ih_30 σr13 (n9 + 1) ((trmZ (U 5) (J 6) (pl9 + 1)).2.1) (addR RR (trmZ (U 5) (J 6) (pl9 + 1))) (f - 1) U14 (cN + 2) (sN + 14) (by omega) (hkp15) (hX14) (hD_14) (hT14) (by omega) (by omega) (by omega) (hrr14) (hrd14) (hu14) (by rw [← hta]; exact (ta_t (by omega) (by omega) (by omega) ht1_14).symm) (⟨by omega, by omega⟩)  _ _ _ hG hS (lv_sub hl [0, 1] rfl)
        exact loop_30 _ σr2 1 ((trmZ (U 5) (J 6) 0).2.1) (addR (fun _ => 0) (trmZ (U 5) (J 6) 0)) 60 U3 2 14 (Nat.lt_succ_self _) (hkp4) (hX3) (hD_3) (hT3) (by omega) (by omega) (by omega) (hrr3) (hrd3) (hu3) (by unfold tabZ; rw [if_pos ht1_3]) (⟨by decide, by decide⟩)  _ _ _ hG hS (lv_sub hl [0, 1] rfl)
      · refine lv_aload_n hx hb dX5_all_8 rfl (lv_at hl 1 rfl) ?_
        refine g_get (C := RX5) (T := TX5) (N := 2) (v := .ref (b 0)) hx hb hts hown hK hG hDL rfl in_X5 1 (by decide) q526 rfl rfl dX5_all_9 ?_
        refine g_getN (C := RX0) (T := TX0) (N := 20) (v := .ref (b 7)) hx hb hts hown hK hG hXL.c0 rfl in_X0 7 (by decide) q429 rfl rfl dX5_all_12 ?_
        refine lv_iload_n hx hb dX5_all_15 rfl (lv_at hl 0 rfl) ?_
        refine g_iconst hx hb dX5_all_16 ?_
        refine g_iast hx hb hK hG hS hXL.c7 dX5_all_17 (by omega) (fun H locs hG hS => ?_)
        obtain ⟨U16, eU16⟩ : ∃ z : Nat → Int → Int, z = va_up UL 7 (iup (UL 7) k9 0) := ⟨_, rfl⟩
        have u7_16 : U16 7 = (iup (UL 7) k9 0) := by rw [eU16, va_up_self]
        have fU16 : ∀ j, j ≠ 7 → U16 j = UL j := fun j hj => by rw [eU16, va_up_ne _ _ hj]
        have hX16 : XW X (gup σL (b 7) (1, gI (X.2.1 0) 9 (iup (UL 7) k9 0))) b U16 J R := by rw [eU16]; exact hXL.set 7 rfl (iup (UL 7) k9 0)
        have hT16 : okT (U16 20) := by rw [fU16 20 (by decide)]; exact hTL
        have hD_16 : (gup σL (b 7) (1, gI (X.2.1 0) 9 (iup (UL 7) k9 0))) rd = some (19, gO 5 [.int (iI 0), .ref (b 0)]) := (gKeep.up hXL.c7 rfl : gKeep (fun t => t = 1) σL (gup σL (b 7) (1, gI (X.2.1 0) 9 (iup (UL 7) k9 0)))) _ _ _ hDL (by first | decide | omega | (intro q9; dsimp only at q9; omega))
        have hkp16 : gKeep (fun t => t = 1 ∨ t = 19 ∨ t = 0) σ (gup σL (b 7) (1, gI (X.2.1 0) 9 (iup (UL 7) k9 0))) := hkL.tr ((gKeep.up hXL.c7 rfl : gKeep (fun t => t = 1) σL (gup σL (b 7) (1, gI (X.2.1 0) 9 (iup (UL 7) k9 0)))).mono (fun t (h : t = 1) => (by show t = 1 ∨ t = 19 ∨ t = 0; omega)))
        generalize (gup σL (b 7) (1, gI (X.2.1 0) 9 (iup (UL 7) k9 0))) = σ16 at hG hX16 hD_16 hkp16
        refine g_iinc (lv' := [(1, .int (iI (k9 + 1))), (0, .ref rd)]) hx hb dX5_all_18 hl (k := 0) rfl (by decide) rfl (fun ls hl => ?_)
        refine lv_goto (tgt := 2) hx hb dX5_all_21 (by decide) ?_
        exact ih_2 σ16 (k9 + 1) U16 (by omega) (hkp16) (hX16) (hD_16) (hT16) (by omega) (fun q h1 h2 => by
                  rw [u7_16]
                  by_cases e : q = k9
                  · rw [e, iup_s]
                  · rw [iup_n e]; exact hz9 q h1 (by omega)) (fun q h => (fU16 q h).trans (hu9 q h))  _ _ _ hG hS (lv_sub hl [0, 1] rfl)
  exact loop_2 _ σ 0 U (Nat.lt_succ_self _) (hkp) (hX) (hD) (hT) (by omega) (fun q h1 h2 => by omega) (fun q h => rfl)  _ _ _ hG hS (lv_sub hl [0, 1] rfl)

set_option maxHeartbeats 8000000 in
theorem mX0_table (l : Launch) (X : gX) (σ : gS) (b : Nat → Nat) (U : Nat → Int → Int) (J : Nat → Int) (R : Int → Option Nat) (hX : XW X σ b U J R) (hT : okT (U 20)) (t : Int) (hTp : 0 ≤ J 6 ∧ J 6 ≤ 60) (hTv : ∀ q : Int, 0 ≤ q → q < J 6 → 1 ≤ U 5 q ∧ U 5 q ≤ 127) (h0 : -2147483648 ≤ t ∧ t ≤ 2147483647) : gMetW l X yX0_table cX0_table 5 (some .int) [((9 : Nat), (44 : Nat), (51 : Nat), (167 : Nat)), ((9 : Nat), (44 : Nat), (67 : Nat), (0 : Nat)), ((51 : Nat), (60 : Nat), (67 : Nat), (0 : Nat)), ((67 : Nat), (69 : Nat), (67 : Nat), (0 : Nat))] 8 129 898 175 σ [.ref (b 0), .int (iI t)] (oI (fun r σ' => gKeep (fun t => t = 1 ∨ t = 19 ∨ t = 0) σ σ' ∧ (∃ (U' : Nat → Int → Int) (J' : Nat → Int), XW X σ' b U' J' R ∧ okT (U' 20) ∧ (r = (if (0 ≤ t ∧ t ≤ 1) then (if (tabZ (U 5) (J 6)).1 = 1 then (tabZ (U 5) (J 6)).2.1 else -100 - (tabZ (U 5) (J 6)).2.2.1) else -1) ∧ ((0 ≤ t ∧ t ≤ 1) ∧ J' = va_up J 6 0 ∧ (∀ q, q ≠ 7 → q ≠ 20 → U' q = U q) ∧ ((tabZ (U 5) (J 6)).1 = 1 → (∀ q : Int, q < 9 * t ∨ 9 * t + 9 ≤ q → U' 20 q = U 20 q) ∧ ∀ q : Int, 0 ≤ q → q < 9 → U' 20 (9 * t + q) = (tabZ (U 5) (J 6)).2.2.2 q) ∧ (¬ (tabZ (U 5) (J 6)).1 = 1 → U' 20 = U 20) ∨ ¬ (0 ≤ t ∧ t ≤ 1) ∧ U' = U ∧ J' = J))))) := by
  refine gMetW.of (by decide) (Nat.le_of_ble_eq_true rfl) ?_
  intro pp ee ss mm args below meth cd Q H locs ls hargs hx hb hr hlocks hml hown hnm hts hK hG hS hQ hl htb
  have hown : ss.vm.findClass RX0 = some mm.cls := hown
  have hl : lv_has ls 5 [(0, .ref (b 0)), (1, .int (iI t))] := hl
  have hkp : gKeep (fun t => t = 1 ∨ t = 19 ∨ t = 0) σ σ := gKeep.rf
  refine lv_iload_n hx hb dX0_table_0 rfl (lv_at hl 1 rfl) ?_
  refine g_callS (As := [.int (iI t)]) (rest := []) 1 hx hb hml hown hts hK hG hS hl.1 (mX0_isTable l X σ  t (by omega)) q491 q492 q69 q493 (by decide +kernel) rfl ⟨Nat.le_of_ble_eq_true rfl, Nat.le_of_ble_eq_true rfl⟩ ⟨Nat.le_of_ble_eq_true rfl, Nat.le_of_ble_eq_true rfl⟩ (Nat.le_of_ble_eq_true rfl) dX0_table_1 (kI (fun r1 σr1 H locs hp hG hS => ?_))
  obtain ⟨hr1, rfl⟩ := hp
  refine g_if_ne (tgt := 9) hx hb dX0_table_4 (by decide) (by omega) (fun cq2 => ?_) (fun cq2 => ?_)
  · rcases (show t = 0 ∨ t = 1 by omega) with rfl | rfl
    · refine g_new (ci := 5) (C := RX5) (T := TX5) (N := 2) (ty := tyX5) (fs := [.int (iI 0), .null]) hx hb 19 hts hown hK hG hS rfl in_X5 tyX5_ok q519 q520 q87 (fun j hj => match j, hj with | 0, _ => rfl | 1, _ => rfl | k9 + 2, h => absurd h (by omega)) (Nat.le_of_ble_eq_true rfl) (Nat.le_of_ble_eq_true rfl) dX0_table_9 (fun nw3 H hznw3 hG hS => ?_)
      have hLnw3 : (gup σ nw3 (19, gO 5 [.int (iI 0), .null])) nw3 = some (19, gO 5 [.int (iI 0), .null]) := gup_s
      generalize hgen4 : (gup σ nw3 (19, gO 5 [.int (iI 0), .null])) = σ4 at hG hLnw3 
      refine lv_dup hx hb dX0_table_12 rfl ?_
      refine lv_aload_n hx hb dX0_table_13 rfl (lv_at hl 0 rfl) ?_
      refine g_callIN (As := [.ref (b 0)]) (rest := [.ref nw3]) 1 hx hb hml hown hts hK hG hS hl.1 (mX5_init l X σ4 nw3 _ (b 0) hLnw3) q521 q522 q87 q523 rfl (by decide +kernel) rfl ⟨Nat.le_of_ble_eq_true rfl, Nat.le_of_ble_eq_true rfl⟩ ⟨Nat.le_of_ble_eq_true rfl, Nat.le_of_ble_eq_true rfl⟩ (Nat.le_of_ble_eq_true rfl) dX0_table_14 (kV (fun σr5 H locs hp hG hS => ?_))
      have hp : σr5 = (gup σ4 nw3 (19, gO 5 [.int (iI 0), .ref (b 0)])) := hp
      have hL6 : σr5 nw3 = some (19, gO 5 [.int (iI 0), .ref (b 0)]) := by rw [hp]; exact gup_s
      have hp6 : σr5 = (gup σ nw3 (19, gO 5 [.int (iI 0), .ref (b 0)])) := by rw [hp, ← hgen4, gup_gup]
      have hX_f6 : XW X σr5 b U J R := by rw [hp6]; exact hX.keep (gKeep.new hznw3 : gKeep (fun _ => False) _ _) (fun h => h)
      have hkp_f6 : gKeep (fun t => t = 1 ∨ t = 19 ∨ t = 0) σ σr5 := by rw [hp6]; exact hkp.tr (gKeep.new hznw3)
      refine g_callVX (As := []) (rest := []) 0 hx hb hml hown hts hK hG hS hl.1 (mX5_all l X σr5 b U J R hX_f6 hT nw3 hL6 hTp hTv) hL6 rfl q532 q533 q534 q87 q535 (by decide +kernel) rfl ⟨Nat.le_of_ble_eq_true rfl, Nat.le_of_ble_eq_true rfl⟩ ⟨Nat.le_of_ble_eq_true rfl, Nat.le_of_ble_eq_true rfl⟩ (Nat.le_of_ble_eq_true rfl) dX0_table_17 (fun q9 σx H locs hpx hG hS => ?_) (kI (fun r7 σr7 H locs hp hG hS => ?_))
      · obtain ⟨pl, hq9, hz1_8, hz2_8, kq8, U8, hX8, hu8⟩ := hpx
        refine g_fltC hown hK hG hq9 (gHas.one hts htb (by decide) (by decide) q518) ?_
        have hT8 : okT (U8 20) := by rw [hu8 20 (by decide)]; exact hT
        have hkp8 : gKeep (fun t => t = 1 ∨ t = 19 ∨ t = 0) σ σx := hkp_f6.tr (kq8.mono (fun t (h : t = 1 ∨ t = 19 ∨ t = 0) => (by show t = 1 ∨ t = 19 ∨ t = 0; omega)))
        refine lv_astore_n (lv' := [(2, .ref q9), (0, .ref (b 0)), (1, .int (iI 0))]) hx hb dX0_table_51 rfl hl (by decide) rfl (fun ls hl => ?_)
        refine g_bipush hx hb dX0_table_52 (by decide) ?_
        refine lv_aload_n hx hb dX0_table_54 rfl (lv_at hl 0 rfl) ?_
        refine g_getN (C := RX6) (T := TX6) (N := 7) (v := .int (iI pl)) hx hb hts hown hK hG hq9 rfl in_X6 6 (by decide) q574 rfl rfl dX0_table_55 ?_
        refine g_isub hx hb dX0_table_58 ?_
        refine lv_istore_n (lv' := [(3, .int (iI ((-100) - pl))), (2, .ref q9), (0, .ref (b 0)), (1, .int (iI 0))]) hx hb dX0_table_59 rfl hl (by decide) rfl (fun ls hl => ?_)
        refine lv_aload_n hx hb dX0_table_60 rfl (lv_at hl 2 rfl) ?_
        refine g_iconst hx hb dX0_table_61 ?_
        refine g_put (C := RX0) (T := TX0) (N := 20) (ty0 := tyX0) (v := .int (iI 0)) hx hb hts hown hK hG hS hX8.c0 rfl in_X0 tyX0_ok nmX0 6 (by decide) q428 rfl (by decide) rfl rfl (Nat.le_of_ble_eq_true rfl) dX0_table_62 (fun H locs hG hS => ?_)
        obtain ⟨J9, eJ9⟩ : ∃ z : Nat → Int, z = va_up J 6 0 := ⟨_, rfl⟩
        have j6_9 : J9 6 = 0 := by rw [eJ9, va_up_self]
        have fJ9 : ∀ j, j ≠ 6 → J9 j = J j := fun j hj => by rw [eJ9, va_up_ne _ _ hj]
        have hX9 : XW X (gup σx (b 0) (1, gO 0 ([.ref (b 1), .ref (b 2), .int (iI (J 2)), .ref (b 3), .ref (b 4), .ref (b 5), .int (iI (J 6)), .ref (b 7), .ref (b 8), .int (iI (J 9)), .ref (b 10), .ref (b 11), .ref (b 12), .ref (b 13), .ref (b 14), .ref (b 56), .ref (b 57), .ref (b 58), .ref (b 18), .ref (b 19)].set 6 (.int (iI 0))))) b U8 J9 R := by rw [eJ9]; exact hX8.num 6 rfl 0
        have hLc9_0 := (gKeep.up hX8.c0 rfl : gKeep (fun t => t = 1) σx (gup σx (b 0) (1, gO 0 ([.ref (b 1), .ref (b 2), .int (iI (J 2)), .ref (b 3), .ref (b 4), .ref (b 5), .int (iI (J 6)), .ref (b 7), .ref (b 8), .int (iI (J 9)), .ref (b 10), .ref (b 11), .ref (b 12), .ref (b 13), .ref (b 14), .ref (b 56), .ref (b 57), .ref (b 58), .ref (b 18), .ref (b 19)].set 6 (.int (iI 0)))))) _ _ _ hq9 (by first | decide | omega | (intro q9; dsimp only at q9; omega))
        have hkp9 : gKeep (fun t => t = 1 ∨ t = 19 ∨ t = 0) σ (gup σx (b 0) (1, gO 0 ([.ref (b 1), .ref (b 2), .int (iI (J 2)), .ref (b 3), .ref (b 4), .ref (b 5), .int (iI (J 6)), .ref (b 7), .ref (b 8), .int (iI (J 9)), .ref (b 10), .ref (b 11), .ref (b 12), .ref (b 13), .ref (b 14), .ref (b 56), .ref (b 57), .ref (b 58), .ref (b 18), .ref (b 19)].set 6 (.int (iI 0))))) := hkp8.tr ((gKeep.up hX8.c0 rfl : gKeep (fun t => t = 1) σx (gup σx (b 0) (1, gO 0 ([.ref (b 1), .ref (b 2), .int (iI (J 2)), .ref (b 3), .ref (b 4), .ref (b 5), .int (iI (J 6)), .ref (b 7), .ref (b 8), .int (iI (J 9)), .ref (b 10), .ref (b 11), .ref (b 12), .ref (b 13), .ref (b 14), .ref (b 56), .ref (b 57), .ref (b 58), .ref (b 18), .ref (b 19)].set 6 (.int (iI 0)))))).mono (fun t (h : t = 1) => (by show t = 1 ∨ t = 19 ∨ t = 0; omega)))
        generalize (gup σx (b 0) (1, gO 0 ([.ref (b 1), .ref (b 2), .int (iI (J 2)), .ref (b 3), .ref (b 4), .ref (b 5), .int (iI (J 6)), .ref (b 7), .ref (b 8), .int (iI (J 9)), .ref (b 10), .ref (b 11), .ref (b 12), .ref (b 13), .ref (b 14), .ref (b 56), .ref (b 57), .ref (b 58), .ref (b 18), .ref (b 19)].set 6 (.int (iI 0))))) = σ9 at hG hX9 hLc9_0 hkp9
        refine lv_iload_n hx hb dX0_table_65 rfl (lv_at hl 0 rfl) ?_
        exact g_iret hx hb hr hlocks hQ hG hS (Nat.le_of_ble_eq_true rfl) (Nat.le_of_ble_eq_true rfl) ⟨_, rfl, hkp9, (⟨U8, J9, hX9, hT8, (⟨by rw [if_pos (by omega), if_neg (by rw [hz1_8]; decide), hz2_8], Or.inl ⟨by omega, eJ9, fun q h1 h2 => hu8 q h1, fun h => by rw [hz1_8] at h; exact absurd h (by decide), fun _ => hu8 20 (by decide)⟩⟩)⟩)⟩ dX0_table_66
      obtain ⟨kq10, U10, J10, hX10, hT10, ht1_10, ht2_10, ht3_10, ht4_10, ht5_10, rfl⟩ := hp
      have hkp11 : gKeep (fun t => t = 1 ∨ t = 19 ∨ t = 0) σ σr7 := hkp_f6.tr (kq10.mono (fun t (h : t = 1 ∨ t = 19 ∨ t = 0) => (by show t = 1 ∨ t = 19 ∨ t = 0; omega)))
      refine lv_istore_n (lv' := [(2, .int (iI r7)), (0, .ref (b 0)), (1, .int (iI 0))]) hx hb dX0_table_20 rfl hl (by decide) rfl (fun ls hl => ?_)
      refine lv_aload_n hx hb dX0_table_21 rfl (lv_at hl 1 rfl) ?_
      refine g_get (C := RX0) (T := TX0) (N := 20) (v := .ref (b 7)) hx hb hts hown hK hG hX10.c0 rfl in_X0 7 (by decide) q430 rfl rfl dX0_table_22 ?_
      refine g_iconst hx hb dX0_table_25 ?_
      refine lv_aload_n hx hb dX0_table_26 rfl (lv_at hl 1 rfl) ?_
      refine g_get (C := RX0) (T := TX0) (N := 20) (v := .ref (b 1)) hx hb hts hown hK hG hX10.c0 rfl in_X0 0 (by decide) q420 rfl rfl dX0_table_27 ?_
      refine g_getN (C := RX1) (T := TX1) (N := 4) (v := .ref (b 20)) hx hb hts hown hK hG hX10.c1 rfl in_X1 0 (by decide) q187 rfl rfl dX0_table_30 ?_
      refine g_bipush hx hb dX0_table_33 (by decide) ?_
      refine lv_iload_n hx hb dX0_table_35 rfl (lv_at hl 2 rfl) ?_
      refine g_imul hx hb dX0_table_36 ?_
      refine g_rw (b := 0) (by decide) ?_
      refine g_bipush hx hb dX0_table_37 (by decide) ?_
      refine g_copyD (N := 9) (D := 0) hx hb hml hown hts hK hG hS hl.1 q584 q586 q585 q89 hX10.c7 hX10.c20 (by decide) (by decide) (by decide) (by decide) (Nat.le_of_ble_eq_true rfl) (Nat.le_of_ble_eq_true rfl) dX0_table_39 (fun H locs hG hS => ?_)
      obtain ⟨U12, eU12⟩ : ∃ z : Nat → Int → Int, z = va_up U10 20 (cpD 0 9 (U10 7) (U10 20)) := ⟨_, rfl⟩
      have u20_12 : U12 20 = (cpD 0 9 (U10 7) (U10 20)) := by rw [eU12, va_up_self]
      have fU12 : ∀ j, j ≠ 20 → U12 j = U10 j := fun j hj => by rw [eU12, va_up_ne _ _ hj]
      have hX12 : XW X (gup σr7 (b 20) (1, gI (X.2.1 0) 18 (cpD 0 9 (U10 7) (U10 20)))) b U12 J R := by rw [eU12]; exact hX10.set 20 rfl (cpD 0 9 (U10 7) (U10 20))
      have hT12 : okT (U12 20) := by rw [u20_12]; exact okT_cpD hT10 (fun q h1 h2 => ht4_10 q h1 (by omega))
      have hkp12 : gKeep (fun t => t = 1 ∨ t = 19 ∨ t = 0) σ (gup σr7 (b 20) (1, gI (X.2.1 0) 18 (cpD 0 9 (U10 7) (U10 20)))) := hkp11.tr ((gKeep.up hX10.c20 rfl : gKeep (fun t => t = 1) σr7 (gup σr7 (b 20) (1, gI (X.2.1 0) 18 (cpD 0 9 (U10 7) (U10 20))))).mono (fun t (h : t = 1) => (by show t = 1 ∨ t = 19 ∨ t = 0; omega)))
      generalize (gup σr7 (b 20) (1, gI (X.2.1 0) 18 (cpD 0 9 (U10 7) (U10 20)))) = σ12 at hG hX12 hkp12
      refine lv_iload_n hx hb dX0_table_42 rfl (lv_at hl 0 rfl) ?_
      refine lv_istore_n (lv' := [(3, .int (iI r7)), (2, .int (iI r7)), (0, .ref (b 0)), (1, .int (iI 0))]) hx hb dX0_table_43 rfl hl (by decide) rfl (fun ls hl => ?_)
      refine lv_aload_n hx hb dX0_table_44 rfl (lv_at hl 2 rfl) ?_
      refine g_iconst hx hb dX0_table_45 ?_
      refine g_put (C := RX0) (T := TX0) (N := 20) (ty0 := tyX0) (v := .int (iI 0)) hx hb hts hown hK hG hS hX12.c0 rfl in_X0 tyX0_ok nmX0 6 (by decide) q428 rfl (by decide) rfl rfl (Nat.le_of_ble_eq_true rfl) dX0_table_46 (fun H locs hG hS => ?_)
      obtain ⟨J13, eJ13⟩ : ∃ z : Nat → Int, z = va_up J 6 0 := ⟨_, rfl⟩
      have j6_13 : J13 6 = 0 := by rw [eJ13, va_up_self]
      have fJ13 : ∀ j, j ≠ 6 → J13 j = J j := fun j hj => by rw [eJ13, va_up_ne _ _ hj]
      have hX13 : XW X (gup σ12 (b 0) (1, gO 0 ([.ref (b 1), .ref (b 2), .int (iI (J 2)), .ref (b 3), .ref (b 4), .ref (b 5), .int (iI (J 6)), .ref (b 7), .ref (b 8), .int (iI (J 9)), .ref (b 10), .ref (b 11), .ref (b 12), .ref (b 13), .ref (b 14), .ref (b 56), .ref (b 57), .ref (b 58), .ref (b 18), .ref (b 19)].set 6 (.int (iI 0))))) b U12 J13 R := by rw [eJ13]; exact hX12.num 6 rfl 0
      have hkp13 : gKeep (fun t => t = 1 ∨ t = 19 ∨ t = 0) σ (gup σ12 (b 0) (1, gO 0 ([.ref (b 1), .ref (b 2), .int (iI (J 2)), .ref (b 3), .ref (b 4), .ref (b 5), .int (iI (J 6)), .ref (b 7), .ref (b 8), .int (iI (J 9)), .ref (b 10), .ref (b 11), .ref (b 12), .ref (b 13), .ref (b 14), .ref (b 56), .ref (b 57), .ref (b 58), .ref (b 18), .ref (b 19)].set 6 (.int (iI 0))))) := hkp12.tr ((gKeep.up hX12.c0 rfl : gKeep (fun t => t = 1) σ12 (gup σ12 (b 0) (1, gO 0 ([.ref (b 1), .ref (b 2), .int (iI (J 2)), .ref (b 3), .ref (b 4), .ref (b 5), .int (iI (J 6)), .ref (b 7), .ref (b 8), .int (iI (J 9)), .ref (b 10), .ref (b 11), .ref (b 12), .ref (b 13), .ref (b 14), .ref (b 56), .ref (b 57), .ref (b 58), .ref (b 18), .ref (b 19)].set 6 (.int (iI 0)))))).mono (fun t (h : t = 1) => (by show t = 1 ∨ t = 19 ∨ t = 0; omega)))
      generalize (gup σ12 (b 0) (1, gO 0 ([.ref (b 1), .ref (b 2), .int (iI (J 2)), .ref (b 3), .ref (b 4), .ref (b 5), .int (iI (J 6)), .ref (b 7), .ref (b 8), .int (iI (J 9)), .ref (b 10), .ref (b 11), .ref (b 12), .ref (b 13), .ref (b 14), .ref (b 56), .ref (b 57), .ref (b 58), .ref (b 18), .ref (b 19)].set 6 (.int (iI 0))))) = σ13 at hG hX13 hkp13
      refine lv_iload_n hx hb dX0_table_49 rfl (lv_at hl 0 rfl) ?_
      exact g_iret hx hb hr hlocks hQ hG hS (Nat.le_of_ble_eq_true rfl) (Nat.le_of_ble_eq_true rfl) ⟨_, rfl, hkp13, (⟨U12, J13, hX13, hT12, (⟨by rw [if_pos (by omega), if_pos ht1_10]; exact ht2_10, Or.inl ⟨by omega, eJ13, fun q h1 h2 => (fU12 q h2).trans (ht5_10 q h1), fun _ => ⟨fun q h => by
                  rw [u20_12, ht5_10 20 (by decide)]; unfold cpD; rw [if_neg (by omega)], fun q h1 h2 => by
                  rw [u20_12]; unfold cpD; rw [if_pos (by omega), ← ht3_10 q h1 h2]; congr 1; omega⟩, fun h => absurd ht1_10 h⟩⟩)⟩)⟩ dX0_table_50
    · refine g_new (ci := 5) (C := RX5) (T := TX5) (N := 2) (ty := tyX5) (fs := [.int (iI 0), .null]) hx hb 19 hts hown hK hG hS rfl in_X5 tyX5_ok q519 q520 q87 (fun j hj => match j, hj with | 0, _ => rfl | 1, _ => rfl | k9 + 2, h => absurd h (by omega)) (Nat.le_of_ble_eq_true rfl) (Nat.le_of_ble_eq_true rfl) dX0_table_9 (fun nw14 H hznw14 hG hS => ?_)
      have hLnw14 : (gup σ nw14 (19, gO 5 [.int (iI 0), .null])) nw14 = some (19, gO 5 [.int (iI 0), .null]) := gup_s
      generalize hgen15 : (gup σ nw14 (19, gO 5 [.int (iI 0), .null])) = σ15 at hG hLnw14 
      refine lv_dup hx hb dX0_table_12 rfl ?_
      refine lv_aload_n hx hb dX0_table_13 rfl (lv_at hl 0 rfl) ?_
      refine g_callIN (As := [.ref (b 0)]) (rest := [.ref nw14]) 1 hx hb hml hown hts hK hG hS hl.1 (mX5_init l X σ15 nw14 _ (b 0) hLnw14) q521 q522 q87 q523 rfl (by decide +kernel) rfl ⟨Nat.le_of_ble_eq_true rfl, Nat.le_of_ble_eq_true rfl⟩ ⟨Nat.le_of_ble_eq_true rfl, Nat.le_of_ble_eq_true rfl⟩ (Nat.le_of_ble_eq_true rfl) dX0_table_14 (kV (fun σr16 H locs hp hG hS => ?_))
      have hp : σr16 = (gup σ15 nw14 (19, gO 5 [.int (iI 0), .ref (b 0)])) := hp
      have hL17 : σr16 nw14 = some (19, gO 5 [.int (iI 0), .ref (b 0)]) := by rw [hp]; exact gup_s
      have hp17 : σr16 = (gup σ nw14 (19, gO 5 [.int (iI 0), .ref (b 0)])) := by rw [hp, ← hgen15, gup_gup]
      have hX_f17 : XW X σr16 b U J R := by rw [hp17]; exact hX.keep (gKeep.new hznw14 : gKeep (fun _ => False) _ _) (fun h => h)
      have hkp_f17 : gKeep (fun t => t = 1 ∨ t = 19 ∨ t = 0) σ σr16 := by rw [hp17]; exact hkp.tr (gKeep.new hznw14)
      refine g_callVX (As := []) (rest := []) 0 hx hb hml hown hts hK hG hS hl.1 (mX5_all l X σr16 b U J R hX_f17 hT nw14 hL17 hTp hTv) hL17 rfl q532 q533 q534 q87 q535 (by decide +kernel) rfl ⟨Nat.le_of_ble_eq_true rfl, Nat.le_of_ble_eq_true rfl⟩ ⟨Nat.le_of_ble_eq_true rfl, Nat.le_of_ble_eq_true rfl⟩ (Nat.le_of_ble_eq_true rfl) dX0_table_17 (fun q9 σx H locs hpx hG hS => ?_) (kI (fun r18 σr18 H locs hp hG hS => ?_))
      · obtain ⟨pl, hq9, hz1_19, hz2_19, kq19, U19, hX19, hu19⟩ := hpx
        refine g_fltC hown hK hG hq9 (gHas.one hts htb (by decide) (by decide) q518) ?_
        have hT19 : okT (U19 20) := by rw [hu19 20 (by decide)]; exact hT
        have hkp19 : gKeep (fun t => t = 1 ∨ t = 19 ∨ t = 0) σ σx := hkp_f17.tr (kq19.mono (fun t (h : t = 1 ∨ t = 19 ∨ t = 0) => (by show t = 1 ∨ t = 19 ∨ t = 0; omega)))
        refine lv_astore_n (lv' := [(2, .ref q9), (0, .ref (b 0)), (1, .int (iI 1))]) hx hb dX0_table_51 rfl hl (by decide) rfl (fun ls hl => ?_)
        refine g_bipush hx hb dX0_table_52 (by decide) ?_
        refine lv_aload_n hx hb dX0_table_54 rfl (lv_at hl 0 rfl) ?_
        refine g_getN (C := RX6) (T := TX6) (N := 7) (v := .int (iI pl)) hx hb hts hown hK hG hq9 rfl in_X6 6 (by decide) q574 rfl rfl dX0_table_55 ?_
        refine g_isub hx hb dX0_table_58 ?_
        refine lv_istore_n (lv' := [(3, .int (iI ((-100) - pl))), (2, .ref q9), (0, .ref (b 0)), (1, .int (iI 1))]) hx hb dX0_table_59 rfl hl (by decide) rfl (fun ls hl => ?_)
        refine lv_aload_n hx hb dX0_table_60 rfl (lv_at hl 2 rfl) ?_
        refine g_iconst hx hb dX0_table_61 ?_
        refine g_put (C := RX0) (T := TX0) (N := 20) (ty0 := tyX0) (v := .int (iI 0)) hx hb hts hown hK hG hS hX19.c0 rfl in_X0 tyX0_ok nmX0 6 (by decide) q428 rfl (by decide) rfl rfl (Nat.le_of_ble_eq_true rfl) dX0_table_62 (fun H locs hG hS => ?_)
        obtain ⟨J20, eJ20⟩ : ∃ z : Nat → Int, z = va_up J 6 0 := ⟨_, rfl⟩
        have j6_20 : J20 6 = 0 := by rw [eJ20, va_up_self]
        have fJ20 : ∀ j, j ≠ 6 → J20 j = J j := fun j hj => by rw [eJ20, va_up_ne _ _ hj]
        have hX20 : XW X (gup σx (b 0) (1, gO 0 ([.ref (b 1), .ref (b 2), .int (iI (J 2)), .ref (b 3), .ref (b 4), .ref (b 5), .int (iI (J 6)), .ref (b 7), .ref (b 8), .int (iI (J 9)), .ref (b 10), .ref (b 11), .ref (b 12), .ref (b 13), .ref (b 14), .ref (b 56), .ref (b 57), .ref (b 58), .ref (b 18), .ref (b 19)].set 6 (.int (iI 0))))) b U19 J20 R := by rw [eJ20]; exact hX19.num 6 rfl 0
        have hLc20_0 := (gKeep.up hX19.c0 rfl : gKeep (fun t => t = 1) σx (gup σx (b 0) (1, gO 0 ([.ref (b 1), .ref (b 2), .int (iI (J 2)), .ref (b 3), .ref (b 4), .ref (b 5), .int (iI (J 6)), .ref (b 7), .ref (b 8), .int (iI (J 9)), .ref (b 10), .ref (b 11), .ref (b 12), .ref (b 13), .ref (b 14), .ref (b 56), .ref (b 57), .ref (b 58), .ref (b 18), .ref (b 19)].set 6 (.int (iI 0)))))) _ _ _ hq9 (by first | decide | omega | (intro q9; dsimp only at q9; omega))
        have hkp20 : gKeep (fun t => t = 1 ∨ t = 19 ∨ t = 0) σ (gup σx (b 0) (1, gO 0 ([.ref (b 1), .ref (b 2), .int (iI (J 2)), .ref (b 3), .ref (b 4), .ref (b 5), .int (iI (J 6)), .ref (b 7), .ref (b 8), .int (iI (J 9)), .ref (b 10), .ref (b 11), .ref (b 12), .ref (b 13), .ref (b 14), .ref (b 56), .ref (b 57), .ref (b 58), .ref (b 18), .ref (b 19)].set 6 (.int (iI 0))))) := hkp19.tr ((gKeep.up hX19.c0 rfl : gKeep (fun t => t = 1) σx (gup σx (b 0) (1, gO 0 ([.ref (b 1), .ref (b 2), .int (iI (J 2)), .ref (b 3), .ref (b 4), .ref (b 5), .int (iI (J 6)), .ref (b 7), .ref (b 8), .int (iI (J 9)), .ref (b 10), .ref (b 11), .ref (b 12), .ref (b 13), .ref (b 14), .ref (b 56), .ref (b 57), .ref (b 58), .ref (b 18), .ref (b 19)].set 6 (.int (iI 0)))))).mono (fun t (h : t = 1) => (by show t = 1 ∨ t = 19 ∨ t = 0; omega)))
        generalize (gup σx (b 0) (1, gO 0 ([.ref (b 1), .ref (b 2), .int (iI (J 2)), .ref (b 3), .ref (b 4), .ref (b 5), .int (iI (J 6)), .ref (b 7), .ref (b 8), .int (iI (J 9)), .ref (b 10), .ref (b 11), .ref (b 12), .ref (b 13), .ref (b 14), .ref (b 56), .ref (b 57), .ref (b 58), .ref (b 18), .ref (b 19)].set 6 (.int (iI 0))))) = σ20 at hG hX20 hLc20_0 hkp20
        refine lv_iload_n hx hb dX0_table_65 rfl (lv_at hl 0 rfl) ?_
        exact g_iret hx hb hr hlocks hQ hG hS (Nat.le_of_ble_eq_true rfl) (Nat.le_of_ble_eq_true rfl) ⟨_, rfl, hkp20, (⟨U19, J20, hX20, hT19, (⟨by rw [if_pos (by omega), if_neg (by rw [hz1_19]; decide), hz2_19], Or.inl ⟨by omega, eJ20, fun q h1 h2 => hu19 q h1, fun h => by rw [hz1_19] at h; exact absurd h (by decide), fun _ => hu19 20 (by decide)⟩⟩)⟩)⟩ dX0_table_66
      obtain ⟨kq21, U21, J21, hX21, hT21, ht1_21, ht2_21, ht3_21, ht4_21, ht5_21, rfl⟩ := hp
      have hkp22 : gKeep (fun t => t = 1 ∨ t = 19 ∨ t = 0) σ σr18 := hkp_f17.tr (kq21.mono (fun t (h : t = 1 ∨ t = 19 ∨ t = 0) => (by show t = 1 ∨ t = 19 ∨ t = 0; omega)))
      refine lv_istore_n (lv' := [(2, .int (iI r18)), (0, .ref (b 0)), (1, .int (iI 1))]) hx hb dX0_table_20 rfl hl (by decide) rfl (fun ls hl => ?_)
      refine lv_aload_n hx hb dX0_table_21 rfl (lv_at hl 1 rfl) ?_
      refine g_get (C := RX0) (T := TX0) (N := 20) (v := .ref (b 7)) hx hb hts hown hK hG hX21.c0 rfl in_X0 7 (by decide) q430 rfl rfl dX0_table_22 ?_
      refine g_iconst hx hb dX0_table_25 ?_
      refine lv_aload_n hx hb dX0_table_26 rfl (lv_at hl 1 rfl) ?_
      refine g_get (C := RX0) (T := TX0) (N := 20) (v := .ref (b 1)) hx hb hts hown hK hG hX21.c0 rfl in_X0 0 (by decide) q420 rfl rfl dX0_table_27 ?_
      refine g_getN (C := RX1) (T := TX1) (N := 4) (v := .ref (b 20)) hx hb hts hown hK hG hX21.c1 rfl in_X1 0 (by decide) q187 rfl rfl dX0_table_30 ?_
      refine g_bipush hx hb dX0_table_33 (by decide) ?_
      refine lv_iload_n hx hb dX0_table_35 rfl (lv_at hl 2 rfl) ?_
      refine g_imul hx hb dX0_table_36 ?_
      refine g_rw (b := 9) (by decide) ?_
      refine g_bipush hx hb dX0_table_37 (by decide) ?_
      refine g_copyD (N := 9) (D := 9) hx hb hml hown hts hK hG hS hl.1 q584 q586 q585 q89 hX21.c7 hX21.c20 (by decide) (by decide) (by decide) (by decide) (Nat.le_of_ble_eq_true rfl) (Nat.le_of_ble_eq_true rfl) dX0_table_39 (fun H locs hG hS => ?_)
      obtain ⟨U23, eU23⟩ : ∃ z : Nat → Int → Int, z = va_up U21 20 (cpD 9 9 (U21 7) (U21 20)) := ⟨_, rfl⟩
      have u20_23 : U23 20 = (cpD 9 9 (U21 7) (U21 20)) := by rw [eU23, va_up_self]
      have fU23 : ∀ j, j ≠ 20 → U23 j = U21 j := fun j hj => by rw [eU23, va_up_ne _ _ hj]
      have hX23 : XW X (gup σr18 (b 20) (1, gI (X.2.1 0) 18 (cpD 9 9 (U21 7) (U21 20)))) b U23 J R := by rw [eU23]; exact hX21.set 20 rfl (cpD 9 9 (U21 7) (U21 20))
      have hT23 : okT (U23 20) := by rw [u20_23]; exact okT_cpD hT21 (fun q h1 h2 => ht4_21 q h1 (by omega))
      have hkp23 : gKeep (fun t => t = 1 ∨ t = 19 ∨ t = 0) σ (gup σr18 (b 20) (1, gI (X.2.1 0) 18 (cpD 9 9 (U21 7) (U21 20)))) := hkp22.tr ((gKeep.up hX21.c20 rfl : gKeep (fun t => t = 1) σr18 (gup σr18 (b 20) (1, gI (X.2.1 0) 18 (cpD 9 9 (U21 7) (U21 20))))).mono (fun t (h : t = 1) => (by show t = 1 ∨ t = 19 ∨ t = 0; omega)))
      generalize (gup σr18 (b 20) (1, gI (X.2.1 0) 18 (cpD 9 9 (U21 7) (U21 20)))) = σ23 at hG hX23 hkp23
      refine lv_iload_n hx hb dX0_table_42 rfl (lv_at hl 0 rfl) ?_
      refine lv_istore_n (lv' := [(3, .int (iI r18)), (2, .int (iI r18)), (0, .ref (b 0)), (1, .int (iI 1))]) hx hb dX0_table_43 rfl hl (by decide) rfl (fun ls hl => ?_)
      refine lv_aload_n hx hb dX0_table_44 rfl (lv_at hl 2 rfl) ?_
      refine g_iconst hx hb dX0_table_45 ?_
      refine g_put (C := RX0) (T := TX0) (N := 20) (ty0 := tyX0) (v := .int (iI 0)) hx hb hts hown hK hG hS hX23.c0 rfl in_X0 tyX0_ok nmX0 6 (by decide) q428 rfl (by decide) rfl rfl (Nat.le_of_ble_eq_true rfl) dX0_table_46 (fun H locs hG hS => ?_)
      obtain ⟨J24, eJ24⟩ : ∃ z : Nat → Int, z = va_up J 6 0 := ⟨_, rfl⟩
      have j6_24 : J24 6 = 0 := by rw [eJ24, va_up_self]
      have fJ24 : ∀ j, j ≠ 6 → J24 j = J j := fun j hj => by rw [eJ24, va_up_ne _ _ hj]
      have hX24 : XW X (gup σ23 (b 0) (1, gO 0 ([.ref (b 1), .ref (b 2), .int (iI (J 2)), .ref (b 3), .ref (b 4), .ref (b 5), .int (iI (J 6)), .ref (b 7), .ref (b 8), .int (iI (J 9)), .ref (b 10), .ref (b 11), .ref (b 12), .ref (b 13), .ref (b 14), .ref (b 56), .ref (b 57), .ref (b 58), .ref (b 18), .ref (b 19)].set 6 (.int (iI 0))))) b U23 J24 R := by rw [eJ24]; exact hX23.num 6 rfl 0
      have hkp24 : gKeep (fun t => t = 1 ∨ t = 19 ∨ t = 0) σ (gup σ23 (b 0) (1, gO 0 ([.ref (b 1), .ref (b 2), .int (iI (J 2)), .ref (b 3), .ref (b 4), .ref (b 5), .int (iI (J 6)), .ref (b 7), .ref (b 8), .int (iI (J 9)), .ref (b 10), .ref (b 11), .ref (b 12), .ref (b 13), .ref (b 14), .ref (b 56), .ref (b 57), .ref (b 58), .ref (b 18), .ref (b 19)].set 6 (.int (iI 0))))) := hkp23.tr ((gKeep.up hX23.c0 rfl : gKeep (fun t => t = 1) σ23 (gup σ23 (b 0) (1, gO 0 ([.ref (b 1), .ref (b 2), .int (iI (J 2)), .ref (b 3), .ref (b 4), .ref (b 5), .int (iI (J 6)), .ref (b 7), .ref (b 8), .int (iI (J 9)), .ref (b 10), .ref (b 11), .ref (b 12), .ref (b 13), .ref (b 14), .ref (b 56), .ref (b 57), .ref (b 58), .ref (b 18), .ref (b 19)].set 6 (.int (iI 0)))))).mono (fun t (h : t = 1) => (by show t = 1 ∨ t = 19 ∨ t = 0; omega)))
      generalize (gup σ23 (b 0) (1, gO 0 ([.ref (b 1), .ref (b 2), .int (iI (J 2)), .ref (b 3), .ref (b 4), .ref (b 5), .int (iI (J 6)), .ref (b 7), .ref (b 8), .int (iI (J 9)), .ref (b 10), .ref (b 11), .ref (b 12), .ref (b 13), .ref (b 14), .ref (b 56), .ref (b 57), .ref (b 58), .ref (b 18), .ref (b 19)].set 6 (.int (iI 0))))) = σ24 at hG hX24 hkp24
      refine lv_iload_n hx hb dX0_table_49 rfl (lv_at hl 0 rfl) ?_
      exact g_iret hx hb hr hlocks hQ hG hS (Nat.le_of_ble_eq_true rfl) (Nat.le_of_ble_eq_true rfl) ⟨_, rfl, hkp24, (⟨U23, J24, hX24, hT23, (⟨by rw [if_pos (by omega), if_pos ht1_21]; exact ht2_21, Or.inl ⟨by omega, eJ24, fun q h1 h2 => (fU23 q h2).trans (ht5_21 q h1), fun _ => ⟨fun q h => by
                  rw [u20_23, ht5_21 20 (by decide)]; unfold cpD; rw [if_neg (by omega)], fun q h1 h2 => by
                  rw [u20_23]; unfold cpD; rw [if_pos (by omega), ← ht3_21 q h1 h2]; congr 1; omega⟩, fun h => absurd ht1_21 h⟩⟩)⟩)⟩ dX0_table_50
  · refine g_iconst hx hb dX0_table_7 ?_
    exact g_iret hx hb hr hlocks hQ hG hS (Nat.zero_le _) (Nat.zero_le _) ⟨_, rfl, hkp, (⟨U, J, hX, hT, (⟨by rw [if_neg (by omega)], Or.inr ⟨by omega, rfl, rfl⟩⟩)⟩)⟩ dX0_table_8

