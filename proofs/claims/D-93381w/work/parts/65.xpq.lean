def FW (σ : gS) (S : Int → Int) (fa : Int → Nat) : Prop := ∀ a : Int, 0 ≤ a → a ≤ 31 → σ (fa a) = some (22, gO 7 [.int (iI a), .int (iI (S a))])
theorem FW.keep {tg : Nat → Prop} {σ σ' : gS} {S : Int → Int} {fa : Int → Nat} (h : FW σ S fa) (hk : gKeep tg σ σ') (ht : ¬ tg 22) : FW σ' S fa := fun a h0 h1 => hk _ _ _ (h a h0 h1) ht

set_option maxHeartbeats 4000000 in
theorem mX8_compare_2 (l : Launch) (X : gX) (σ : gS) (x y tx ty cp tc : Nat) (a9 b9 sa sb : Int) (hx9 : σ x = some (tx, gO 7 [.int (iI a9), .int (iI sa)])) (hy9 : σ y = some (ty, gO 7 [.int (iI b9), .int (iI sb)])) (hc9 : σ cp = some (tc, gO 8 [])) (h0 : 0 ≤ a9 ∧ a9 ≤ 31) (h1 : 0 ≤ b9 ∧ b9 ≤ 31) (h2 : 0 ≤ sa ∧ sa ≤ 1024) (h3 : 0 ≤ sb ∧ sb ≤ 1024) : gMet l X yX8_compare_2 cX8_compare_2 3 (some .int) 1 0 0 21 σ [.ref cp, .ref x, .ref y] (oI (fun r σ' => ((r = -1 ∧ (sb < sa ∨ sa = sb ∧ a9 < b9)) ∨ (r = 0 ∧ sa = sb ∧ a9 = b9) ∨ (r = 1 ∧ (sa < sb ∨ sa = sb ∧ b9 < a9))) ∧ σ = σ')) := by
  refine gMet.of (by decide) (Nat.le_of_ble_eq_true rfl) ?_
  intro pp ee ss mm args below meth cd Q H locs ls hargs hx hb hr hlocks hml hown hnm hts hK hG hS hQ hl
  have hown : ss.vm.findClass RX8 = some mm.cls := hown
  have hl : lv_has ls 3 [(0, .ref cp), (1, .ref x), (2, .ref y)] := hl
  refine lv_aload_n hx hb dX8_compare_2_0 rfl (lv_at hl 1 rfl) ?_
  refine g_getN (C := RX7) (T := TX7) (N := 2) (v := .int (iI sa)) hx hb hts hown hK hG hx9 rfl in_X7 1 (by decide) q689 rfl rfl dX8_compare_2_1 ?_
  refine lv_aload_n hx hb dX8_compare_2_4 rfl (lv_at hl 2 rfl) ?_
  refine g_getN (C := RX7) (T := TX7) (N := 2) (v := .int (iI sb)) hx hb hts hown hK hG hy9 rfl in_X7 1 (by decide) q689 rfl rfl dX8_compare_2_5 ?_
  refine g_icmp_eq (tgt := 25) hx hb dX8_compare_2_8 (by decide) (by omega) (by omega) (fun cq1 => ?_) (fun cq1 => ?_)
  · refine lv_aload_n hx hb dX8_compare_2_25 rfl (lv_at hl 1 rfl) ?_
    refine g_getN (C := RX7) (T := TX7) (N := 2) (v := .int (iI a9)) hx hb hts hown hK hG hx9 rfl in_X7 0 (by decide) q687 rfl rfl dX8_compare_2_26 ?_
    refine lv_aload_n hx hb dX8_compare_2_29 rfl (lv_at hl 2 rfl) ?_
    refine g_getN (C := RX7) (T := TX7) (N := 2) (v := .int (iI b9)) hx hb hts hown hK hG hy9 rfl in_X7 0 (by decide) q687 rfl rfl dX8_compare_2_30 ?_
    refine g_callS (As := [.int (iI a9), .int (iI b9)]) (rest := []) 2 hx hb hml hown hts hK hG hS hl.1 (mJ19_compare l X σ a9 b9 (by omega) (by omega)) q834 q835 q99 q836 (by decide +kernel) rfl ⟨Nat.le_of_ble_eq_true rfl, Nat.le_of_ble_eq_true rfl⟩ ⟨Nat.le_of_ble_eq_true rfl, Nat.le_of_ble_eq_true rfl⟩ (Nat.le_of_ble_eq_true rfl) dX8_compare_2_33 (kI (fun r2 σr2 H locs hp hG hS => ?_))
    obtain ⟨hr2, rfl⟩ := hp
    exact g_iret hx hb hr hlocks hQ hG hS (Nat.zero_le _) (Nat.zero_le _) ⟨_, rfl, by omega, rfl⟩ dX8_compare_2_36
  · refine lv_aload_n hx hb dX8_compare_2_11 rfl (lv_at hl 2 rfl) ?_
    refine g_getN (C := RX7) (T := TX7) (N := 2) (v := .int (iI sb)) hx hb hts hown hK hG hy9 rfl in_X7 1 (by decide) q689 rfl rfl dX8_compare_2_12 ?_
    refine lv_aload_n hx hb dX8_compare_2_15 rfl (lv_at hl 1 rfl) ?_
    refine g_getN (C := RX7) (T := TX7) (N := 2) (v := .int (iI sa)) hx hb hts hown hK hG hx9 rfl in_X7 1 (by decide) q689 rfl rfl dX8_compare_2_16 ?_
    refine g_callS (As := [.int (iI sb), .int (iI sa)]) (rest := []) 2 hx hb hml hown hts hK hG hS hl.1 (mJ19_compare l X σ sb sa (by omega) (by omega)) q834 q835 q99 q836 (by decide +kernel) rfl ⟨Nat.le_of_ble_eq_true rfl, Nat.le_of_ble_eq_true rfl⟩ ⟨Nat.le_of_ble_eq_true rfl, Nat.le_of_ble_eq_true rfl⟩ (Nat.le_of_ble_eq_true rfl) dX8_compare_2_19 (kI (fun r3 σr3 H locs hp hG hS => ?_))
    obtain ⟨hr3, rfl⟩ := hp
    refine lv_goto (tgt := 36) hx hb dX8_compare_2_22 (by decide) ?_
    exact g_iret hx hb hr hlocks hQ hG hS (Nat.zero_le _) (Nat.zero_le _) ⟨_, rfl, by omega, rfl⟩ dX8_compare_2_36

set_option maxHeartbeats 4000000 in
theorem mX8_compare (l : Launch) (X : gX) (σ : gS) (x y tx ty cp tc : Nat) (a9 b9 sa sb : Int) (hx9 : σ x = some (tx, gO 7 [.int (iI a9), .int (iI sa)])) (hy9 : σ y = some (ty, gO 7 [.int (iI b9), .int (iI sb)])) (hc9 : σ cp = some (tc, gO 8 [])) (h0 : 0 ≤ a9 ∧ a9 ≤ 31) (h1 : 0 ≤ b9 ∧ b9 ≤ 31) (h2 : 0 ≤ sa ∧ sa ≤ 1024) (h3 : 0 ≤ sb ∧ sb ≤ 1024) : gMet l X yX8_compare cX8_compare 3 (some .int) 2 0 0 43 σ [.ref cp, .ref x, .ref y] (oI (fun r σ' => ((r = -1 ∧ (sb < sa ∨ sa = sb ∧ a9 < b9)) ∨ (r = 0 ∧ sa = sb ∧ a9 = b9) ∨ (r = 1 ∧ (sa < sb ∨ sa = sb ∧ b9 < a9))) ∧ σ = σ')) := by
  refine gMet.of (by decide) (Nat.le_of_ble_eq_true rfl) ?_
  intro pp ee ss mm args below meth cd Q H locs ls hargs hx hb hr hlocks hml hown hnm hts hK hG hS hQ hl
  have hown : ss.vm.findClass RX8 = some mm.cls := hown
  have hl : lv_has ls 3 [(0, .ref cp), (1, .ref x), (2, .ref y)] := hl
  refine lv_aload_n hx hb dX8_compare_0 rfl (lv_at hl 0 rfl) ?_
  refine lv_aload_n hx hb dX8_compare_1 rfl (lv_at hl 1 rfl) ?_
  refine g_castS hx hb hts hown hK hG hx9 rfl q829 dX8_compare_2 ?_
  refine lv_aload_n hx hb dX8_compare_5 rfl (lv_at hl 2 rfl) ?_
  refine g_castS hx hb hts hown hK hG hy9 rfl q829 dX8_compare_6 ?_
  refine g_callV (As := [.ref x, .ref y]) (rest := []) 2 hx hb hml hown hts hK hG hS hl.1 (mX8_compare_2 l X σ x y _ _ cp _ a9 b9 sa sb hx9 hy9 hc9 (by first | assumption | exact hS9 _ | omega) (by first | assumption | exact hS9 _ | omega) (by first | assumption | exact hS9 _ | omega) (by first | assumption | exact hS9 _ | omega)) hc9 rfl q830 q831 q832 q93 q833 (by decide +kernel) rfl ⟨Nat.le_of_ble_eq_true rfl, Nat.le_of_ble_eq_true rfl⟩ ⟨Nat.le_of_ble_eq_true rfl, Nat.le_of_ble_eq_true rfl⟩ (Nat.le_of_ble_eq_true rfl) dX8_compare_9 (kI (fun r1 σr1 H locs hp hG hS => ?_))
  obtain ⟨hr1, rfl⟩ := hp
  exact g_iret hx hb hr hlocks hQ hG hS (Nat.zero_le _) (Nat.zero_le _) ⟨_, rfl, by omega, rfl⟩ dX8_compare_12

set_option maxHeartbeats 8000000 in
theorem mJ14_siftUpUsingComparator (l : Launch) (X : gX) (σ : gS) (S : Int → Int) (fa : Int → Nat) (hS9 : ∀ a, 0 ≤ S a ∧ S a ≤ 1024) (hF : FW σ S fa) (qa : Nat) (g : Int → Option Nat) (hQ9 : σ qa = some (21, gV (X.2.1 9) 32 g)) (cp : Nat) (hK9 : σ cp = some (23, gO 8 []))  (n k : Nat) (f : Nat → Int) (xk : Int) (hn9 : n ≤ 32) (hkn : k < n) (hxk : f k = xk) (hI0 : hInj n f) (hr0 : ∀ v, inQ n f v → 0 ≤ v ∧ v ≤ 31) (hg0 : ∀ i : Nat, i < n → i ≠ k → g (i : Int) = some (fa (f i))) (hu0 : hUp S n f k)  : gMet l X yJ14_siftUpUsingComparator cJ14_siftUpUsingComparator 6 none 3 0 0 65 σ [.int (iI (k : Int)), .ref (fa xk), .ref qa, .ref cp] (oV (fun σ' => gKeep (fun t => t = 21) σ σ' ∧ (∃ (f' : Nat → Int) (g' : Int → Option Nat), σ' qa = some (21, gV (X.2.1 9) 32 g') ∧ (∀ i : Nat, i < n → g' (i : Int) = some (fa (f' i))) ∧ hOk S n f' ∧ hInj n f' ∧ ∀ v, inQ n f' v ↔ inQ n f v))) := by
  refine gMet.of (by decide) (Nat.le_of_ble_eq_true rfl) ?_
  intro pp ee ss mm args below meth cd Q H locs ls hargs hx hb hr hlocks hml hown hnm hts hK hG hS hQ hl
  have hown : ss.vm.findClass RJ14 = some mm.cls := hown
  have hl : lv_has ls 6 [(0, .int (iI (k : Int))), (1, .ref (fa xk)), (2, .ref qa), (3, .ref cp)] := hl
  have hkp : gKeep (fun t => t = 21) σ σ := gKeep.rf
  have loop_0 : ∀ (nF : Nat) (σL : gS) (k9 : Nat) (f9 : Nat → Int) (g9 : Int → Option Nat), (k9 : Nat) < nF → (gKeep (fun t => t = 21) σ σL) → (FW σL S fa) → (σL qa = some (21, gV (X.2.1 9) 32 g9)) → (σL cp = some (23, gO 8 [])) → (k9 < n) → (f9 k9 = xk) → (hInj n f9) → (∀ v, inQ n f9 v ↔ inQ n f v) → (∀ i : Nat, i < n → i ≠ k9 → g9 (i : Int) = some (fa (f9 i))) → (hUp S n f9 k9) → ∀ (H : Heap) (locs : List Loc) (ls : Array Slot), gSat X σL H → va_S (gA X) ss.heap H locs → lv_has ls 6 [(0, .int (iI (k9 : Int))), (1, .ref (fa xk)), (2, .ref qa), (3, .ref cp)] → W pp l ee (gR 3 0 0 65) ss mm args below meth cd H locs 0 0 Q (F0 mm 0 ls []) := by
    intro nF
    induction nF with
    | zero => intro σL k9 f9 g9 hm; exact absurd hm (Nat.not_lt_zero _)
    | succ nF ih_0 =>
      intro σL k9 f9 g9 hm hkL hFL hQL hKL hk9 hx9 hI9 hin9 hg9 hu9 H locs ls hG hS hl
      have hr9 : ∀ v, inQ n f9 v → 0 ≤ v ∧ v ≤ 31 := fun v h => hr0 v ((hin9 v).mp h)
      have hxr := hr9 (f9 k9) ⟨k9, hk9, rfl⟩
      rw [hx9] at hxr
      refine lv_iload_n hx hb dJ14_siftUpUsingComparator_0 rfl (lv_at hl 0 rfl) ?_
      refine g_if_le (tgt := 43) hx hb dJ14_siftUpUsingComparator_1 (by decide) (by omega) (fun cq1 => ?_) (fun cq1 => ?_)
      · refine lv_aload_n hx hb dJ14_siftUpUsingComparator_43 rfl (lv_at hl 2 rfl) ?_
        refine lv_iload_n hx hb dJ14_siftUpUsingComparator_44 rfl (lv_at hl 0 rfl) ?_
        refine lv_aload_n hx hb dJ14_siftUpUsingComparator_45 rfl (lv_at hl 1 rfl) ?_
        refine g_aastO hx hb hK hG hS hQL rfl (hFL xk (by omega) (by omega)) rfl (Or.inl q2364) dJ14_siftUpUsingComparator_46 (by omega) (fun H locs hG hS => ?_)
        have hF_2 : FW (gup σL qa (21, gV (X.2.1 9) 32 (iup g9 (k9 : Int) (some (fa xk))))) S fa := hFL.keep (gKeep.up hQL rfl : gKeep (fun t => t = 21) σL (gup σL qa (21, gV (X.2.1 9) 32 (iup g9 (k9 : Int) (some (fa xk)))))) (by first | decide | omega | (intro q9; dsimp only at q9; omega))
        have hK_2 : (gup σL qa (21, gV (X.2.1 9) 32 (iup g9 (k9 : Int) (some (fa xk))))) cp = some (23, gO 8 []) := (gKeep.up hQL rfl : gKeep (fun t => t = 21) σL (gup σL qa (21, gV (X.2.1 9) 32 (iup g9 (k9 : Int) (some (fa xk)))))) _ _ _ hKL (by first | decide | omega | (intro q9; dsimp only at q9; omega))
        have hQ_2 : (gup σL qa (21, gV (X.2.1 9) 32 (iup g9 (k9 : Int) (some (fa xk))))) qa = some (21, gV (X.2.1 9) 32 (iup g9 (k9 : Int) (some (fa xk)))) := gup_s
        have hkp2 : gKeep (fun t => t = 21) σ (gup σL qa (21, gV (X.2.1 9) 32 (iup g9 (k9 : Int) (some (fa xk))))) := hkL.tr ((gKeep.up hQL rfl : gKeep (fun t => t = 21) σL (gup σL qa (21, gV (X.2.1 9) 32 (iup g9 (k9 : Int) (some (fa xk)))))).mono (fun t (h : t = 21) => (by show t = 21; omega)))
        generalize (gup σL qa (21, gV (X.2.1 9) 32 (iup g9 (k9 : Int) (some (fa xk))))) = σ2 at hG hF_2 hK_2 hQ_2 hkp2
        exact g_vret hx hb hr hlocks hQ hG hS (Nat.zero_le _) (Nat.zero_le _) ⟨rfl, hkp2, (⟨f9, (iup g9 (k9 : Int) (some (fa xk))), hQ_2, fun i hi => by
                  by_cases e : i = k9
                  · rw [e, iup_s, hx9]
                  · rw [iup_n (by omega)]; exact hg9 i hi e, hu9.done (by first | exact Or.inl (by omega) | (right; rw [hx9]; show ¬ (S (f9 (hpp k9)) < S xk ∨ (S xk = S (f9 (hpp k9)) ∧ xk < f9 (hpp k9))); omega)), hI9, hin9⟩)⟩ dJ14_siftUpUsingComparator_47
      · refine lv_iload_n hx hb dJ14_siftUpUsingComparator_4 rfl (lv_at hl 0 rfl) ?_
        refine g_iconst hx hb dJ14_siftUpUsingComparator_5 ?_
        refine g_isub hx hb dJ14_siftUpUsingComparator_6 ?_
        refine g_iconst hx hb dJ14_siftUpUsingComparator_7 ?_
        refine lv_iushr hx hb dJ14_siftUpUsingComparator_8 (iI_sr1 (by omega)) ?_
        have hpk := hpp_lt (show 0 < k9 by omega)
        refine g_rw (b := ((hpp k9 : Nat) : Int)) (by unfold hpp; omega) ?_
        have hpr := hr9 (f9 (hpp k9)) ⟨(hpp k9), by omega, rfl⟩
        refine lv_istore (lv' := [(4, .int (iI ((hpp k9 : Nat) : Int))), (0, .int (iI (k9 : Int))), (1, .ref (fa xk)), (2, .ref qa), (3, .ref cp)]) hx hb dJ14_siftUpUsingComparator_9 hl (by decide) rfl (fun ls hl => ?_)
        refine lv_aload_n hx hb dJ14_siftUpUsingComparator_11 rfl (lv_at hl 3 rfl) ?_
        refine lv_iload hx hb dJ14_siftUpUsingComparator_12 (lv_at hl 0 rfl) ?_
        refine g_aald (v := .ref (fa (f9 (hpp k9)))) hx hb 9 hK hG hQL rfl dJ14_siftUpUsingComparator_14 (by omega) (by rw [hg9 (hpp k9) (by omega) (by omega)]; rfl) ?_
        refine lv_astore (lv' := [(5, .ref (fa (f9 (hpp k9)))), (4, .int (iI ((hpp k9 : Nat) : Int))), (0, .int (iI (k9 : Int))), (1, .ref (fa xk)), (2, .ref qa), (3, .ref cp)]) hx hb dJ14_siftUpUsingComparator_15 hl (by decide) rfl (fun ls hl => ?_)
        refine lv_aload_n hx hb dJ14_siftUpUsingComparator_17 rfl (lv_at hl 5 rfl) ?_
        refine lv_aload_n hx hb dJ14_siftUpUsingComparator_18 rfl (lv_at hl 3 rfl) ?_
        refine lv_aload hx hb dJ14_siftUpUsingComparator_19 (lv_at hl 0 rfl) ?_
        refine g_callF (As := [.ref (fa xk), .ref (fa (f9 (hpp k9)))]) (rest := []) 2 hx hb hml hown hts hK hG hS hl.1 (mX8_compare l X σL (fa xk) (fa (f9 (hpp k9))) _ _ cp _ xk (f9 (hpp k9)) (S xk) (S (f9 (hpp k9))) (hFL xk (by omega) (by omega)) (hFL (f9 (hpp k9)) (by omega) (by omega)) hKL (by first | assumption | exact hS9 _ | omega) (by first | assumption | exact hS9 _ | omega) (by first | assumption | exact hS9 _ | omega) (by first | assumption | exact hS9 _ | omega)) hKL rfl q820 q824 q826 q93 q828 q822 q821 q827 q825 q823 (by decide +kernel) rfl ⟨Nat.le_of_ble_eq_true rfl, Nat.le_of_ble_eq_true rfl⟩ ⟨Nat.le_of_ble_eq_true rfl, Nat.le_of_ble_eq_true rfl⟩ (Nat.le_of_ble_eq_true rfl) dJ14_siftUpUsingComparator_21 (kI (fun r3 σr3 H locs hp hG hS => ?_))
        obtain ⟨hr3, rfl⟩ := hp
        refine g_if_lt (tgt := 32) hx hb dJ14_siftUpUsingComparator_26 (by decide) (by omega) (fun cq4 => ?_) (fun cq4 => ?_)
        · refine lv_aload_n hx hb dJ14_siftUpUsingComparator_32 rfl (lv_at hl 4 rfl) ?_
          refine lv_iload_n hx hb dJ14_siftUpUsingComparator_33 rfl (lv_at hl 2 rfl) ?_
          refine lv_aload hx hb dJ14_siftUpUsingComparator_34 (lv_at hl 0 rfl) ?_
          refine g_aastO hx hb hK hG hS hQL rfl (hFL (f9 (hpp k9)) (by omega) (by omega)) rfl (Or.inl q2364) dJ14_siftUpUsingComparator_36 (by omega) (fun H locs hG hS => ?_)
          have hF_5 : FW (gup σL qa (21, gV (X.2.1 9) 32 (iup g9 (k9 : Int) (some (fa (f9 (hpp k9))))))) S fa := hFL.keep (gKeep.up hQL rfl : gKeep (fun t => t = 21) σL (gup σL qa (21, gV (X.2.1 9) 32 (iup g9 (k9 : Int) (some (fa (f9 (hpp k9)))))))) (by first | decide | omega | (intro q9; dsimp only at q9; omega))
          have hK_5 : (gup σL qa (21, gV (X.2.1 9) 32 (iup g9 (k9 : Int) (some (fa (f9 (hpp k9))))))) cp = some (23, gO 8 []) := (gKeep.up hQL rfl : gKeep (fun t => t = 21) σL (gup σL qa (21, gV (X.2.1 9) 32 (iup g9 (k9 : Int) (some (fa (f9 (hpp k9)))))))) _ _ _ hKL (by first | decide | omega | (intro q9; dsimp only at q9; omega))
          have hQ_5 : (gup σL qa (21, gV (X.2.1 9) 32 (iup g9 (k9 : Int) (some (fa (f9 (hpp k9))))))) qa = some (21, gV (X.2.1 9) 32 (iup g9 (k9 : Int) (some (fa (f9 (hpp k9)))))) := gup_s
          have hkp5 : gKeep (fun t => t = 21) σ (gup σL qa (21, gV (X.2.1 9) 32 (iup g9 (k9 : Int) (some (fa (f9 (hpp k9))))))) := hkL.tr ((gKeep.up hQL rfl : gKeep (fun t => t = 21) σL (gup σL qa (21, gV (X.2.1 9) 32 (iup g9 (k9 : Int) (some (fa (f9 (hpp k9)))))))).mono (fun t (h : t = 21) => (by show t = 21; omega)))
          generalize (gup σL qa (21, gV (X.2.1 9) 32 (iup g9 (k9 : Int) (some (fa (f9 (hpp k9))))))) = σ5 at hG hF_5 hK_5 hQ_5 hkp5
          refine lv_iload hx hb dJ14_siftUpUsingComparator_37 (lv_at hl 1 rfl) ?_
          refine lv_istore_n (lv' := [(0, .int (iI ((hpp k9 : Nat) : Int))), (5, .ref (fa (f9 (hpp k9)))), (4, .int (iI ((hpp k9 : Nat) : Int))), (1, .ref (fa xk)), (2, .ref qa), (3, .ref cp)]) hx hb dJ14_siftUpUsingComparator_39 rfl hl (by decide) rfl (fun ls hl => ?_)
          refine lv_goto (tgt := 0) hx hb dJ14_siftUpUsingComparator_40 (by decide) ?_
          exact ih_0 σ5 (hpp k9) (swp f9 k9 (hpp k9)) (iup g9 (k9 : Int) (some (fa (f9 (hpp k9))))) (by omega) (hkp5) (hF_5) (hQ_5) (hK_5) (by omega) (by rw [swp_b]; exact hx9) (swp_inj hI9 hk9 (by omega)) (fun v => (swp_in hk9 (by omega) v).trans (hin9 v)) (fun i hi ne => by
                    by_cases e : i = k9
                    · rw [e, iup_s, swp_a]
                    · rw [iup_n (by omega), swp_n e ne]; exact hg9 i hi e) (hu9.step (by omega) hk9 (by rw [hx9]; show S (f9 (hpp k9)) < S xk ∨ (S xk = S (f9 (hpp k9)) ∧ xk < f9 (hpp k9)); omega))  _ _ _ hG hS (lv_sub hl [0, 3, 4, 5] rfl)
        · refine lv_goto (tgt := 43) hx hb dJ14_siftUpUsingComparator_29 (by decide) ?_
          refine lv_aload_n hx hb dJ14_siftUpUsingComparator_43 rfl (lv_at hl 4 rfl) ?_
          refine lv_iload_n hx hb dJ14_siftUpUsingComparator_44 rfl (lv_at hl 2 rfl) ?_
          refine lv_aload_n hx hb dJ14_siftUpUsingComparator_45 rfl (lv_at hl 3 rfl) ?_
          refine g_aastO hx hb hK hG hS hQL rfl (hFL xk (by omega) (by omega)) rfl (Or.inl q2364) dJ14_siftUpUsingComparator_46 (by omega) (fun H locs hG hS => ?_)
          have hF_6 : FW (gup σL qa (21, gV (X.2.1 9) 32 (iup g9 (k9 : Int) (some (fa xk))))) S fa := hFL.keep (gKeep.up hQL rfl : gKeep (fun t => t = 21) σL (gup σL qa (21, gV (X.2.1 9) 32 (iup g9 (k9 : Int) (some (fa xk)))))) (by first | decide | omega | (intro q9; dsimp only at q9; omega))
          have hK_6 : (gup σL qa (21, gV (X.2.1 9) 32 (iup g9 (k9 : Int) (some (fa xk))))) cp = some (23, gO 8 []) := (gKeep.up hQL rfl : gKeep (fun t => t = 21) σL (gup σL qa (21, gV (X.2.1 9) 32 (iup g9 (k9 : Int) (some (fa xk)))))) _ _ _ hKL (by first | decide | omega | (intro q9; dsimp only at q9; omega))
          have hQ_6 : (gup σL qa (21, gV (X.2.1 9) 32 (iup g9 (k9 : Int) (some (fa xk))))) qa = some (21, gV (X.2.1 9) 32 (iup g9 (k9 : Int) (some (fa xk)))) := gup_s
          have hkp6 : gKeep (fun t => t = 21) σ (gup σL qa (21, gV (X.2.1 9) 32 (iup g9 (k9 : Int) (some (fa xk))))) := hkL.tr ((gKeep.up hQL rfl : gKeep (fun t => t = 21) σL (gup σL qa (21, gV (X.2.1 9) 32 (iup g9 (k9 : Int) (some (fa xk)))))).mono (fun t (h : t = 21) => (by show t = 21; omega)))
          generalize (gup σL qa (21, gV (X.2.1 9) 32 (iup g9 (k9 : Int) (some (fa xk))))) = σ6 at hG hF_6 hK_6 hQ_6 hkp6
          exact g_vret hx hb hr hlocks hQ hG hS (Nat.zero_le _) (Nat.zero_le _) ⟨rfl, hkp6, (⟨f9, (iup g9 (k9 : Int) (some (fa xk))), hQ_6, fun i hi => by
                    by_cases e : i = k9
                    · rw [e, iup_s, hx9]
                    · rw [iup_n (by omega)]; exact hg9 i hi e, hu9.done (by first | exact Or.inl (by omega) | (right; rw [hx9]; show ¬ (S (f9 (hpp k9)) < S xk ∨ (S xk = S (f9 (hpp k9)) ∧ xk < f9 (hpp k9))); omega)), hI9, hin9⟩)⟩ dJ14_siftUpUsingComparator_47
  exact loop_0 _ σ k f g (Nat.lt_succ_self _) (hkp) (hF) (hQ9) (hK9) (hkn) (hxk) (hI0) (fun v => Iff.rfl) (hg0) (hu0)  _ _ _ hG hS (lv_sub hl [0, 1, 2, 3] rfl)

set_option maxHeartbeats 8000000 in
theorem mJ14_siftDownUsingComparator (l : Launch) (X : gX) (σ : gS) (S : Int → Int) (fa : Int → Nat) (hS9 : ∀ a, 0 ≤ S a ∧ S a ≤ 1024) (hF : FW σ S fa) (qa : Nat) (g : Int → Option Nat) (hQ9 : σ qa = some (21, gV (X.2.1 9) 32 g)) (cp : Nat) (hK9 : σ cp = some (23, gO 8 []))  (n k : Nat) (f : Nat → Int) (xk : Int) (hn9 : n ≤ 32) (hkn : k < n) (hxk : f k = xk) (hI0 : hInj n f) (hr0 : ∀ v, inQ n f v → 0 ≤ v ∧ v ≤ 31) (hg0 : ∀ i : Nat, i < n → i ≠ k → g (i : Int) = some (fa (f i))) (hu0 : hDn S n f k)  : gMet l X yJ14_siftDownUsingComparator cJ14_siftDownUsingComparator 9 none 3 0 0 65 σ [.int (iI (k : Int)), .ref (fa xk), .ref qa, .int (iI (n : Int)), .ref cp] (oV (fun σ' => gKeep (fun t => t = 21) σ σ' ∧ (∃ (f' : Nat → Int) (g' : Int → Option Nat), σ' qa = some (21, gV (X.2.1 9) 32 g') ∧ (∀ i : Nat, i < n → g' (i : Int) = some (fa (f' i))) ∧ hOk S n f' ∧ hInj n f' ∧ ∀ v, inQ n f' v ↔ inQ n f v))) := by
  refine gMet.of (by decide) (Nat.le_of_ble_eq_true rfl) ?_
  intro pp ee ss mm args below meth cd Q H locs ls hargs hx hb hr hlocks hml hown hnm hts hK hG hS hQ hl
  have hown : ss.vm.findClass RJ14 = some mm.cls := hown
  have hl : lv_has ls 9 [(0, .int (iI (k : Int))), (1, .ref (fa xk)), (2, .ref qa), (3, .int (iI (n : Int))), (4, .ref cp)] := hl
  have hkp : gKeep (fun t => t = 21) σ σ := gKeep.rf
  refine lv_iload_n hx hb dJ14_siftDownUsingComparator_0 rfl (lv_at hl 3 rfl) ?_
  refine g_iconst hx hb dJ14_siftDownUsingComparator_1 ?_
  refine lv_iushr hx hb dJ14_siftDownUsingComparator_2 (iI_sr1 (by omega)) ?_
  refine lv_istore (lv' := [(5, .int (iI ((n : Int) / 2))), (0, .int (iI (k : Int))), (1, .ref (fa xk)), (2, .ref qa), (3, .int (iI (n : Int))), (4, .ref cp)]) hx hb dJ14_siftDownUsingComparator_3 hl (by decide) rfl (fun ls hl => ?_)
  have loop_5 : ∀ (nF : Nat) (σL : gS) (k9 : Nat) (f9 : Nat → Int) (g9 : Int → Option Nat), (n - k9 : Nat) < nF → (gKeep (fun t => t = 21) σ σL) → (FW σL S fa) → (σL qa = some (21, gV (X.2.1 9) 32 g9)) → (σL cp = some (23, gO 8 [])) → (k9 < n) → (f9 k9 = xk) → (hInj n f9) → (∀ v, inQ n f9 v ↔ inQ n f v) → (∀ i : Nat, i < n → i ≠ k9 → g9 (i : Int) = some (fa (f9 i))) → (hDn S n f9 k9) → ∀ (H : Heap) (locs : List Loc) (ls : Array Slot), gSat X σL H → va_S (gA X) ss.heap H locs → lv_has ls 9 [(5, .int (iI ((n : Int) / 2))), (0, .int (iI (k9 : Int))), (1, .ref (fa xk)), (2, .ref qa), (3, .int (iI (n : Int))), (4, .ref cp)] → W pp l ee (gR 3 0 0 65) ss mm args below meth cd H locs 0 0 Q (F0 mm 5 ls []) := by
    intro nF
    induction nF with
    | zero => intro σL k9 f9 g9 hm; exact absurd hm (Nat.not_lt_zero _)
    | succ nF ih_5 =>
      intro σL k9 f9 g9 hm hkL hFL hQL hKL hk9 hx9 hI9 hin9 hg9 hu9 H locs ls hG hS hl
      have hr9 : ∀ v, inQ n f9 v → 0 ≤ v ∧ v ≤ 31 := fun v h => hr0 v ((hin9 v).mp h)
      have hxr := hr9 (f9 k9) ⟨k9, hk9, rfl⟩
      rw [hx9] at hxr
      refine lv_iload_n hx hb dJ14_siftDownUsingComparator_5 rfl (lv_at hl 1 rfl) ?_
      refine lv_iload hx hb dJ14_siftDownUsingComparator_6 (lv_at hl 0 rfl) ?_
      refine g_icmp_ge (tgt := 88) hx hb dJ14_siftDownUsingComparator_8 (by decide) (by omega) (by omega) (fun cq1 => ?_) (fun cq1 => ?_)
      · refine lv_aload_n hx hb dJ14_siftDownUsingComparator_88 rfl (lv_at hl 3 rfl) ?_
        refine lv_iload_n hx hb dJ14_siftDownUsingComparator_89 rfl (lv_at hl 1 rfl) ?_
        refine lv_aload_n hx hb dJ14_siftDownUsingComparator_90 rfl (lv_at hl 2 rfl) ?_
        refine g_aastO hx hb hK hG hS hQL rfl (hFL xk (by omega) (by omega)) rfl (Or.inl q2364) dJ14_siftDownUsingComparator_91 (by omega) (fun H locs hG hS => ?_)
        have hF_2 : FW (gup σL qa (21, gV (X.2.1 9) 32 (iup g9 (k9 : Int) (some (fa xk))))) S fa := hFL.keep (gKeep.up hQL rfl : gKeep (fun t => t = 21) σL (gup σL qa (21, gV (X.2.1 9) 32 (iup g9 (k9 : Int) (some (fa xk)))))) (by first | decide | omega | (intro q9; dsimp only at q9; omega))
        have hK_2 : (gup σL qa (21, gV (X.2.1 9) 32 (iup g9 (k9 : Int) (some (fa xk))))) cp = some (23, gO 8 []) := (gKeep.up hQL rfl : gKeep (fun t => t = 21) σL (gup σL qa (21, gV (X.2.1 9) 32 (iup g9 (k9 : Int) (some (fa xk)))))) _ _ _ hKL (by first | decide | omega | (intro q9; dsimp only at q9; omega))
        have hQ_2 : (gup σL qa (21, gV (X.2.1 9) 32 (iup g9 (k9 : Int) (some (fa xk))))) qa = some (21, gV (X.2.1 9) 32 (iup g9 (k9 : Int) (some (fa xk)))) := gup_s
        have hkp2 : gKeep (fun t => t = 21) σ (gup σL qa (21, gV (X.2.1 9) 32 (iup g9 (k9 : Int) (some (fa xk))))) := hkL.tr ((gKeep.up hQL rfl : gKeep (fun t => t = 21) σL (gup σL qa (21, gV (X.2.1 9) 32 (iup g9 (k9 : Int) (some (fa xk)))))).mono (fun t (h : t = 21) => (by show t = 21; omega)))
        generalize (gup σL qa (21, gV (X.2.1 9) 32 (iup g9 (k9 : Int) (some (fa xk))))) = σ2 at hG hF_2 hK_2 hQ_2 hkp2
        exact g_vret hx hb hr hlocks hQ hG hS (Nat.zero_le _) (Nat.zero_le _) ⟨rfl, hkp2, (⟨f9, (iup g9 (k9 : Int) (some (fa xk))), hQ_2, fun i hi => by
                  by_cases e : i = k9
                  · rw [e, iup_s, hx9]
                  · rw [iup_n (by omega)]; exact hg9 i hi e, hu9.done (fun i i0 hi hp => by unfold hpp at hp; omega), hI9, hin9⟩)⟩ dJ14_siftDownUsingComparator_92
      · refine lv_iload_n hx hb dJ14_siftDownUsingComparator_11 rfl (lv_at hl 1 rfl) ?_
        refine g_iconst hx hb dJ14_siftDownUsingComparator_12 ?_
        refine lv_ishl hx hb dJ14_siftDownUsingComparator_13 ?_
        rw [iI_sl1]
        refine g_iconst hx hb dJ14_siftDownUsingComparator_14 ?_
        refine g_iadd hx hb dJ14_siftDownUsingComparator_15 ?_
        refine g_rw (b := ((2 * k9 + 1 : Nat) : Int)) (by omega) ?_
        have hr1 := hr9 (f9 (2 * k9 + 1)) ⟨(2 * k9 + 1), by omega, rfl⟩
        refine lv_istore (lv' := [(6, .int (iI ((2 * k9 + 1 : Nat) : Int))), (5, .int (iI ((n : Int) / 2))), (0, .int (iI (k9 : Int))), (1, .ref (fa xk)), (2, .ref qa), (3, .int (iI (n : Int))), (4, .ref cp)]) hx hb dJ14_siftDownUsingComparator_16 hl (by decide) rfl (fun ls hl => ?_)
        refine lv_aload_n hx hb dJ14_siftDownUsingComparator_18 rfl (lv_at hl 4 rfl) ?_
        refine lv_iload hx hb dJ14_siftDownUsingComparator_19 (lv_at hl 0 rfl) ?_
        refine g_aald (v := .ref (fa (f9 (2 * k9 + 1)))) hx hb 9 hK hG hQL rfl dJ14_siftDownUsingComparator_21 (by omega) (by rw [hg9 (2 * k9 + 1) (by omega) (by omega)]; rfl) ?_
        refine lv_astore (lv' := [(7, .ref (fa (f9 (2 * k9 + 1)))), (6, .int (iI ((2 * k9 + 1 : Nat) : Int))), (5, .int (iI ((n : Int) / 2))), (0, .int (iI (k9 : Int))), (1, .ref (fa xk)), (2, .ref qa), (3, .int (iI (n : Int))), (4, .ref cp)]) hx hb dJ14_siftDownUsingComparator_22 hl (by decide) rfl (fun ls hl => ?_)
        refine lv_iload hx hb dJ14_siftDownUsingComparator_24 (lv_at hl 1 rfl) ?_
        refine g_iconst hx hb dJ14_siftDownUsingComparator_26 ?_
        refine g_iadd hx hb dJ14_siftDownUsingComparator_27 ?_
        refine g_rw (b := ((2 * k9 + 2 : Nat) : Int)) (by omega) ?_
        refine lv_istore (lv' := [(8, .int (iI ((2 * k9 + 2 : Nat) : Int))), (7, .ref (fa (f9 (2 * k9 + 1)))), (6, .int (iI ((2 * k9 + 1 : Nat) : Int))), (5, .int (iI ((n : Int) / 2))), (0, .int (iI (k9 : Int))), (1, .ref (fa xk)), (2, .ref qa), (3, .int (iI (n : Int))), (4, .ref cp)]) hx hb dJ14_siftDownUsingComparator_28 hl (by decide) rfl (fun ls hl => ?_)
        refine lv_iload hx hb dJ14_siftDownUsingComparator_30 (lv_at hl 0 rfl) ?_
        refine lv_iload_n hx hb dJ14_siftDownUsingComparator_32 rfl (lv_at hl 7 rfl) ?_
        refine g_icmp_ge (tgt := 61) hx hb dJ14_siftDownUsingComparator_33 (by decide) (by omega) (by omega) (fun cq3 => ?_) (fun cq3 => ?_)
        · have hsel : ∀ i, 0 < i → i < n → hpp i = k9 → ¬ aH S (f9 i) (f9 (2 * k9 + 1)) := fun i i0 hi hp => by
            have hi2 : i = 2 * k9 + 1 ∨ i = 2 * k9 + 2 := by unfold hpp at hp; omega
            rcases hi2 with rfl | rfl
            · first | exact aH.ir | (unfold aH; omega)
            · first | exact aH.ir | (unfold aH; omega)
          refine lv_aload hx hb dJ14_siftDownUsingComparator_61 (lv_at hl 8 rfl) ?_
          refine lv_aload_n hx hb dJ14_siftDownUsingComparator_63 rfl (lv_at hl 5 rfl) ?_
          refine lv_aload hx hb dJ14_siftDownUsingComparator_64 (lv_at hl 1 rfl) ?_
          refine g_callF (As := [.ref (fa xk), .ref (fa (f9 (2 * k9 + 1)))]) (rest := []) 2 hx hb hml hown hts hK hG hS hl.1 (mX8_compare l X σL (fa xk) (fa (f9 (2 * k9 + 1))) _ _ cp _ xk (f9 (2 * k9 + 1)) (S xk) (S (f9 (2 * k9 + 1))) (hFL xk (by omega) (by omega)) (hFL (f9 (2 * k9 + 1)) (by omega) (by omega)) hKL (by first | assumption | exact hS9 _ | omega) (by first | assumption | exact hS9 _ | omega) (by first | assumption | exact hS9 _ | omega) (by first | assumption | exact hS9 _ | omega)) hKL rfl q820 q824 q826 q93 q828 q822 q821 q827 q825 q823 (by decide +kernel) rfl ⟨Nat.le_of_ble_eq_true rfl, Nat.le_of_ble_eq_true rfl⟩ ⟨Nat.le_of_ble_eq_true rfl, Nat.le_of_ble_eq_true rfl⟩ (Nat.le_of_ble_eq_true rfl) dJ14_siftDownUsingComparator_66 (kI (fun r4 σr4 H locs hp hG hS => ?_))
          obtain ⟨hr4, rfl⟩ := hp
          refine g_if_gt (tgt := 77) hx hb dJ14_siftDownUsingComparator_71 (by decide) (by omega) (fun cq5 => ?_) (fun cq5 => ?_)
          · refine lv_aload_n hx hb dJ14_siftDownUsingComparator_77 rfl (lv_at hl 6 rfl) ?_
            refine lv_iload_n hx hb dJ14_siftDownUsingComparator_78 rfl (lv_at hl 4 rfl) ?_
            refine lv_aload hx hb dJ14_siftDownUsingComparator_79 (lv_at hl 1 rfl) ?_
            refine g_aastO hx hb hK hG hS hQL rfl (hFL (f9 (2 * k9 + 1)) (by omega) (by omega)) rfl (Or.inl q2364) dJ14_siftDownUsingComparator_81 (by omega) (fun H locs hG hS => ?_)
            have hF_6 : FW (gup σL qa (21, gV (X.2.1 9) 32 (iup g9 (k9 : Int) (some (fa (f9 (2 * k9 + 1))))))) S fa := hFL.keep (gKeep.up hQL rfl : gKeep (fun t => t = 21) σL (gup σL qa (21, gV (X.2.1 9) 32 (iup g9 (k9 : Int) (some (fa (f9 (2 * k9 + 1)))))))) (by first | decide | omega | (intro q9; dsimp only at q9; omega))
            have hK_6 : (gup σL qa (21, gV (X.2.1 9) 32 (iup g9 (k9 : Int) (some (fa (f9 (2 * k9 + 1))))))) cp = some (23, gO 8 []) := (gKeep.up hQL rfl : gKeep (fun t => t = 21) σL (gup σL qa (21, gV (X.2.1 9) 32 (iup g9 (k9 : Int) (some (fa (f9 (2 * k9 + 1)))))))) _ _ _ hKL (by first | decide | omega | (intro q9; dsimp only at q9; omega))
            have hQ_6 : (gup σL qa (21, gV (X.2.1 9) 32 (iup g9 (k9 : Int) (some (fa (f9 (2 * k9 + 1))))))) qa = some (21, gV (X.2.1 9) 32 (iup g9 (k9 : Int) (some (fa (f9 (2 * k9 + 1)))))) := gup_s
            have hkp6 : gKeep (fun t => t = 21) σ (gup σL qa (21, gV (X.2.1 9) 32 (iup g9 (k9 : Int) (some (fa (f9 (2 * k9 + 1))))))) := hkL.tr ((gKeep.up hQL rfl : gKeep (fun t => t = 21) σL (gup σL qa (21, gV (X.2.1 9) 32 (iup g9 (k9 : Int) (some (fa (f9 (2 * k9 + 1)))))))).mono (fun t (h : t = 21) => (by show t = 21; omega)))
            generalize (gup σL qa (21, gV (X.2.1 9) 32 (iup g9 (k9 : Int) (some (fa (f9 (2 * k9 + 1))))))) = σ6 at hG hF_6 hK_6 hQ_6 hkp6
            refine lv_iload hx hb dJ14_siftDownUsingComparator_82 (lv_at hl 2 rfl) ?_
            refine lv_istore_n (lv' := [(0, .int (iI ((2 * k9 + 1 : Nat) : Int))), (8, .int (iI ((2 * k9 + 2 : Nat) : Int))), (7, .ref (fa (f9 (2 * k9 + 1)))), (6, .int (iI ((2 * k9 + 1 : Nat) : Int))), (5, .int (iI ((n : Int) / 2))), (1, .ref (fa xk)), (2, .ref qa), (3, .int (iI (n : Int))), (4, .ref cp)]) hx hb dJ14_siftDownUsingComparator_84 rfl hl (by decide) rfl (fun ls hl => ?_)
            refine lv_goto (tgt := 5) hx hb dJ14_siftDownUsingComparator_85 (by decide) ?_
            exact ih_5 σ6 (2 * k9 + 1) (swp f9 k9 (2 * k9 + 1)) (iup g9 (k9 : Int) (some (fa (f9 (2 * k9 + 1))))) (by omega) (hkp6) (hF_6) (hQ_6) (hK_6) (by omega) (by rw [swp_b]; exact hx9) (swp_inj hI9 hk9 (by omega)) (fun v => (swp_in hk9 (by omega) v).trans (hin9 v)) (fun i hi ne => by
                      by_cases e : i = k9
                      · rw [e, iup_s, swp_a]
                      · rw [iup_n (by omega), swp_n e ne]; exact hg9 i hi e) (hu9.step (by omega) (by omega) (by unfold hpp; omega) hsel (by rw [hx9]; unfold aH; omega))  _ _ _ hG hS (lv_sub hl [4, 0, 5, 6, 7, 8] rfl)
          · refine lv_goto (tgt := 88) hx hb dJ14_siftDownUsingComparator_74 (by decide) ?_
            refine lv_aload_n hx hb dJ14_siftDownUsingComparator_88 rfl (lv_at hl 6 rfl) ?_
            refine lv_iload_n hx hb dJ14_siftDownUsingComparator_89 rfl (lv_at hl 4 rfl) ?_
            refine lv_aload_n hx hb dJ14_siftDownUsingComparator_90 rfl (lv_at hl 5 rfl) ?_
            refine g_aastO hx hb hK hG hS hQL rfl (hFL xk (by omega) (by omega)) rfl (Or.inl q2364) dJ14_siftDownUsingComparator_91 (by omega) (fun H locs hG hS => ?_)
            have hF_7 : FW (gup σL qa (21, gV (X.2.1 9) 32 (iup g9 (k9 : Int) (some (fa xk))))) S fa := hFL.keep (gKeep.up hQL rfl : gKeep (fun t => t = 21) σL (gup σL qa (21, gV (X.2.1 9) 32 (iup g9 (k9 : Int) (some (fa xk)))))) (by first | decide | omega | (intro q9; dsimp only at q9; omega))
            have hK_7 : (gup σL qa (21, gV (X.2.1 9) 32 (iup g9 (k9 : Int) (some (fa xk))))) cp = some (23, gO 8 []) := (gKeep.up hQL rfl : gKeep (fun t => t = 21) σL (gup σL qa (21, gV (X.2.1 9) 32 (iup g9 (k9 : Int) (some (fa xk)))))) _ _ _ hKL (by first | decide | omega | (intro q9; dsimp only at q9; omega))
            have hQ_7 : (gup σL qa (21, gV (X.2.1 9) 32 (iup g9 (k9 : Int) (some (fa xk))))) qa = some (21, gV (X.2.1 9) 32 (iup g9 (k9 : Int) (some (fa xk)))) := gup_s
            have hkp7 : gKeep (fun t => t = 21) σ (gup σL qa (21, gV (X.2.1 9) 32 (iup g9 (k9 : Int) (some (fa xk))))) := hkL.tr ((gKeep.up hQL rfl : gKeep (fun t => t = 21) σL (gup σL qa (21, gV (X.2.1 9) 32 (iup g9 (k9 : Int) (some (fa xk)))))).mono (fun t (h : t = 21) => (by show t = 21; omega)))
            generalize (gup σL qa (21, gV (X.2.1 9) 32 (iup g9 (k9 : Int) (some (fa xk))))) = σ7 at hG hF_7 hK_7 hQ_7 hkp7
            exact g_vret hx hb hr hlocks hQ hG hS (Nat.zero_le _) (Nat.zero_le _) ⟨rfl, hkp7, (⟨f9, (iup g9 (k9 : Int) (some (fa xk))), hQ_7, fun i hi => by
                      by_cases e : i = k9
                      · rw [e, iup_s, hx9]
                      · rw [iup_n (by omega)]; exact hg9 i hi e, hu9.done (fun i i0 hi hp => aH.nt (hsel i i0 hi hp) (by rw [hx9]; unfold aH; omega)), hI9, hin9⟩)⟩ dJ14_siftDownUsingComparator_92
        · refine lv_aload hx hb dJ14_siftDownUsingComparator_36 (lv_at hl 8 rfl) ?_
          refine lv_aload hx hb dJ14_siftDownUsingComparator_38 (lv_at hl 1 rfl) ?_
          refine lv_aload_n hx hb dJ14_siftDownUsingComparator_40 rfl (lv_at hl 6 rfl) ?_
          refine lv_iload hx hb dJ14_siftDownUsingComparator_41 (lv_at hl 0 rfl) ?_
          have hr2 := hr9 (f9 (2 * k9 + 2)) ⟨(2 * k9 + 2), by omega, rfl⟩
          refine g_aald (v := .ref (fa (f9 (2 * k9 + 2)))) hx hb 9 hK hG hQL rfl dJ14_siftDownUsingComparator_43 (by omega) (by rw [hg9 (2 * k9 + 2) (by omega) (by omega)]; rfl) ?_
          refine g_callF (As := [.ref (fa (f9 (2 * k9 + 1))), .ref (fa (f9 (2 * k9 + 2)))]) (rest := []) 2 hx hb hml hown hts hK hG hS hl.1 (mX8_compare l X σL (fa (f9 (2 * k9 + 1))) (fa (f9 (2 * k9 + 2))) _ _ cp _ (f9 (2 * k9 + 1)) (f9 (2 * k9 + 2)) (S (f9 (2 * k9 + 1))) (S (f9 (2 * k9 + 2))) (hFL (f9 (2 * k9 + 1)) (by omega) (by omega)) (hFL (f9 (2 * k9 + 2)) (by omega) (by omega)) hKL (by first | assumption | exact hS9 _ | omega) (by first | assumption | exact hS9 _ | omega) (by first | assumption | exact hS9 _ | omega) (by first | assumption | exact hS9 _ | omega)) hKL rfl q820 q824 q826 q93 q828 q822 q821 q827 q825 q823 (by decide +kernel) rfl ⟨Nat.le_of_ble_eq_true rfl, Nat.le_of_ble_eq_true rfl⟩ ⟨Nat.le_of_ble_eq_true rfl, Nat.le_of_ble_eq_true rfl⟩ (Nat.le_of_ble_eq_true rfl) dJ14_siftDownUsingComparator_44 (kI (fun r8 σr8 H locs hp hG hS => ?_))
          obtain ⟨hr8, rfl⟩ := hp
          refine g_if_le (tgt := 61) hx hb dJ14_siftDownUsingComparator_49 (by decide) (by omega) (fun cq9 => ?_) (fun cq9 => ?_)
          · have hsel : ∀ i, 0 < i → i < n → hpp i = k9 → ¬ aH S (f9 i) (f9 (2 * k9 + 1)) := fun i i0 hi hp => by
              have hi2 : i = 2 * k9 + 1 ∨ i = 2 * k9 + 2 := by unfold hpp at hp; omega
              rcases hi2 with rfl | rfl
              · first | exact aH.ir | (unfold aH; omega)
              · first | exact aH.ir | (unfold aH; omega)
            refine lv_aload hx hb dJ14_siftDownUsingComparator_61 (lv_at hl 8 rfl) ?_
            refine lv_aload_n hx hb dJ14_siftDownUsingComparator_63 rfl (lv_at hl 5 rfl) ?_
            refine lv_aload hx hb dJ14_siftDownUsingComparator_64 (lv_at hl 1 rfl) ?_
            refine g_callF (As := [.ref (fa xk), .ref (fa (f9 (2 * k9 + 1)))]) (rest := []) 2 hx hb hml hown hts hK hG hS hl.1 (mX8_compare l X σL (fa xk) (fa (f9 (2 * k9 + 1))) _ _ cp _ xk (f9 (2 * k9 + 1)) (S xk) (S (f9 (2 * k9 + 1))) (hFL xk (by omega) (by omega)) (hFL (f9 (2 * k9 + 1)) (by omega) (by omega)) hKL (by first | assumption | exact hS9 _ | omega) (by first | assumption | exact hS9 _ | omega) (by first | assumption | exact hS9 _ | omega) (by first | assumption | exact hS9 _ | omega)) hKL rfl q820 q824 q826 q93 q828 q822 q821 q827 q825 q823 (by decide +kernel) rfl ⟨Nat.le_of_ble_eq_true rfl, Nat.le_of_ble_eq_true rfl⟩ ⟨Nat.le_of_ble_eq_true rfl, Nat.le_of_ble_eq_true rfl⟩ (Nat.le_of_ble_eq_true rfl) dJ14_siftDownUsingComparator_66 (kI (fun r10 σr10 H locs hp hG hS => ?_))
            obtain ⟨hr10, rfl⟩ := hp
            refine g_if_gt (tgt := 77) hx hb dJ14_siftDownUsingComparator_71 (by decide) (by omega) (fun cq11 => ?_) (fun cq11 => ?_)
            · refine lv_aload_n hx hb dJ14_siftDownUsingComparator_77 rfl (lv_at hl 6 rfl) ?_
              refine lv_iload_n hx hb dJ14_siftDownUsingComparator_78 rfl (lv_at hl 4 rfl) ?_
              refine lv_aload hx hb dJ14_siftDownUsingComparator_79 (lv_at hl 1 rfl) ?_
              refine g_aastO hx hb hK hG hS hQL rfl (hFL (f9 (2 * k9 + 1)) (by omega) (by omega)) rfl (Or.inl q2364) dJ14_siftDownUsingComparator_81 (by omega) (fun H locs hG hS => ?_)
              have hF_12 : FW (gup σL qa (21, gV (X.2.1 9) 32 (iup g9 (k9 : Int) (some (fa (f9 (2 * k9 + 1))))))) S fa := hFL.keep (gKeep.up hQL rfl : gKeep (fun t => t = 21) σL (gup σL qa (21, gV (X.2.1 9) 32 (iup g9 (k9 : Int) (some (fa (f9 (2 * k9 + 1)))))))) (by first | decide | omega | (intro q9; dsimp only at q9; omega))
              have hK_12 : (gup σL qa (21, gV (X.2.1 9) 32 (iup g9 (k9 : Int) (some (fa (f9 (2 * k9 + 1))))))) cp = some (23, gO 8 []) := (gKeep.up hQL rfl : gKeep (fun t => t = 21) σL (gup σL qa (21, gV (X.2.1 9) 32 (iup g9 (k9 : Int) (some (fa (f9 (2 * k9 + 1)))))))) _ _ _ hKL (by first | decide | omega | (intro q9; dsimp only at q9; omega))
              have hQ_12 : (gup σL qa (21, gV (X.2.1 9) 32 (iup g9 (k9 : Int) (some (fa (f9 (2 * k9 + 1))))))) qa = some (21, gV (X.2.1 9) 32 (iup g9 (k9 : Int) (some (fa (f9 (2 * k9 + 1)))))) := gup_s
              have hkp12 : gKeep (fun t => t = 21) σ (gup σL qa (21, gV (X.2.1 9) 32 (iup g9 (k9 : Int) (some (fa (f9 (2 * k9 + 1))))))) := hkL.tr ((gKeep.up hQL rfl : gKeep (fun t => t = 21) σL (gup σL qa (21, gV (X.2.1 9) 32 (iup g9 (k9 : Int) (some (fa (f9 (2 * k9 + 1)))))))).mono (fun t (h : t = 21) => (by show t = 21; omega)))
              generalize (gup σL qa (21, gV (X.2.1 9) 32 (iup g9 (k9 : Int) (some (fa (f9 (2 * k9 + 1))))))) = σ12 at hG hF_12 hK_12 hQ_12 hkp12
              refine lv_iload hx hb dJ14_siftDownUsingComparator_82 (lv_at hl 2 rfl) ?_
              refine lv_istore_n (lv' := [(0, .int (iI ((2 * k9 + 1 : Nat) : Int))), (8, .int (iI ((2 * k9 + 2 : Nat) : Int))), (7, .ref (fa (f9 (2 * k9 + 1)))), (6, .int (iI ((2 * k9 + 1 : Nat) : Int))), (5, .int (iI ((n : Int) / 2))), (1, .ref (fa xk)), (2, .ref qa), (3, .int (iI (n : Int))), (4, .ref cp)]) hx hb dJ14_siftDownUsingComparator_84 rfl hl (by decide) rfl (fun ls hl => ?_)
              refine lv_goto (tgt := 5) hx hb dJ14_siftDownUsingComparator_85 (by decide) ?_
              exact ih_5 σ12 (2 * k9 + 1) (swp f9 k9 (2 * k9 + 1)) (iup g9 (k9 : Int) (some (fa (f9 (2 * k9 + 1))))) (by omega) (hkp12) (hF_12) (hQ_12) (hK_12) (by omega) (by rw [swp_b]; exact hx9) (swp_inj hI9 hk9 (by omega)) (fun v => (swp_in hk9 (by omega) v).trans (hin9 v)) (fun i hi ne => by
                        by_cases e : i = k9
                        · rw [e, iup_s, swp_a]
                        · rw [iup_n (by omega), swp_n e ne]; exact hg9 i hi e) (hu9.step (by omega) (by omega) (by unfold hpp; omega) hsel (by rw [hx9]; unfold aH; omega))  _ _ _ hG hS (lv_sub hl [4, 0, 5, 6, 7, 8] rfl)
            · refine lv_goto (tgt := 88) hx hb dJ14_siftDownUsingComparator_74 (by decide) ?_
              refine lv_aload_n hx hb dJ14_siftDownUsingComparator_88 rfl (lv_at hl 6 rfl) ?_
              refine lv_iload_n hx hb dJ14_siftDownUsingComparator_89 rfl (lv_at hl 4 rfl) ?_
              refine lv_aload_n hx hb dJ14_siftDownUsingComparator_90 rfl (lv_at hl 5 rfl) ?_
              refine g_aastO hx hb hK hG hS hQL rfl (hFL xk (by omega) (by omega)) rfl (Or.inl q2364) dJ14_siftDownUsingComparator_91 (by omega) (fun H locs hG hS => ?_)
              have hF_13 : FW (gup σL qa (21, gV (X.2.1 9) 32 (iup g9 (k9 : Int) (some (fa xk))))) S fa := hFL.keep (gKeep.up hQL rfl : gKeep (fun t => t = 21) σL (gup σL qa (21, gV (X.2.1 9) 32 (iup g9 (k9 : Int) (some (fa xk)))))) (by first | decide | omega | (intro q9; dsimp only at q9; omega))
              have hK_13 : (gup σL qa (21, gV (X.2.1 9) 32 (iup g9 (k9 : Int) (some (fa xk))))) cp = some (23, gO 8 []) := (gKeep.up hQL rfl : gKeep (fun t => t = 21) σL (gup σL qa (21, gV (X.2.1 9) 32 (iup g9 (k9 : Int) (some (fa xk)))))) _ _ _ hKL (by first | decide | omega | (intro q9; dsimp only at q9; omega))
              have hQ_13 : (gup σL qa (21, gV (X.2.1 9) 32 (iup g9 (k9 : Int) (some (fa xk))))) qa = some (21, gV (X.2.1 9) 32 (iup g9 (k9 : Int) (some (fa xk)))) := gup_s
              have hkp13 : gKeep (fun t => t = 21) σ (gup σL qa (21, gV (X.2.1 9) 32 (iup g9 (k9 : Int) (some (fa xk))))) := hkL.tr ((gKeep.up hQL rfl : gKeep (fun t => t = 21) σL (gup σL qa (21, gV (X.2.1 9) 32 (iup g9 (k9 : Int) (some (fa xk)))))).mono (fun t (h : t = 21) => (by show t = 21; omega)))
              generalize (gup σL qa (21, gV (X.2.1 9) 32 (iup g9 (k9 : Int) (some (fa xk))))) = σ13 at hG hF_13 hK_13 hQ_13 hkp13
              exact g_vret hx hb hr hlocks hQ hG hS (Nat.zero_le _) (Nat.zero_le _) ⟨rfl, hkp13, (⟨f9, (iup g9 (k9 : Int) (some (fa xk))), hQ_13, fun i hi => by
                        by_cases e : i = k9
                        · rw [e, iup_s, hx9]
                        · rw [iup_n (by omega)]; exact hg9 i hi e, hu9.done (fun i i0 hi hp => aH.nt (hsel i i0 hi hp) (by rw [hx9]; unfold aH; omega)), hI9, hin9⟩)⟩ dJ14_siftDownUsingComparator_92
          · refine lv_aload_n hx hb dJ14_siftDownUsingComparator_52 rfl (lv_at hl 6 rfl) ?_
            refine lv_iload hx hb dJ14_siftDownUsingComparator_53 (lv_at hl 0 rfl) ?_
            refine lv_dup hx hb dJ14_siftDownUsingComparator_55 rfl ?_
            refine lv_istore (lv' := [(6, .int (iI ((2 * k9 + 2 : Nat) : Int))), (8, .int (iI ((2 * k9 + 2 : Nat) : Int))), (7, .ref (fa (f9 (2 * k9 + 1)))), (5, .int (iI ((n : Int) / 2))), (0, .int (iI (k9 : Int))), (1, .ref (fa xk)), (2, .ref qa), (3, .int (iI (n : Int))), (4, .ref cp)]) hx hb dJ14_siftDownUsingComparator_56 hl (by decide) rfl (fun ls hl => ?_)
            refine g_aald (v := .ref (fa (f9 (2 * k9 + 2)))) hx hb 9 hK hG hQL rfl dJ14_siftDownUsingComparator_58 (by omega) (by rw [hg9 (2 * k9 + 2) (by omega) (by omega)]; rfl) ?_
            refine lv_astore (lv' := [(7, .ref (fa (f9 (2 * k9 + 2)))), (6, .int (iI ((2 * k9 + 2 : Nat) : Int))), (8, .int (iI ((2 * k9 + 2 : Nat) : Int))), (5, .int (iI ((n : Int) / 2))), (0, .int (iI (k9 : Int))), (1, .ref (fa xk)), (2, .ref qa), (3, .int (iI (n : Int))), (4, .ref cp)]) hx hb dJ14_siftDownUsingComparator_59 hl (by decide) rfl (fun ls hl => ?_)
            have hsel : ∀ i, 0 < i → i < n → hpp i = k9 → ¬ aH S (f9 i) (f9 (2 * k9 + 2)) := fun i i0 hi hp => by
              have hi2 : i = 2 * k9 + 1 ∨ i = 2 * k9 + 2 := by unfold hpp at hp; omega
              rcases hi2 with rfl | rfl
              · first | exact aH.ir | (unfold aH; omega)
              · first | exact aH.ir | (unfold aH; omega)
            refine lv_aload hx hb dJ14_siftDownUsingComparator_61 (lv_at hl 8 rfl) ?_
            refine lv_aload_n hx hb dJ14_siftDownUsingComparator_63 rfl (lv_at hl 5 rfl) ?_
            refine lv_aload hx hb dJ14_siftDownUsingComparator_64 (lv_at hl 0 rfl) ?_
            refine g_callF (As := [.ref (fa xk), .ref (fa (f9 (2 * k9 + 2)))]) (rest := []) 2 hx hb hml hown hts hK hG hS hl.1 (mX8_compare l X σL (fa xk) (fa (f9 (2 * k9 + 2))) _ _ cp _ xk (f9 (2 * k9 + 2)) (S xk) (S (f9 (2 * k9 + 2))) (hFL xk (by omega) (by omega)) (hFL (f9 (2 * k9 + 2)) (by omega) (by omega)) hKL (by first | assumption | exact hS9 _ | omega) (by first | assumption | exact hS9 _ | omega) (by first | assumption | exact hS9 _ | omega) (by first | assumption | exact hS9 _ | omega)) hKL rfl q820 q824 q826 q93 q828 q822 q821 q827 q825 q823 (by decide +kernel) rfl ⟨Nat.le_of_ble_eq_true rfl, Nat.le_of_ble_eq_true rfl⟩ ⟨Nat.le_of_ble_eq_true rfl, Nat.le_of_ble_eq_true rfl⟩ (Nat.le_of_ble_eq_true rfl) dJ14_siftDownUsingComparator_66 (kI (fun r14 σr14 H locs hp hG hS => ?_))
            obtain ⟨hr14, rfl⟩ := hp
            refine g_if_gt (tgt := 77) hx hb dJ14_siftDownUsingComparator_71 (by decide) (by omega) (fun cq15 => ?_) (fun cq15 => ?_)
            · refine lv_aload_n hx hb dJ14_siftDownUsingComparator_77 rfl (lv_at hl 6 rfl) ?_
              refine lv_iload_n hx hb dJ14_siftDownUsingComparator_78 rfl (lv_at hl 4 rfl) ?_
              refine lv_aload hx hb dJ14_siftDownUsingComparator_79 (lv_at hl 0 rfl) ?_
              refine g_aastO hx hb hK hG hS hQL rfl (hFL (f9 (2 * k9 + 2)) (by omega) (by omega)) rfl (Or.inl q2364) dJ14_siftDownUsingComparator_81 (by omega) (fun H locs hG hS => ?_)
              have hF_16 : FW (gup σL qa (21, gV (X.2.1 9) 32 (iup g9 (k9 : Int) (some (fa (f9 (2 * k9 + 2))))))) S fa := hFL.keep (gKeep.up hQL rfl : gKeep (fun t => t = 21) σL (gup σL qa (21, gV (X.2.1 9) 32 (iup g9 (k9 : Int) (some (fa (f9 (2 * k9 + 2)))))))) (by first | decide | omega | (intro q9; dsimp only at q9; omega))
              have hK_16 : (gup σL qa (21, gV (X.2.1 9) 32 (iup g9 (k9 : Int) (some (fa (f9 (2 * k9 + 2))))))) cp = some (23, gO 8 []) := (gKeep.up hQL rfl : gKeep (fun t => t = 21) σL (gup σL qa (21, gV (X.2.1 9) 32 (iup g9 (k9 : Int) (some (fa (f9 (2 * k9 + 2)))))))) _ _ _ hKL (by first | decide | omega | (intro q9; dsimp only at q9; omega))
              have hQ_16 : (gup σL qa (21, gV (X.2.1 9) 32 (iup g9 (k9 : Int) (some (fa (f9 (2 * k9 + 2))))))) qa = some (21, gV (X.2.1 9) 32 (iup g9 (k9 : Int) (some (fa (f9 (2 * k9 + 2)))))) := gup_s
              have hkp16 : gKeep (fun t => t = 21) σ (gup σL qa (21, gV (X.2.1 9) 32 (iup g9 (k9 : Int) (some (fa (f9 (2 * k9 + 2))))))) := hkL.tr ((gKeep.up hQL rfl : gKeep (fun t => t = 21) σL (gup σL qa (21, gV (X.2.1 9) 32 (iup g9 (k9 : Int) (some (fa (f9 (2 * k9 + 2)))))))).mono (fun t (h : t = 21) => (by show t = 21; omega)))
              generalize (gup σL qa (21, gV (X.2.1 9) 32 (iup g9 (k9 : Int) (some (fa (f9 (2 * k9 + 2))))))) = σ16 at hG hF_16 hK_16 hQ_16 hkp16
              refine lv_iload hx hb dJ14_siftDownUsingComparator_82 (lv_at hl 1 rfl) ?_
              refine lv_istore_n (lv' := [(0, .int (iI ((2 * k9 + 2 : Nat) : Int))), (7, .ref (fa (f9 (2 * k9 + 2)))), (6, .int (iI ((2 * k9 + 2 : Nat) : Int))), (8, .int (iI ((2 * k9 + 2 : Nat) : Int))), (5, .int (iI ((n : Int) / 2))), (1, .ref (fa xk)), (2, .ref qa), (3, .int (iI (n : Int))), (4, .ref cp)]) hx hb dJ14_siftDownUsingComparator_84 rfl hl (by decide) rfl (fun ls hl => ?_)
              refine lv_goto (tgt := 5) hx hb dJ14_siftDownUsingComparator_85 (by decide) ?_
              exact ih_5 σ16 (2 * k9 + 2) (swp f9 k9 (2 * k9 + 2)) (iup g9 (k9 : Int) (some (fa (f9 (2 * k9 + 2))))) (by omega) (hkp16) (hF_16) (hQ_16) (hK_16) (by omega) (by rw [swp_b]; exact hx9) (swp_inj hI9 hk9 (by omega)) (fun v => (swp_in hk9 (by omega) v).trans (hin9 v)) (fun i hi ne => by
                        by_cases e : i = k9
                        · rw [e, iup_s, swp_a]
                        · rw [iup_n (by omega), swp_n e ne]; exact hg9 i hi e) (hu9.step (by omega) (by omega) (by unfold hpp; omega) hsel (by rw [hx9]; unfold aH; omega))  _ _ _ hG hS (lv_sub hl [4, 0, 5, 6, 7, 8] rfl)
            · refine lv_goto (tgt := 88) hx hb dJ14_siftDownUsingComparator_74 (by decide) ?_
              refine lv_aload_n hx hb dJ14_siftDownUsingComparator_88 rfl (lv_at hl 6 rfl) ?_
              refine lv_iload_n hx hb dJ14_siftDownUsingComparator_89 rfl (lv_at hl 4 rfl) ?_
              refine lv_aload_n hx hb dJ14_siftDownUsingComparator_90 rfl (lv_at hl 5 rfl) ?_
              refine g_aastO hx hb hK hG hS hQL rfl (hFL xk (by omega) (by omega)) rfl (Or.inl q2364) dJ14_siftDownUsingComparator_91 (by omega) (fun H locs hG hS => ?_)
              have hF_17 : FW (gup σL qa (21, gV (X.2.1 9) 32 (iup g9 (k9 : Int) (some (fa xk))))) S fa := hFL.keep (gKeep.up hQL rfl : gKeep (fun t => t = 21) σL (gup σL qa (21, gV (X.2.1 9) 32 (iup g9 (k9 : Int) (some (fa xk)))))) (by first | decide | omega | (intro q9; dsimp only at q9; omega))
              have hK_17 : (gup σL qa (21, gV (X.2.1 9) 32 (iup g9 (k9 : Int) (some (fa xk))))) cp = some (23, gO 8 []) := (gKeep.up hQL rfl : gKeep (fun t => t = 21) σL (gup σL qa (21, gV (X.2.1 9) 32 (iup g9 (k9 : Int) (some (fa xk)))))) _ _ _ hKL (by first | decide | omega | (intro q9; dsimp only at q9; omega))
              have hQ_17 : (gup σL qa (21, gV (X.2.1 9) 32 (iup g9 (k9 : Int) (some (fa xk))))) qa = some (21, gV (X.2.1 9) 32 (iup g9 (k9 : Int) (some (fa xk)))) := gup_s
              have hkp17 : gKeep (fun t => t = 21) σ (gup σL qa (21, gV (X.2.1 9) 32 (iup g9 (k9 : Int) (some (fa xk))))) := hkL.tr ((gKeep.up hQL rfl : gKeep (fun t => t = 21) σL (gup σL qa (21, gV (X.2.1 9) 32 (iup g9 (k9 : Int) (some (fa xk)))))).mono (fun t (h : t = 21) => (by show t = 21; omega)))
              generalize (gup σL qa (21, gV (X.2.1 9) 32 (iup g9 (k9 : Int) (some (fa xk))))) = σ17 at hG hF_17 hK_17 hQ_17 hkp17
              exact g_vret hx hb hr hlocks hQ hG hS (Nat.zero_le _) (Nat.zero_le _) ⟨rfl, hkp17, (⟨f9, (iup g9 (k9 : Int) (some (fa xk))), hQ_17, fun i hi => by
                        by_cases e : i = k9
                        · rw [e, iup_s, hx9]
                        · rw [iup_n (by omega)]; exact hg9 i hi e, hu9.done (fun i i0 hi hp => aH.nt (hsel i i0 hi hp) (by rw [hx9]; unfold aH; omega)), hI9, hin9⟩)⟩ dJ14_siftDownUsingComparator_92
  exact loop_5 _ σ k f g (Nat.lt_succ_self _) (hkp) (hF) (hQ9) (hK9) (hkn) (hxk) (hI0) (fun v => Iff.rfl) (hg0) (hu0)  _ _ _ hG hS (lv_sub hl [0, 1, 2, 3, 4, 5] rfl)

