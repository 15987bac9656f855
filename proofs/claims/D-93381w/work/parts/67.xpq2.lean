set_option maxHeartbeats 8000000 in
theorem mJ14_siftUp (l : Launch) (X : gX) (σ : gS) (S : Int → Int) (fa : Int → Nat) (hS9 : ∀ a, 0 ≤ S a ∧ S a ≤ 1024) (hF : FW σ S fa) (qa : Nat) (g : Int → Option Nat) (hQ9 : σ qa = some (21, gV (X.2.1 9) 32 g)) (cp : Nat) (hK9 : σ cp = some (23, gO 8 [])) (pq : Nat) (sz mo : Int) (hP9 : σ pq = some (20, gO 16 [.ref qa, .int (iI sz), .ref cp, .int (iI mo)]))  (n k : Nat) (f : Nat → Int) (xk : Int) (hn9 : n ≤ 32) (hkn : k < n) (hxk : f k = xk) (hI0 : hInj n f) (hr0 : ∀ v, inQ n f v → 0 ≤ v ∧ v ≤ 31) (hg0 : ∀ i : Nat, i < n → i ≠ k → g (i : Int) = some (fa (f i))) (hu0 : hUp S n f k)  : gMet l X yJ14_siftUp cJ14_siftUp 3 none 4 0 0 90 σ [.ref pq, .int (iI (k : Int)), .ref (fa xk)] (oV (fun σ' => gKeep (fun t => t = 21) σ σ' ∧ (∃ (f' : Nat → Int) (g' : Int → Option Nat), σ' qa = some (21, gV (X.2.1 9) 32 g') ∧ (∀ i : Nat, i < n → g' (i : Int) = some (fa (f' i))) ∧ hOk S n f' ∧ hInj n f' ∧ ∀ v, inQ n f' v ↔ inQ n f v))) := by
  refine gMet.of (by decide) (Nat.le_of_ble_eq_true rfl) ?_
  intro pp ee ss mm args below meth cd Q H locs ls hargs hx hb hr hlocks hml hown hnm hts hK hG hS hQ hl
  have hown : ss.vm.findClass RJ14 = some mm.cls := hown
  have hl : lv_has ls 3 [(0, .ref pq), (1, .int (iI (k : Int))), (2, .ref (fa xk))] := hl
  have hkp : gKeep (fun t => t = 21) σ σ := gKeep.rf
  refine lv_aload_n hx hb dJ14_siftUp_0 rfl (lv_at hl 0 rfl) ?_
  refine g_get (C := RJ14) (T := TJ14) (N := 4) (v := .ref cp) hx hb hts hown hK hG hP9 rfl in_J14 2 (by decide) q718 rfl rfl dJ14_siftUp_1 ?_
  refine lv_ifnull hx hb dJ14_siftUp_4 ?_
  refine lv_iload_n hx hb dJ14_siftUp_7 rfl (lv_at hl 1 rfl) ?_
  refine lv_aload_n hx hb dJ14_siftUp_8 rfl (lv_at hl 2 rfl) ?_
  refine lv_aload_n hx hb dJ14_siftUp_9 rfl (lv_at hl 0 rfl) ?_
  refine g_get (C := RJ14) (T := TJ14) (N := 4) (v := .ref qa) hx hb hts hown hK hG hP9 rfl in_J14 0 (by decide) q716 rfl rfl dJ14_siftUp_10 ?_
  refine lv_aload_n hx hb dJ14_siftUp_13 rfl (lv_at hl 0 rfl) ?_
  refine g_get (C := RJ14) (T := TJ14) (N := 4) (v := .ref cp) hx hb hts hown hK hG hP9 rfl in_J14 2 (by decide) q718 rfl rfl dJ14_siftUp_14 ?_
  refine g_callS (As := [.int (iI (k : Int)), .ref (fa xk), .ref qa, .ref cp]) (rest := []) 4 hx hb hml hown hts hK hG hS hl.1 (mJ14_siftUpUsingComparator l X σ S fa hS9 hF qa g hQ9 cp hK9 n k f xk hn9 hkn hxk hI0 hr0 hg0 hu0) q816 q817 q92 q818 (by decide +kernel) rfl ⟨Nat.le_of_ble_eq_true rfl, Nat.le_of_ble_eq_true rfl⟩ ⟨Nat.le_of_ble_eq_true rfl, Nat.le_of_ble_eq_true rfl⟩ (Nat.le_of_ble_eq_true rfl) dJ14_siftUp_17 (kV (fun σr1 H locs hp hG hS => ?_))
  obtain ⟨kq2, f2, g2, hQ_2, hg2, hO2, hI2, hin2⟩ := hp
  have hF_3 : FW σr1 S fa := hF.keep kq2 (by first | decide | omega | (intro q9; dsimp only at q9; omega))
  have hK_3 : σr1 cp = some (23, gO 8 []) := kq2 _ _ _ hK9 (by first | decide | omega | (intro q9; dsimp only at q9; omega))
  have hP_3 : σr1 pq = some (20, gO 16 [.ref qa, .int (iI sz), .ref cp, .int (iI mo)]) := kq2 _ _ _ hP9 (by first | decide | omega | (intro q9; dsimp only at q9; omega))
  have hkp3 : gKeep (fun t => t = 21) σ σr1 := hkp.tr (kq2.mono (fun t (h : t = 21) => (by show t = 21; omega)))
  refine lv_goto (tgt := 32) hx hb dJ14_siftUp_20 (by decide) ?_
  exact g_vret hx hb hr hlocks hQ hG hS (Nat.zero_le _) (Nat.zero_le _) ⟨rfl, hkp3, (⟨f2, g2, hQ_2, hg2, hO2, hI2, hin2⟩)⟩ dJ14_siftUp_32

set_option maxHeartbeats 8000000 in
theorem mJ14_offer (l : Launch) (X : gX) (σ : gS) (S : Int → Int) (fa : Int → Nat) (hS9 : ∀ a, 0 ≤ S a ∧ S a ≤ 1024) (hF : FW σ S fa) (qa : Nat) (g : Int → Option Nat) (hQ9 : σ qa = some (21, gV (X.2.1 9) 32 g)) (cp : Nat) (hK9 : σ cp = some (23, gO 8 [])) (pq : Nat) (sz mo : Int) (hP9 : σ pq = some (20, gO 16 [.ref qa, .int (iI sz), .ref cp, .int (iI mo)]))  (n : Nat) (f : Nat → Int) (x9 : Int) (hn9 : n < 32) (hsz : sz = (n : Int)) (hmo : 0 ≤ mo ∧ mo ≤ 1000) (hx9 : 0 ≤ x9 ∧ x9 ≤ 31) (hI0 : hInj n f) (hnx : ¬ inQ n f x9) (hr0 : ∀ v, inQ n f v → 0 ≤ v ∧ v ≤ 31) (hg0 : ∀ i : Nat, i < n → g (i : Int) = some (fa (f i))) (hO0 : hOk S n f)  : gMet l X yJ14_offer cJ14_offer 3 (some .boolean) 5 0 0 112 σ [.ref pq, .ref (fa x9)] (oI (fun r σ' => gKeep (fun t => t = 20 ∨ t = 21) σ σ' ∧ (r = 1 ∧ ∃ (f' : Nat → Int) (g' : Int → Option Nat), σ' pq = some (20, gO 16 [.ref qa, .int (iI (sz + 1)), .ref cp, .int (iI (mo + 1))]) ∧ σ' qa = some (21, gV (X.2.1 9) 32 g') ∧ (∀ i : Nat, i < n + 1 → g' (i : Int) = some (fa (f' i))) ∧ hOk S (n + 1) f' ∧ hInj (n + 1) f' ∧ ∀ v, inQ (n + 1) f' v ↔ inQ n f v ∨ v = x9))) := by
  refine gMet.of (by decide) (Nat.le_of_ble_eq_true rfl) ?_
  intro pp ee ss mm args below meth cd Q H locs ls hargs hx hb hr hlocks hml hown hnm hts hK hG hS hQ hl
  have hown : ss.vm.findClass RJ14 = some mm.cls := hown
  have hl : lv_has ls 3 [(0, .ref pq), (1, .ref (fa x9))] := hl
  have hkp : gKeep (fun t => t = 20 ∨ t = 21) σ σ := gKeep.rf
  refine lv_aload_n hx hb dJ14_offer_0 rfl (lv_at hl 1 rfl) ?_
  refine lv_ifnonnull (tgt := 12) hx hb dJ14_offer_1 (by decide) ?_
  refine lv_aload_n hx hb dJ14_offer_12 rfl (lv_at hl 0 rfl) ?_
  refine lv_dup hx hb dJ14_offer_13 rfl ?_
  refine g_get (C := RJ14) (T := TJ14) (N := 4) (v := .int (iI mo)) hx hb hts hown hK hG hP9 rfl in_J14 3 (by decide) q719 rfl rfl dJ14_offer_14 ?_
  refine g_iconst hx hb dJ14_offer_17 ?_
  refine g_iadd hx hb dJ14_offer_18 ?_
  refine g_put (C := RJ14) (T := TJ14) (N := 4) (ty0 := tyJ14) (v := .int (iI (mo + 1))) hx hb hts hown hK hG hS hP9 rfl in_J14 tyJ14_ok nmJ14 3 (by decide) q719 rfl (by decide) rfl rfl (Nat.le_of_ble_eq_true rfl) dJ14_offer_19 (fun H locs hG hS => ?_)
  have hF_1 : FW (gup σ pq (20, gO 16 ([.ref qa, .int (iI sz), .ref cp, .int (iI mo)].set 3 (.int (iI (mo + 1)))))) S fa := hF.keep (gKeep.up hP9 rfl : gKeep (fun t => t = 20) σ (gup σ pq (20, gO 16 ([.ref qa, .int (iI sz), .ref cp, .int (iI mo)].set 3 (.int (iI (mo + 1))))))) (by first | decide | omega | (intro q9; dsimp only at q9; omega))
  have hQ_1 : (gup σ pq (20, gO 16 ([.ref qa, .int (iI sz), .ref cp, .int (iI mo)].set 3 (.int (iI (mo + 1)))))) qa = some (21, gV (X.2.1 9) 32 g) := (gKeep.up hP9 rfl : gKeep (fun t => t = 20) σ (gup σ pq (20, gO 16 ([.ref qa, .int (iI sz), .ref cp, .int (iI mo)].set 3 (.int (iI (mo + 1))))))) _ _ _ hQ9 (by first | decide | omega | (intro q9; dsimp only at q9; omega))
  have hK_1 : (gup σ pq (20, gO 16 ([.ref qa, .int (iI sz), .ref cp, .int (iI mo)].set 3 (.int (iI (mo + 1)))))) cp = some (23, gO 8 []) := (gKeep.up hP9 rfl : gKeep (fun t => t = 20) σ (gup σ pq (20, gO 16 ([.ref qa, .int (iI sz), .ref cp, .int (iI mo)].set 3 (.int (iI (mo + 1))))))) _ _ _ hK9 (by first | decide | omega | (intro q9; dsimp only at q9; omega))
  have hP_1 : (gup σ pq (20, gO 16 ([.ref qa, .int (iI sz), .ref cp, .int (iI mo)].set 3 (.int (iI (mo + 1)))))) pq = some (20, gO 16 [.ref qa, .int (iI sz), .ref cp, .int (iI (mo + 1))]) := gup_s
  have hkp1 : gKeep (fun t => t = 20 ∨ t = 21) σ (gup σ pq (20, gO 16 ([.ref qa, .int (iI sz), .ref cp, .int (iI mo)].set 3 (.int (iI (mo + 1)))))) := hkp.tr ((gKeep.up hP9 rfl : gKeep (fun t => t = 20) σ (gup σ pq (20, gO 16 ([.ref qa, .int (iI sz), .ref cp, .int (iI mo)].set 3 (.int (iI (mo + 1))))))).mono (fun t (h : t = 20) => (by show t = 20 ∨ t = 21; omega)))
  generalize (gup σ pq (20, gO 16 ([.ref qa, .int (iI sz), .ref cp, .int (iI mo)].set 3 (.int (iI (mo + 1)))))) = σ1 at hG hF_1 hQ_1 hK_1 hP_1 hkp1
  refine lv_aload_n hx hb dJ14_offer_22 rfl (lv_at hl 0 rfl) ?_
  refine g_get (C := RJ14) (T := TJ14) (N := 4) (v := .int (iI sz)) hx hb hts hown hK hG hP_1 rfl in_J14 1 (by decide) q717 rfl rfl dJ14_offer_23 ?_
  refine lv_istore_n (lv' := [(2, .int (iI sz)), (0, .ref pq), (1, .ref (fa x9))]) hx hb dJ14_offer_26 rfl hl (by decide) rfl (fun ls hl => ?_)
  refine lv_iload_n hx hb dJ14_offer_27 rfl (lv_at hl 0 rfl) ?_
  refine lv_aload_n hx hb dJ14_offer_28 rfl (lv_at hl 1 rfl) ?_
  refine g_get (C := RJ14) (T := TJ14) (N := 4) (v := .ref qa) hx hb hts hown hK hG hP_1 rfl in_J14 0 (by decide) q716 rfl rfl dJ14_offer_29 ?_
  refine g_alen (n := 32) hx hb 9 hK hG hQ_1 rfl rfl dJ14_offer_32 ?_
  refine g_rw (b := 32) rfl ?_
  refine g_icmp_lt (tgt := 43) hx hb dJ14_offer_33 (by decide) (by omega) (by omega) (fun cq2 => ?_) (fun cq2 => ?_)
  · refine lv_aload_n hx hb dJ14_offer_43 rfl (lv_at hl 1 rfl) ?_
    refine lv_iload_n hx hb dJ14_offer_44 rfl (lv_at hl 0 rfl) ?_
    refine g_rw (b := (n : Int)) (hsz) ?_
    refine lv_aload_n hx hb dJ14_offer_45 rfl (lv_at hl 2 rfl) ?_
    refine g_callV (As := [.int (iI (n : Int)), .ref (fa x9)]) (rest := []) 2 hx hb hml hown hts hK hG hS hl.1 (mJ14_siftUp l X σ1 S fa hS9 hF_1 qa g hQ_1 cp hK_1 pq sz (mo + 1) hP_1 (n + 1) n (va_up f n x9) x9 (by omega) (by omega) (va_up_self _ _ _) (add_inj hI0 hnx) (fun v h => by rcases (add_in v).mp h with h | h; exact hr0 v h; omega) (fun i hi ne => by rw [va_up_ne _ _ ne]; exact hg0 i (by omega)) (hO0.up x9)) hP_1 rfl q812 q814 qs26 q92 q815 (by decide +kernel) rfl ⟨Nat.le_of_ble_eq_true rfl, Nat.le_of_ble_eq_true rfl⟩ ⟨Nat.le_of_ble_eq_true rfl, Nat.le_of_ble_eq_true rfl⟩ (Nat.le_of_ble_eq_true rfl) dJ14_offer_46 (kV (fun σr3 H locs hp hG hS => ?_))
    obtain ⟨kq4, f4, g4, hQ_4, hg4, hO4, hI4, hin4⟩ := hp
    have hF_5 : FW σr3 S fa := hF_1.keep kq4 (by first | decide | omega | (intro q9; dsimp only at q9; omega))
    have hK_5 : σr3 cp = some (23, gO 8 []) := kq4 _ _ _ hK_1 (by first | decide | omega | (intro q9; dsimp only at q9; omega))
    have hP_5 : σr3 pq = some (20, gO 16 [.ref qa, .int (iI sz), .ref cp, .int (iI (mo + 1))]) := kq4 _ _ _ hP_1 (by first | decide | omega | (intro q9; dsimp only at q9; omega))
    have hkp5 : gKeep (fun t => t = 20 ∨ t = 21) σ σr3 := hkp1.tr (kq4.mono (fun t (h : t = 21) => (by show t = 20 ∨ t = 21; omega)))
    refine lv_aload_n hx hb dJ14_offer_49 rfl (lv_at hl 1 rfl) ?_
    refine lv_iload_n hx hb dJ14_offer_50 rfl (lv_at hl 0 rfl) ?_
    refine g_iconst hx hb dJ14_offer_51 ?_
    refine g_iadd hx hb dJ14_offer_52 ?_
    refine g_put (C := RJ14) (T := TJ14) (N := 4) (ty0 := tyJ14) (v := .int (iI (sz + 1))) hx hb hts hown hK hG hS hP_5 rfl in_J14 tyJ14_ok nmJ14 1 (by decide) q717 rfl (by decide) rfl rfl (Nat.le_of_ble_eq_true rfl) dJ14_offer_53 (fun H locs hG hS => ?_)
    have hF_6 : FW (gup σr3 pq (20, gO 16 ([.ref qa, .int (iI sz), .ref cp, .int (iI (mo + 1))].set 1 (.int (iI (sz + 1)))))) S fa := hF_5.keep (gKeep.up hP_5 rfl : gKeep (fun t => t = 20) σr3 (gup σr3 pq (20, gO 16 ([.ref qa, .int (iI sz), .ref cp, .int (iI (mo + 1))].set 1 (.int (iI (sz + 1))))))) (by first | decide | omega | (intro q9; dsimp only at q9; omega))
    have hQ_6 : (gup σr3 pq (20, gO 16 ([.ref qa, .int (iI sz), .ref cp, .int (iI (mo + 1))].set 1 (.int (iI (sz + 1)))))) qa = some (21, gV (X.2.1 9) 32 g4) := (gKeep.up hP_5 rfl : gKeep (fun t => t = 20) σr3 (gup σr3 pq (20, gO 16 ([.ref qa, .int (iI sz), .ref cp, .int (iI (mo + 1))].set 1 (.int (iI (sz + 1))))))) _ _ _ hQ_4 (by first | decide | omega | (intro q9; dsimp only at q9; omega))
    have hK_6 : (gup σr3 pq (20, gO 16 ([.ref qa, .int (iI sz), .ref cp, .int (iI (mo + 1))].set 1 (.int (iI (sz + 1)))))) cp = some (23, gO 8 []) := (gKeep.up hP_5 rfl : gKeep (fun t => t = 20) σr3 (gup σr3 pq (20, gO 16 ([.ref qa, .int (iI sz), .ref cp, .int (iI (mo + 1))].set 1 (.int (iI (sz + 1))))))) _ _ _ hK_5 (by first | decide | omega | (intro q9; dsimp only at q9; omega))
    have hP_6 : (gup σr3 pq (20, gO 16 ([.ref qa, .int (iI sz), .ref cp, .int (iI (mo + 1))].set 1 (.int (iI (sz + 1)))))) pq = some (20, gO 16 [.ref qa, .int (iI (sz + 1)), .ref cp, .int (iI (mo + 1))]) := gup_s
    have hkp6 : gKeep (fun t => t = 20 ∨ t = 21) σ (gup σr3 pq (20, gO 16 ([.ref qa, .int (iI sz), .ref cp, .int (iI (mo + 1))].set 1 (.int (iI (sz + 1)))))) := hkp5.tr ((gKeep.up hP_5 rfl : gKeep (fun t => t = 20) σr3 (gup σr3 pq (20, gO 16 ([.ref qa, .int (iI sz), .ref cp, .int (iI (mo + 1))].set 1 (.int (iI (sz + 1))))))).mono (fun t (h : t = 20) => (by show t = 20 ∨ t = 21; omega)))
    generalize (gup σr3 pq (20, gO 16 ([.ref qa, .int (iI sz), .ref cp, .int (iI (mo + 1))].set 1 (.int (iI (sz + 1)))))) = σ6 at hG hF_6 hQ_6 hK_6 hP_6 hkp6
    refine g_iconst hx hb dJ14_offer_56 ?_
    exact g_zret hx hb hr hlocks hQ hG hS (Nat.zero_le _) (Nat.zero_le _) (gnz (by omega)) ⟨_, rfl, hkp6, (⟨rfl, ⟨f4, g4, hP_6, hQ_6, hg4, hO4, hI4, fun v => (hin4 v).trans (add_in v)⟩⟩)⟩ dJ14_offer_57
  · exfalso; omega

set_option maxHeartbeats 8000000 in
theorem mJ14_add (l : Launch) (X : gX) (σ : gS) (S : Int → Int) (fa : Int → Nat) (hS9 : ∀ a, 0 ≤ S a ∧ S a ≤ 1024) (hF : FW σ S fa) (qa : Nat) (g : Int → Option Nat) (hQ9 : σ qa = some (21, gV (X.2.1 9) 32 g)) (cp : Nat) (hK9 : σ cp = some (23, gO 8 [])) (pq : Nat) (sz mo : Int) (hP9 : σ pq = some (20, gO 16 [.ref qa, .int (iI sz), .ref cp, .int (iI mo)]))  (n : Nat) (f : Nat → Int) (x9 : Int) (hn9 : n < 32) (hsz : sz = (n : Int)) (hmo : 0 ≤ mo ∧ mo ≤ 1000) (hx9 : 0 ≤ x9 ∧ x9 ≤ 31) (hI0 : hInj n f) (hnx : ¬ inQ n f x9) (hr0 : ∀ v, inQ n f v → 0 ≤ v ∧ v ≤ 31) (hg0 : ∀ i : Nat, i < n → g (i : Int) = some (fa (f i))) (hO0 : hOk S n f)  : gMet l X yJ14_add cJ14_add 2 (some .boolean) 6 0 0 134 σ [.ref pq, .ref (fa x9)] (oI (fun r σ' => gKeep (fun t => t = 20 ∨ t = 21) σ σ' ∧ (r = 1 ∧ ∃ (f' : Nat → Int) (g' : Int → Option Nat), σ' pq = some (20, gO 16 [.ref qa, .int (iI (sz + 1)), .ref cp, .int (iI (mo + 1))]) ∧ σ' qa = some (21, gV (X.2.1 9) 32 g') ∧ (∀ i : Nat, i < n + 1 → g' (i : Int) = some (fa (f' i))) ∧ hOk S (n + 1) f' ∧ hInj (n + 1) f' ∧ ∀ v, inQ (n + 1) f' v ↔ inQ n f v ∨ v = x9))) := by
  refine gMet.of (by decide) (Nat.le_of_ble_eq_true rfl) ?_
  intro pp ee ss mm args below meth cd Q H locs ls hargs hx hb hr hlocks hml hown hnm hts hK hG hS hQ hl
  have hown : ss.vm.findClass RJ14 = some mm.cls := hown
  have hl : lv_has ls 2 [(0, .ref pq), (1, .ref (fa x9))] := hl
  have hkp : gKeep (fun t => t = 20 ∨ t = 21) σ σ := gKeep.rf
  refine lv_aload_n hx hb dJ14_add_0 rfl (lv_at hl 0 rfl) ?_
  refine lv_aload_n hx hb dJ14_add_1 rfl (lv_at hl 1 rfl) ?_
  refine g_callV (As := [.ref (fa x9)]) (rest := []) 1 hx hb hml hown hts hK hG hS hl.1 (mJ14_offer l X σ S fa hS9 hF qa g hQ9 cp hK9 pq sz mo hP9 n f x9 hn9 hsz hmo hx9 hI0 hnx hr0 hg0 hO0) hP9 rfl q733 q734 q735 q92 q736 (by decide +kernel) rfl ⟨Nat.le_of_ble_eq_true rfl, Nat.le_of_ble_eq_true rfl⟩ ⟨Nat.le_of_ble_eq_true rfl, Nat.le_of_ble_eq_true rfl⟩ (Nat.le_of_ble_eq_true rfl) dJ14_add_2 (kI (fun r1 σr1 H locs hp hG hS => ?_))
  obtain ⟨kq2, rfl, f2, g2, hP_2, hQ_2, hg2, hO2, hI2, hin2⟩ := hp
  have hF_3 : FW σr1 S fa := hF.keep kq2 (by first | decide | omega | (intro q9; dsimp only at q9; omega))
  have hK_3 : σr1 cp = some (23, gO 8 []) := kq2 _ _ _ hK9 (by first | decide | omega | (intro q9; dsimp only at q9; omega))
  have hkp3 : gKeep (fun t => t = 20 ∨ t = 21) σ σr1 := hkp.tr (kq2.mono (fun t (h : t = 20 ∨ t = 21) => (by show t = 20 ∨ t = 21; omega)))
  exact g_zret hx hb hr hlocks hQ hG hS (Nat.zero_le _) (Nat.zero_le _) (gnz (by omega)) ⟨_, rfl, hkp3, (⟨rfl, f2, g2, hP_2, hQ_2, hg2, hO2, hI2, hin2⟩)⟩ dJ14_add_5

set_option maxHeartbeats 8000000 in
theorem mJ14_poll (l : Launch) (X : gX) (σ : gS) (S : Int → Int) (fa : Int → Nat) (hS9 : ∀ a, 0 ≤ S a ∧ S a ≤ 1024) (hF : FW σ S fa) (qa : Nat) (g : Int → Option Nat) (hQ9 : σ qa = some (21, gV (X.2.1 9) 32 g)) (cp : Nat) (hK9 : σ cp = some (23, gO 8 [])) (pq : Nat) (sz mo : Int) (hP9 : σ pq = some (20, gO 16 [.ref qa, .int (iI sz), .ref cp, .int (iI mo)]))  (m : Nat) (f : Nat → Int) (hm9 : m < 32) (hsz : sz = (m : Int) + 1) (hmo : 0 ≤ mo ∧ mo ≤ 1000) (hI0 : hInj (m + 1) f) (hr0 : ∀ v, inQ (m + 1) f v → 0 ≤ v ∧ v ≤ 31) (hg0 : ∀ i : Nat, i < m + 1 → g (i : Int) = some (fa (f i))) (hO0 : hOk S (m + 1) f)  : gMet l X yJ14_poll cJ14_poll 6 (some (.object "java/lang/Object")) 4 0 0 93 σ [.ref pq] (oA (fun v σ' => gKeep (fun t => t = 20 ∨ t = 21) σ σ' ∧ (v = .ref (fa (f 0)) ∧ ∃ (f' : Nat → Int) (g' : Int → Option Nat), σ' pq = some (20, gO 16 [.ref qa, .int (iI ((m : Int))), .ref cp, .int (iI (mo + 1))]) ∧ σ' qa = some (21, gV (X.2.1 9) 32 g') ∧ (∀ i : Nat, i < m → g' (i : Int) = some (fa (f' i))) ∧ hOk S m f' ∧ hInj m f' ∧ ∀ x, inQ m f' x ↔ inQ (m + 1) f x ∧ x ≠ f 0))) := by
  refine gMet.of (by decide) (Nat.le_of_ble_eq_true rfl) ?_
  intro pp ee ss mm args below meth cd Q H locs ls hargs hx hb hr hlocks hml hown hnm hts hK hG hS hQ hl
  have hown : ss.vm.findClass RJ14 = some mm.cls := hown
  have hl : lv_has ls 6 [(0, .ref pq)] := hl
  have hkp : gKeep (fun t => t = 20 ∨ t = 21) σ σ := gKeep.rf
  have hr00 := hr0 (f 0) ⟨0, by omega, rfl⟩
  have hrmm := hr0 (f m) ⟨m, by omega, rfl⟩
  refine lv_aload_n hx hb dJ14_poll_0 rfl (lv_at hl 0 rfl) ?_
  refine g_get (C := RJ14) (T := TJ14) (N := 4) (v := .ref qa) hx hb hts hown hK hG hP9 rfl in_J14 0 (by decide) q716 rfl rfl dJ14_poll_1 ?_
  refine lv_dup hx hb dJ14_poll_4 rfl ?_
  refine lv_astore_n (lv' := [(1, .ref qa), (0, .ref pq)]) hx hb dJ14_poll_5 rfl hl (by decide) rfl (fun ls hl => ?_)
  refine g_iconst hx hb dJ14_poll_6 ?_
  refine g_aald (v := .ref (fa (f 0))) hx hb 9 hK hG hQ9 rfl dJ14_poll_7 (by omega) (by rw [show g 0 = some (fa (f 0)) from hg0 0 (by omega)]; rfl) ?_
  refine lv_dup hx hb dJ14_poll_8 rfl ?_
  refine lv_astore_n (lv' := [(2, .ref (fa (f 0))), (1, .ref qa), (0, .ref pq)]) hx hb dJ14_poll_9 rfl hl (by decide) rfl (fun ls hl => ?_)
  refine lv_ifnull hx hb dJ14_poll_10 ?_
  refine lv_aload_n hx hb dJ14_poll_13 rfl (lv_at hl 2 rfl) ?_
  refine lv_dup hx hb dJ14_poll_14 rfl ?_
  refine g_get (C := RJ14) (T := TJ14) (N := 4) (v := .int (iI mo)) hx hb hts hown hK hG hP9 rfl in_J14 3 (by decide) q719 rfl rfl dJ14_poll_15 ?_
  refine g_iconst hx hb dJ14_poll_18 ?_
  refine g_iadd hx hb dJ14_poll_19 ?_
  refine g_put (C := RJ14) (T := TJ14) (N := 4) (ty0 := tyJ14) (v := .int (iI (mo + 1))) hx hb hts hown hK hG hS hP9 rfl in_J14 tyJ14_ok nmJ14 3 (by decide) q719 rfl (by decide) rfl rfl (Nat.le_of_ble_eq_true rfl) dJ14_poll_20 (fun H locs hG hS => ?_)
  have hF_1 : FW (gup σ pq (20, gO 16 ([.ref qa, .int (iI sz), .ref cp, .int (iI mo)].set 3 (.int (iI (mo + 1)))))) S fa := hF.keep (gKeep.up hP9 rfl : gKeep (fun t => t = 20) σ (gup σ pq (20, gO 16 ([.ref qa, .int (iI sz), .ref cp, .int (iI mo)].set 3 (.int (iI (mo + 1))))))) (by first | decide | omega | (intro q9; dsimp only at q9; omega))
  have hQ_1 : (gup σ pq (20, gO 16 ([.ref qa, .int (iI sz), .ref cp, .int (iI mo)].set 3 (.int (iI (mo + 1)))))) qa = some (21, gV (X.2.1 9) 32 g) := (gKeep.up hP9 rfl : gKeep (fun t => t = 20) σ (gup σ pq (20, gO 16 ([.ref qa, .int (iI sz), .ref cp, .int (iI mo)].set 3 (.int (iI (mo + 1))))))) _ _ _ hQ9 (by first | decide | omega | (intro q9; dsimp only at q9; omega))
  have hK_1 : (gup σ pq (20, gO 16 ([.ref qa, .int (iI sz), .ref cp, .int (iI mo)].set 3 (.int (iI (mo + 1)))))) cp = some (23, gO 8 []) := (gKeep.up hP9 rfl : gKeep (fun t => t = 20) σ (gup σ pq (20, gO 16 ([.ref qa, .int (iI sz), .ref cp, .int (iI mo)].set 3 (.int (iI (mo + 1))))))) _ _ _ hK9 (by first | decide | omega | (intro q9; dsimp only at q9; omega))
  have hP_1 : (gup σ pq (20, gO 16 ([.ref qa, .int (iI sz), .ref cp, .int (iI mo)].set 3 (.int (iI (mo + 1)))))) pq = some (20, gO 16 [.ref qa, .int (iI sz), .ref cp, .int (iI (mo + 1))]) := gup_s
  have hkp1 : gKeep (fun t => t = 20 ∨ t = 21) σ (gup σ pq (20, gO 16 ([.ref qa, .int (iI sz), .ref cp, .int (iI mo)].set 3 (.int (iI (mo + 1)))))) := hkp.tr ((gKeep.up hP9 rfl : gKeep (fun t => t = 20) σ (gup σ pq (20, gO 16 ([.ref qa, .int (iI sz), .ref cp, .int (iI mo)].set 3 (.int (iI (mo + 1))))))).mono (fun t (h : t = 20) => (by show t = 20 ∨ t = 21; omega)))
  generalize (gup σ pq (20, gO 16 ([.ref qa, .int (iI sz), .ref cp, .int (iI mo)].set 3 (.int (iI (mo + 1)))))) = σ1 at hG hF_1 hQ_1 hK_1 hP_1 hkp1
  refine lv_aload_n hx hb dJ14_poll_23 rfl (lv_at hl 1 rfl) ?_
  refine lv_aload_n hx hb dJ14_poll_24 rfl (lv_at hl 2 rfl) ?_
  refine lv_dup hx hb dJ14_poll_25 rfl ?_
  refine g_get (C := RJ14) (T := TJ14) (N := 4) (v := .int (iI sz)) hx hb hts hown hK hG hP_1 rfl in_J14 1 (by decide) q717 rfl rfl dJ14_poll_26 ?_
  refine g_iconst hx hb dJ14_poll_29 ?_
  refine g_isub hx hb dJ14_poll_30 ?_
  refine g_rw (b := (m : Int)) (by omega) ?_
  refine lv_dup_x1 hx hb dJ14_poll_31 rfl rfl ?_
  refine g_put (C := RJ14) (T := TJ14) (N := 4) (ty0 := tyJ14) (v := .int (iI (m : Int))) hx hb hts hown hK hG hS hP_1 rfl in_J14 tyJ14_ok nmJ14 1 (by decide) q717 rfl (by decide) rfl rfl (Nat.le_of_ble_eq_true rfl) dJ14_poll_32 (fun H locs hG hS => ?_)
  have hF_2 : FW (gup σ1 pq (20, gO 16 ([.ref qa, .int (iI sz), .ref cp, .int (iI (mo + 1))].set 1 (.int (iI (m : Int)))))) S fa := hF_1.keep (gKeep.up hP_1 rfl : gKeep (fun t => t = 20) σ1 (gup σ1 pq (20, gO 16 ([.ref qa, .int (iI sz), .ref cp, .int (iI (mo + 1))].set 1 (.int (iI (m : Int))))))) (by first | decide | omega | (intro q9; dsimp only at q9; omega))
  have hQ_2 : (gup σ1 pq (20, gO 16 ([.ref qa, .int (iI sz), .ref cp, .int (iI (mo + 1))].set 1 (.int (iI (m : Int)))))) qa = some (21, gV (X.2.1 9) 32 g) := (gKeep.up hP_1 rfl : gKeep (fun t => t = 20) σ1 (gup σ1 pq (20, gO 16 ([.ref qa, .int (iI sz), .ref cp, .int (iI (mo + 1))].set 1 (.int (iI (m : Int))))))) _ _ _ hQ_1 (by first | decide | omega | (intro q9; dsimp only at q9; omega))
  have hK_2 : (gup σ1 pq (20, gO 16 ([.ref qa, .int (iI sz), .ref cp, .int (iI (mo + 1))].set 1 (.int (iI (m : Int)))))) cp = some (23, gO 8 []) := (gKeep.up hP_1 rfl : gKeep (fun t => t = 20) σ1 (gup σ1 pq (20, gO 16 ([.ref qa, .int (iI sz), .ref cp, .int (iI (mo + 1))].set 1 (.int (iI (m : Int))))))) _ _ _ hK_1 (by first | decide | omega | (intro q9; dsimp only at q9; omega))
  have hP_2 : (gup σ1 pq (20, gO 16 ([.ref qa, .int (iI sz), .ref cp, .int (iI (mo + 1))].set 1 (.int (iI (m : Int)))))) pq = some (20, gO 16 [.ref qa, .int (iI (m : Int)), .ref cp, .int (iI (mo + 1))]) := gup_s
  have hkp2 : gKeep (fun t => t = 20 ∨ t = 21) σ (gup σ1 pq (20, gO 16 ([.ref qa, .int (iI sz), .ref cp, .int (iI (mo + 1))].set 1 (.int (iI (m : Int)))))) := hkp1.tr ((gKeep.up hP_1 rfl : gKeep (fun t => t = 20) σ1 (gup σ1 pq (20, gO 16 ([.ref qa, .int (iI sz), .ref cp, .int (iI (mo + 1))].set 1 (.int (iI (m : Int))))))).mono (fun t (h : t = 20) => (by show t = 20 ∨ t = 21; omega)))
  generalize (gup σ1 pq (20, gO 16 ([.ref qa, .int (iI sz), .ref cp, .int (iI (mo + 1))].set 1 (.int (iI (m : Int)))))) = σ2 at hG hF_2 hQ_2 hK_2 hP_2 hkp2
  refine lv_dup hx hb dJ14_poll_35 rfl ?_
  refine lv_istore_n (lv' := [(3, .int (iI (m : Int))), (2, .ref (fa (f 0))), (1, .ref qa), (0, .ref pq)]) hx hb dJ14_poll_36 rfl hl (by decide) rfl (fun ls hl => ?_)
  refine g_aald (v := .ref (fa (f m))) hx hb 9 hK hG hQ_2 rfl dJ14_poll_37 (by omega) (by rw [show g (m : Int) = some (fa (f m)) from hg0 m (by omega)]; rfl) ?_
  refine lv_astore (lv' := [(4, .ref (fa (f m))), (3, .int (iI (m : Int))), (2, .ref (fa (f 0))), (1, .ref qa), (0, .ref pq)]) hx hb dJ14_poll_38 hl (by decide) rfl (fun ls hl => ?_)
  refine lv_aload_n hx hb dJ14_poll_40 rfl (lv_at hl 3 rfl) ?_
  refine lv_iload_n hx hb dJ14_poll_41 rfl (lv_at hl 1 rfl) ?_
  refine lv_null hx hb dJ14_poll_42 ?_
  refine g_aastN hx hb hK hG hS hQ_2 rfl dJ14_poll_43 (by omega) (fun H locs hG hS => ?_)
  have hF_3 : FW (gup σ2 qa (21, gV (X.2.1 9) 32 (iup g (m : Int) none))) S fa := hF_2.keep (gKeep.up hQ_2 rfl : gKeep (fun t => t = 21) σ2 (gup σ2 qa (21, gV (X.2.1 9) 32 (iup g (m : Int) none)))) (by first | decide | omega | (intro q9; dsimp only at q9; omega))
  have hK_3 : (gup σ2 qa (21, gV (X.2.1 9) 32 (iup g (m : Int) none))) cp = some (23, gO 8 []) := (gKeep.up hQ_2 rfl : gKeep (fun t => t = 21) σ2 (gup σ2 qa (21, gV (X.2.1 9) 32 (iup g (m : Int) none)))) _ _ _ hK_2 (by first | decide | omega | (intro q9; dsimp only at q9; omega))
  have hP_3 : (gup σ2 qa (21, gV (X.2.1 9) 32 (iup g (m : Int) none))) pq = some (20, gO 16 [.ref qa, .int (iI (m : Int)), .ref cp, .int (iI (mo + 1))]) := (gKeep.up hQ_2 rfl : gKeep (fun t => t = 21) σ2 (gup σ2 qa (21, gV (X.2.1 9) 32 (iup g (m : Int) none)))) _ _ _ hP_2 (by first | decide | omega | (intro q9; dsimp only at q9; omega))
  have hQ_3 : (gup σ2 qa (21, gV (X.2.1 9) 32 (iup g (m : Int) none))) qa = some (21, gV (X.2.1 9) 32 (iup g (m : Int) none)) := gup_s
  have hkp3 : gKeep (fun t => t = 20 ∨ t = 21) σ (gup σ2 qa (21, gV (X.2.1 9) 32 (iup g (m : Int) none))) := hkp2.tr ((gKeep.up hQ_2 rfl : gKeep (fun t => t = 21) σ2 (gup σ2 qa (21, gV (X.2.1 9) 32 (iup g (m : Int) none)))).mono (fun t (h : t = 21) => (by show t = 20 ∨ t = 21; omega)))
  generalize (gup σ2 qa (21, gV (X.2.1 9) 32 (iup g (m : Int) none))) = σ3 at hG hF_3 hK_3 hP_3 hQ_3 hkp3
  refine lv_iload_n hx hb dJ14_poll_44 rfl (lv_at hl 1 rfl) ?_
  refine g_if_le (tgt := 79) hx hb dJ14_poll_45 (by decide) (by omega) (fun cq4 => ?_) (fun cq4 => ?_)
  · refine lv_aload_n hx hb dJ14_poll_79 rfl (lv_at hl 2 rfl) ?_
    exact g_aret hx hb hr (by first | exact Or.inl ⟨_, rfl⟩ | exact Or.inr ⟨_, rfl⟩) (by first | exact Or.inl rfl | exact Or.inr ⟨_, rfl⟩ | assumption | exact va_rf_or _) hlocks hQ hG hS (Nat.zero_le _) (Nat.zero_le _) ⟨_, rfl, hkp3, (⟨rfl, va_up f 0 (f m), _, hP_3, hQ_3, fun i hi => absurd hi (by omega), fun i i0 hi => absurd hi (by omega), pop_inj hI0, fun x => pop_in hI0 x⟩)⟩ dJ14_poll_80
  · refine lv_aload_n hx hb dJ14_poll_48 rfl (lv_at hl 4 rfl) ?_
    refine g_get (C := RJ14) (T := TJ14) (N := 4) (v := .ref cp) hx hb hts hown hK hG hP_3 rfl in_J14 2 (by decide) q718 rfl rfl dJ14_poll_49 ?_
    refine lv_dup hx hb dJ14_poll_52 rfl ?_
    refine lv_astore (lv' := [(5, .ref cp), (4, .ref (fa (f m))), (3, .int (iI (m : Int))), (2, .ref (fa (f 0))), (1, .ref qa), (0, .ref pq)]) hx hb dJ14_poll_53 hl (by decide) rfl (fun ls hl => ?_)
    refine lv_ifnonnull (tgt := 69) hx hb dJ14_poll_55 (by decide) ?_
    refine g_iconst hx hb dJ14_poll_69 ?_
    refine g_rw (b := ((0 : Nat) : Int)) (rfl) ?_
    refine lv_aload hx hb dJ14_poll_70 (lv_at hl 1 rfl) ?_
    refine lv_aload_n hx hb dJ14_poll_72 rfl (lv_at hl 4 rfl) ?_
    refine lv_iload_n hx hb dJ14_poll_73 rfl (lv_at hl 2 rfl) ?_
    refine lv_aload hx hb dJ14_poll_74 (lv_at hl 0 rfl) ?_
    refine g_callS (As := [.int (iI ((0 : Nat) : Int)), .ref (fa (f m)), .ref qa, .int (iI (m : Int)), .ref cp]) (rest := []) 5 hx hb hml hown hts hK hG hS hl.1 (mJ14_siftDownUsingComparator l X σ3 S fa hS9 hF_3 qa (iup g (m : Int) none) hQ_3 cp hK_3 m 0 (va_up f 0 (f m)) (f m) (by omega) (by omega) (va_up_self _ _ _) (pop_inj hI0) (fun v h => hr0 v ((pop_in hI0 v).mp h).1) (fun i hi ne => by rw [iup_n (by omega), va_up_ne _ _ ne]; exact hg0 i (by omega)) hO0.dn) q1089 q1090 q92 q1091 (by decide +kernel) rfl ⟨Nat.le_of_ble_eq_true rfl, Nat.le_of_ble_eq_true rfl⟩ ⟨Nat.le_of_ble_eq_true rfl, Nat.le_of_ble_eq_true rfl⟩ (Nat.le_of_ble_eq_true rfl) dJ14_poll_76 (kV (fun σr5 H locs hp hG hS => ?_))
    obtain ⟨kq6, f6, g6, hQ_6, hg6, hO6, hI6, hin6⟩ := hp
    have hF_7 : FW σr5 S fa := hF_3.keep kq6 (by first | decide | omega | (intro q9; dsimp only at q9; omega))
    have hK_7 : σr5 cp = some (23, gO 8 []) := kq6 _ _ _ hK_3 (by first | decide | omega | (intro q9; dsimp only at q9; omega))
    have hP_7 : σr5 pq = some (20, gO 16 [.ref qa, .int (iI (m : Int)), .ref cp, .int (iI (mo + 1))]) := kq6 _ _ _ hP_3 (by first | decide | omega | (intro q9; dsimp only at q9; omega))
    have hkp7 : gKeep (fun t => t = 20 ∨ t = 21) σ σr5 := hkp3.tr (kq6.mono (fun t (h : t = 21) => (by show t = 20 ∨ t = 21; omega)))
    refine lv_aload_n hx hb dJ14_poll_79 rfl (lv_at hl 3 rfl) ?_
    exact g_aret hx hb hr (by first | exact Or.inl ⟨_, rfl⟩ | exact Or.inr ⟨_, rfl⟩) (by first | exact Or.inl rfl | exact Or.inr ⟨_, rfl⟩ | assumption | exact va_rf_or _) hlocks hQ hG hS (Nat.zero_le _) (Nat.zero_le _) ⟨_, rfl, hkp7, (⟨rfl, f6, g6, hP_7, hQ_6, hg6, hO6, hI6, fun x => (hin6 x).trans (pop_in hI0 x)⟩)⟩ dJ14_poll_80

set_option maxHeartbeats 8000000 in
theorem mJ13_remove (l : Launch) (X : gX) (σ : gS) (S : Int → Int) (fa : Int → Nat) (hS9 : ∀ a, 0 ≤ S a ∧ S a ≤ 1024) (hF : FW σ S fa) (qa : Nat) (g : Int → Option Nat) (hQ9 : σ qa = some (21, gV (X.2.1 9) 32 g)) (cp : Nat) (hK9 : σ cp = some (23, gO 8 [])) (pq : Nat) (sz mo : Int) (hP9 : σ pq = some (20, gO 16 [.ref qa, .int (iI sz), .ref cp, .int (iI mo)]))  (m : Nat) (f : Nat → Int) (hm9 : m < 32) (hsz : sz = (m : Int) + 1) (hmo : 0 ≤ mo ∧ mo ≤ 1000) (hI0 : hInj (m + 1) f) (hr0 : ∀ v, inQ (m + 1) f v → 0 ≤ v ∧ v ≤ 31) (hg0 : ∀ i : Nat, i < m + 1 → g (i : Int) = some (fa (f i))) (hO0 : hOk S (m + 1) f)  : gMet l X yJ13_remove cJ13_remove 2 (some (.object "java/lang/Object")) 5 0 0 118 σ [.ref pq] (oA (fun v σ' => gKeep (fun t => t = 20 ∨ t = 21) σ σ' ∧ (v = .ref (fa (f 0)) ∧ ∃ (f' : Nat → Int) (g' : Int → Option Nat), σ' pq = some (20, gO 16 [.ref qa, .int (iI ((m : Int))), .ref cp, .int (iI (mo + 1))]) ∧ σ' qa = some (21, gV (X.2.1 9) 32 g') ∧ (∀ i : Nat, i < m → g' (i : Int) = some (fa (f' i))) ∧ hOk S m f' ∧ hInj m f' ∧ ∀ x, inQ m f' x ↔ inQ (m + 1) f x ∧ x ≠ f 0))) := by
  refine gMet.of (by decide) (Nat.le_of_ble_eq_true rfl) ?_
  intro pp ee ss mm args below meth cd Q H locs ls hargs hx hb hr hlocks hml hown hnm hts hK hG hS hQ hl
  have hown : ss.vm.findClass RJ13 = some mm.cls := hown
  have hl : lv_has ls 2 [(0, .ref pq)] := hl
  have hkp : gKeep (fun t => t = 20 ∨ t = 21) σ σ := gKeep.rf
  refine lv_aload_n hx hb dJ13_remove_0 rfl (lv_at hl 0 rfl) ?_
  refine g_callQ (C := "java/util/PriorityQueue") (J := "java/util/Queue") (x := ⟨"java/util/AbstractQueue", "poll", "()Ljava/lang/Object;"⟩) (As := []) (rest := []) 0 hx hb hml hown hts hK hG hS hl.1 (mJ14_poll l X σ S fa hS9 hF qa g hQ9 cp hK9 pq sz mo hP9 m f hm9 hsz hmo hI0 hr0 hg0 hO0) hP9 rfl (by decide +kernel) (by decide +kernel) q1082 q1083 q1084 q92 q1085 (by decide +kernel) rfl ⟨Nat.le_of_ble_eq_true rfl, Nat.le_of_ble_eq_true rfl⟩ ⟨Nat.le_of_ble_eq_true rfl, Nat.le_of_ble_eq_true rfl⟩ (Nat.le_of_ble_eq_true rfl) dJ13_remove_1 (kA (fun r1 σr1 H locs hp hG hS => ?_))
  obtain ⟨kq2, rfl, f2, g2, hP_2, hQ_2, hg2, hO2, hI2, hin2⟩ := hp
  have hF_3 : FW σr1 S fa := hF.keep kq2 (by first | decide | omega | (intro q9; dsimp only at q9; omega))
  have hK_3 : σr1 cp = some (23, gO 8 []) := kq2 _ _ _ hK9 (by first | decide | omega | (intro q9; dsimp only at q9; omega))
  have hkp3 : gKeep (fun t => t = 20 ∨ t = 21) σ σr1 := hkp.tr (kq2.mono (fun t (h : t = 20 ∨ t = 21) => (by show t = 20 ∨ t = 21; omega)))
  refine lv_astore_n (lv' := [(1, .ref (fa (f 0))), (0, .ref pq)]) hx hb dJ13_remove_4 rfl hl (by decide) rfl (fun ls hl => ?_)
  refine lv_aload_n hx hb dJ13_remove_5 rfl (lv_at hl 0 rfl) ?_
  refine lv_ifnull hx hb dJ13_remove_6 ?_
  refine lv_aload_n hx hb dJ13_remove_9 rfl (lv_at hl 0 rfl) ?_
  exact g_aret hx hb hr (by first | exact Or.inl ⟨_, rfl⟩ | exact Or.inr ⟨_, rfl⟩) (by first | exact Or.inl rfl | exact Or.inr ⟨_, rfl⟩ | assumption | exact va_rf_or _) hlocks hQ hG hS (Nat.zero_le _) (Nat.zero_le _) ⟨_, rfl, hkp3, (⟨rfl, f2, g2, hP_2, hQ_2, hg2, hO2, hI2, hin2⟩)⟩ dJ13_remove_10

