theorem mX7_init (l : Launch) (X : gX) (σ : gS) (z tz : Nat) (x : Int) (hz : σ z = some (tz, gO 7 [.int (iI 0), .int (iI 0)])) : gMet l X yX7_init cX7_init 2 none 1 0 0 20 σ [.ref z, .int (iI x)] (oV (fun σ' => σ' = gup σ z (tz, gO 7 [.int (iI x), .int (iI 0)]))) := by
  refine gMet.of (by decide) (Nat.le_of_ble_eq_true rfl) ?_
  intro pp ee ss mm args below meth cd Q H locs ls hargs hx hb hr hlocks hml hown hnm hts hK hG hS hQ hl
  have hown : ss.vm.findClass RX7 = some mm.cls := hown
  have hl : lv_has ls 2 [(0, .ref z), (1, .int (iI x))] := hl
  refine lv_aload_n hx hb dX7_init_0 rfl (lv_at hl 0 rfl) ?_
  refine W.objInit hx hb hown (hts _ q685) (hts _ q123) (hts _ q124) rfl (by rw [hml]; exact hl.1) rfl dX7_init_1 (Nat.le_of_ble_eq_true rfl) (Nat.le_of_ble_eq_true rfl) ?_
  refine W.eq (g2 := F0 mm 4 ls []) rfl ?_
  refine lv_aload_n hx hb dX7_init_4 rfl (lv_at hl 0 rfl) ?_
  refine lv_iload_n hx hb dX7_init_5 rfl (lv_at hl 1 rfl) ?_
  refine g_putF (C := RX7) (T := TX7) (N := 2) (ty0 := tyX7) (v := .int (iI x)) hx hb hts hown hK hG hS hz rfl in_X7 tyX7_ok nmX7 0 (by decide) q686 rfl (by decide) hnm rfl rfl rfl (Nat.le_of_ble_eq_true rfl) dX7_init_6 (fun H locs hG hS => ?_)
  have hs1 : (gup σ z (tz, gO 7 ([.int (iI 0), .int (iI 0)].set 0 (.int (iI x))))) = gup σ z (tz, gO 7 [.int (iI x), .int (iI 0)]) := by rfl
  have hL1 : (gup σ z (tz, gO 7 ([.int (iI 0), .int (iI 0)].set 0 (.int (iI x))))) z = some (tz, gO 7 [.int (iI x), .int (iI 0)]) := gup_s
  generalize (gup σ z (tz, gO 7 ([.int (iI 0), .int (iI 0)].set 0 (.int (iI x))))) = σ1 at hG hs1 hL1
  exact g_vret hx hb hr hlocks hQ hG hS (Nat.zero_le _) (Nat.zero_le _) ⟨rfl, hs1⟩ dX7_init_9

theorem mX8_init (l : Launch) (X : gX) (σ : gS) (z tz : Nat)  (hz : σ z = some (tz, gO 8 [])) : gMet l X yX8_init cX8_init 1 none 1 0 0 20 σ [.ref z] (oV (fun σ' => σ' = gup σ z (tz, gO 8 []))) := by
  refine gMet.of (by decide) (Nat.le_of_ble_eq_true rfl) ?_
  intro pp ee ss mm args below meth cd Q H locs ls hargs hx hb hr hlocks hml hown hnm hts hK hG hS hQ hl
  have hown : ss.vm.findClass RX8 = some mm.cls := hown
  have hl : lv_has ls 1 [(0, .ref z)] := hl
  refine lv_aload_n hx hb dX8_init_0 rfl (lv_at hl 0 rfl) ?_
  refine W.objInit hx hb hown (hts _ q705) (hts _ q123) (hts _ q124) rfl (by rw [hml]; exact hl.1) rfl dX8_init_1 (Nat.le_of_ble_eq_true rfl) (Nat.le_of_ble_eq_true rfl) ?_
  refine W.eq (g2 := F0 mm 4 ls []) rfl ?_
  exact g_vret hx hb hr hlocks hQ hG hS (Nat.zero_le _) (Nat.zero_le _) ⟨rfl, by funext q; by_cases e : q = z; (rw [e, gup_s]; exact hz); (rw [gup_n e])⟩ dX8_init_4

theorem mJ13_init (l : Launch) (X : gX) (σ : gS) (z : Nat) : gMet l X yJ13_init cJ13_init 1 none 2 0 0 40 σ [.ref z] (oV (fun σ' => σ = σ')) := by
  refine gMet.of (by decide) (Nat.le_of_ble_eq_true rfl) ?_
  intro pp ee ss mm args below meth cd Q H locs ls hargs hx hb hr hlocks hml hown hnm hts hK hG hS hQ hl
  have hown : ss.vm.findClass RJ13 = some mm.cls := hown
  have hl : lv_has ls 1 [(0, .ref z)] := hl
  refine lv_aload_n hx hb dJ13_init_0 rfl (lv_at hl 0 rfl) ?_
  refine g_callI (As := []) (rest := []) 0 hx hb hml hown hts hK hG hS hl.1 (mJ0_init l X σ z) q713 q179 q71 q180 rfl (by decide +kernel) rfl ⟨Nat.le_of_ble_eq_true rfl, Nat.le_of_ble_eq_true rfl⟩ ⟨Nat.le_of_ble_eq_true rfl, Nat.le_of_ble_eq_true rfl⟩ (Nat.le_of_ble_eq_true rfl) dJ13_init_1 (kV (fun σr1 H locs hp hG hS => ?_))
  obtain rfl := hp
  exact g_vret hx hb hr hlocks hQ hG hS (Nat.zero_le _) (Nat.zero_le _) ⟨rfl, rfl⟩ dJ13_init_4

set_option maxHeartbeats 8000000 in
theorem mJ14_init (l : Launch) (X : gX) (σ : gS) (cp : Nat) (hK9 : σ cp = some (23, gO 8 [])) (pq : Nat) (hP9 : σ pq = some (20, gO 16 [.null, .int (iI 0), .null, .int (iI 0)]))    : gMet l X yJ14_init cJ14_init 3 none 3 1 32 60 σ [.ref pq, .int (iI 32), .ref cp] (oV (fun σ' => gKeep (fun t => t = 20 ∨ t = 21) σ σ' ∧ (∃ qa, σ' pq = some (20, gO 16 [.ref qa, .int (iI 0), .ref cp, .int (iI 0)]) ∧ σ' qa = some (21, gV (X.2.1 9) 32 (fun _ => none))))) := by
  refine gMet.of (by decide) (Nat.le_of_ble_eq_true rfl) ?_
  intro pp ee ss mm args below meth cd Q H locs ls hargs hx hb hr hlocks hml hown hnm hts hK hG hS hQ hl
  have hown : ss.vm.findClass RJ14 = some mm.cls := hown
  have hl : lv_has ls 3 [(0, .ref pq), (1, .int (iI 32)), (2, .ref cp)] := hl
  have hkp : gKeep (fun t => t = 20 ∨ t = 21) σ σ := gKeep.rf
  refine lv_aload_n hx hb dJ14_init_0 rfl (lv_at hl 0 rfl) ?_
  refine g_callI (As := []) (rest := []) 0 hx hb hml hown hts hK hG hS hl.1 (mJ13_init l X σ pq) q710 q711 q91 q712 rfl (by decide +kernel) rfl ⟨Nat.le_of_ble_eq_true rfl, Nat.le_of_ble_eq_true rfl⟩ ⟨Nat.le_of_ble_eq_true rfl, Nat.le_of_ble_eq_true rfl⟩ (Nat.le_of_ble_eq_true rfl) dJ14_init_1 (kV (fun σr1 H locs hp hG hS => ?_))
  obtain rfl := hp
  refine lv_iload_n hx hb dJ14_init_4 rfl (lv_at hl 1 rfl) ?_
  refine g_iconst hx hb dJ14_init_5 ?_
  refine g_icmp_ge (tgt := 17) hx hb dJ14_init_6 (by decide) (by omega) (by omega) (fun cq2 => ?_) (fun cq2 => absurd cq2 (by decide))
  refine lv_aload_n hx hb dJ14_init_17 rfl (lv_at hl 0 rfl) ?_
  refine lv_iload_n hx hb dJ14_init_18 rfl (lv_at hl 1 rfl) ?_
  refine g_anew 21 9 32 hx hb hown hts hK hG hS q714 q715 rfl rfl (by decide) (Nat.le_of_ble_eq_true rfl) (Nat.le_of_ble_eq_true rfl) dJ14_init_19 (fun qa H hzqa hG hS => ?_)
  have hK_3 : (gup σ qa (21, gV (X.2.1 9) 32 (fun _ => none))) cp = some (23, gO 8 []) := (gKeep.new hzqa : gKeep (fun _ => False) σ (gup σ qa (21, gV (X.2.1 9) 32 (fun _ => none)))) _ _ _ hK9 (by first | decide | omega | (intro q9; dsimp only at q9; omega))
  have hP0_3 : (gup σ qa (21, gV (X.2.1 9) 32 (fun _ => none))) pq = some (20, gO 16 [.null, .int (iI 0), .null, .int (iI 0)]) := (gKeep.new hzqa : gKeep (fun _ => False) σ (gup σ qa (21, gV (X.2.1 9) 32 (fun _ => none)))) _ _ _ hP9 (by first | decide | omega | (intro q9; dsimp only at q9; omega))
  have hQ_3 : (gup σ qa (21, gV (X.2.1 9) 32 (fun _ => none))) qa = some (21, gV (X.2.1 9) 32 (fun _ => none)) := gup_s
  have hkp3 : gKeep (fun t => t = 20 ∨ t = 21) σ (gup σ qa (21, gV (X.2.1 9) 32 (fun _ => none))) := hkp.tr ((gKeep.new hzqa : gKeep (fun _ => False) σ (gup σ qa (21, gV (X.2.1 9) 32 (fun _ => none)))).mono (fun t h => h.elim))
  generalize (gup σ qa (21, gV (X.2.1 9) 32 (fun _ => none))) = σ3 at hG hK_3 hP0_3 hQ_3 hkp3
  refine g_put (C := RJ14) (T := TJ14) (N := 4) (ty0 := tyJ14) (v := .ref qa) hx hb hts hown hK hG hS hP0_3 rfl in_J14 tyJ14_ok nmJ14 0 (by decide) q716 rfl (by decide) rfl rfl (Nat.le_of_ble_eq_true rfl) dJ14_init_22 (fun H locs hG hS => ?_)
  have hK_4 : (gup σ3 pq (20, gO 16 ([.null, .int (iI 0), .null, .int (iI 0)].set 0 (.ref qa)))) cp = some (23, gO 8 []) := (gKeep.up hP0_3 rfl : gKeep (fun t => t = 20) σ3 (gup σ3 pq (20, gO 16 ([.null, .int (iI 0), .null, .int (iI 0)].set 0 (.ref qa))))) _ _ _ hK_3 (by first | decide | omega | (intro q9; dsimp only at q9; omega))
  have hQ_4 : (gup σ3 pq (20, gO 16 ([.null, .int (iI 0), .null, .int (iI 0)].set 0 (.ref qa)))) qa = some (21, gV (X.2.1 9) 32 (fun _ => none)) := (gKeep.up hP0_3 rfl : gKeep (fun t => t = 20) σ3 (gup σ3 pq (20, gO 16 ([.null, .int (iI 0), .null, .int (iI 0)].set 0 (.ref qa))))) _ _ _ hQ_3 (by first | decide | omega | (intro q9; dsimp only at q9; omega))
  have hP0_4 : (gup σ3 pq (20, gO 16 ([.null, .int (iI 0), .null, .int (iI 0)].set 0 (.ref qa)))) pq = some (20, gO 16 [.ref qa, .int (iI 0), .null, .int (iI 0)]) := gup_s
  have hkp4 : gKeep (fun t => t = 20 ∨ t = 21) σ (gup σ3 pq (20, gO 16 ([.null, .int (iI 0), .null, .int (iI 0)].set 0 (.ref qa)))) := hkp3.tr ((gKeep.up hP0_3 rfl : gKeep (fun t => t = 20) σ3 (gup σ3 pq (20, gO 16 ([.null, .int (iI 0), .null, .int (iI 0)].set 0 (.ref qa))))).mono (fun t (h : t = 20) => (by show t = 20 ∨ t = 21; omega)))
  generalize (gup σ3 pq (20, gO 16 ([.null, .int (iI 0), .null, .int (iI 0)].set 0 (.ref qa)))) = σ4 at hG hK_4 hQ_4 hP0_4 hkp4
  refine lv_aload_n hx hb dJ14_init_25 rfl (lv_at hl 0 rfl) ?_
  refine lv_aload_n hx hb dJ14_init_26 rfl (lv_at hl 2 rfl) ?_
  refine g_putF (C := RJ14) (T := TJ14) (N := 4) (ty0 := tyJ14) (v := .ref cp) hx hb hts hown hK hG hS hP0_4 rfl in_J14 tyJ14_ok nmJ14 2 (by decide) q718 rfl (by decide) hnm rfl rfl rfl (Nat.le_of_ble_eq_true rfl) dJ14_init_27 (fun H locs hG hS => ?_)
  have hK_5 : (gup σ4 pq (20, gO 16 ([.ref qa, .int (iI 0), .null, .int (iI 0)].set 2 (.ref cp)))) cp = some (23, gO 8 []) := (gKeep.up hP0_4 rfl : gKeep (fun t => t = 20) σ4 (gup σ4 pq (20, gO 16 ([.ref qa, .int (iI 0), .null, .int (iI 0)].set 2 (.ref cp))))) _ _ _ hK_4 (by first | decide | omega | (intro q9; dsimp only at q9; omega))
  have hQ_5 : (gup σ4 pq (20, gO 16 ([.ref qa, .int (iI 0), .null, .int (iI 0)].set 2 (.ref cp)))) qa = some (21, gV (X.2.1 9) 32 (fun _ => none)) := (gKeep.up hP0_4 rfl : gKeep (fun t => t = 20) σ4 (gup σ4 pq (20, gO 16 ([.ref qa, .int (iI 0), .null, .int (iI 0)].set 2 (.ref cp))))) _ _ _ hQ_4 (by first | decide | omega | (intro q9; dsimp only at q9; omega))
  have hP0_5 : (gup σ4 pq (20, gO 16 ([.ref qa, .int (iI 0), .null, .int (iI 0)].set 2 (.ref cp)))) pq = some (20, gO 16 [.ref qa, .int (iI 0), .ref cp, .int (iI 0)]) := gup_s
  have hkp5 : gKeep (fun t => t = 20 ∨ t = 21) σ (gup σ4 pq (20, gO 16 ([.ref qa, .int (iI 0), .null, .int (iI 0)].set 2 (.ref cp)))) := hkp4.tr ((gKeep.up hP0_4 rfl : gKeep (fun t => t = 20) σ4 (gup σ4 pq (20, gO 16 ([.ref qa, .int (iI 0), .null, .int (iI 0)].set 2 (.ref cp))))).mono (fun t (h : t = 20) => (by show t = 20 ∨ t = 21; omega)))
  generalize (gup σ4 pq (20, gO 16 ([.ref qa, .int (iI 0), .null, .int (iI 0)].set 2 (.ref cp)))) = σ5 at hG hK_5 hQ_5 hP0_5 hkp5
  exact g_vret hx hb hr hlocks hQ hG hS (Nat.le_of_ble_eq_true rfl) (Nat.le_of_ble_eq_true rfl) ⟨rfl, hkp5, (⟨qa, hP0_5, hQ_5⟩)⟩ dJ14_init_30

set_option maxHeartbeats 8000000 in
theorem mX0_lambda_rank_3 (l : Launch) (X : gX) (σ : gS) (fa : Int → Nat) (S : Int → Int) (hF9 : FW σ S fa) (aa : Nat) (g : Int → Option Nat) (hA9 : σ aa = some (24, gV (X.2.1 8) 32 g)) (sp : Int) (v9 : Int) (hgA : ∀ a : Int, 0 ≤ a → a < 32 → g a = some (fa a)) (hS1 : ∀ a, 0 ≤ S a ∧ S a ≤ 1024) (h0 : v9 = -6 ∨ 0 ≤ v9 ∧ v9 ≤ 31) : gMet l X yX0_lambda_rank_3 cX0_lambda_rank_3 3 none 0 0 0 0 σ [.ref aa, .int (iI sp), .int (iI v9)] (oV (fun σ' => gKeep (fun t => t = 22) σ σ' ∧ ((v9 = -6 ∧ FW σ' S fa) ∨ (¬ v9 = -6 ∧ FW σ' (iup S v9 (S v9 + 1)) fa)))) := by
  refine gMet.of (by decide) (Nat.le_of_ble_eq_true rfl) ?_
  intro pp ee ss mm args below meth cd Q H locs ls hargs hx hb hr hlocks hml hown hnm hts hK hG hS hQ hl
  have hown : ss.vm.findClass RX0 = some mm.cls := hown
  have hl : lv_has ls 3 [(0, .ref aa), (1, .int (iI sp)), (2, .int (iI v9))] := hl
  have hkp : gKeep (fun t => t = 22) σ σ := gKeep.rf
  refine lv_iload_n hx hb dX0_lambda_rank_3_0 rfl (lv_at hl 2 rfl) ?_
  refine g_bipush hx hb dX0_lambda_rank_3_1 (by decide) ?_
  refine g_icmp_eq (tgt := 18) hx hb dX0_lambda_rank_3_3 (by decide) (by omega) (by omega) (fun cq1 => ?_) (fun cq1 => ?_)
  · exact g_vret hx hb hr hlocks hQ hG hS (Nat.zero_le _) (Nat.zero_le _) ⟨rfl, hkp, (Or.inl ⟨by omega, hF9⟩)⟩ dX0_lambda_rank_3_18
  · refine lv_aload_n hx hb dX0_lambda_rank_3_6 rfl (lv_at hl 0 rfl) ?_
    refine lv_iload_n hx hb dX0_lambda_rank_3_7 rfl (lv_at hl 2 rfl) ?_
    refine g_aald (v := .ref (fa v9)) hx hb 8 hK hG hA9 rfl dX0_lambda_rank_3_8 (by omega) (by rw [hgA v9 (by omega) (by omega)]; rfl) ?_
    refine lv_dup hx hb dX0_lambda_rank_3_9 rfl ?_
    refine g_getN (C := RX7) (T := TX7) (N := 2) (v := .int (iI (S v9))) hx hb hts hown hK hG (hF9 v9 (by omega) (by omega)) rfl in_X7 1 (by decide) q690 rfl rfl dX0_lambda_rank_3_10 ?_
    refine g_iconst hx hb dX0_lambda_rank_3_13 ?_
    refine g_iadd hx hb dX0_lambda_rank_3_14 ?_
    refine g_putN (C := RX7) (T := TX7) (N := 2) (ty0 := tyX7) (v := .int (iI ((S v9) + 1))) hx hb hts hown hK hG hS (hF9 v9 (by omega) (by omega)) rfl in_X7 tyX7_ok nmX7 1 (by decide) q690 rfl (by decide) rfl rfl (Nat.le_of_ble_eq_true rfl) dX0_lambda_rank_3_15 (fun H locs hG hS => ?_)
    have hAA_2 : (gup σ (fa v9) (22, gO 7 ([.int (iI v9), .int (iI (S v9))].set 1 (.int (iI ((S v9) + 1)))))) aa = some (24, gV (X.2.1 8) 32 g) := (gKeep.up (hF9 v9 (by omega) (by omega)) rfl : gKeep (fun t => t = 22) σ (gup σ (fa v9) (22, gO 7 ([.int (iI v9), .int (iI (S v9))].set 1 (.int (iI ((S v9) + 1))))))) _ _ _ hA9 (by first | decide | omega | (intro q9; dsimp only at q9; omega))
    have hG_2 : FW (gup σ (fa v9) (22, gO 7 ([.int (iI v9), .int (iI (S v9))].set 1 (.int (iI ((S v9) + 1)))))) (iup S v9 ((S v9) + 1)) fa := hF9.put ⟨by omega, by omega⟩ _
    have hkp2 : gKeep (fun t => t = 22) σ (gup σ (fa v9) (22, gO 7 ([.int (iI v9), .int (iI (S v9))].set 1 (.int (iI ((S v9) + 1)))))) := hkp.tr ((gKeep.up (hF9 v9 (by omega) (by omega)) rfl : gKeep (fun t => t = 22) σ (gup σ (fa v9) (22, gO 7 ([.int (iI v9), .int (iI (S v9))].set 1 (.int (iI ((S v9) + 1))))))).mono (fun t (h : t = 22) => (by show t = 22; omega)))
    generalize (gup σ (fa v9) (22, gO 7 ([.int (iI v9), .int (iI (S v9))].set 1 (.int (iI ((S v9) + 1)))))) = σ2 at hG hAA_2 hG_2 hkp2
    exact g_vret hx hb hr hlocks hQ hG hS (Nat.zero_le _) (Nat.zero_le _) ⟨rfl, hkp2, (Or.inr ⟨by omega, hG_2⟩)⟩ dX0_lambda_rank_3_18

set_option maxHeartbeats 8000000 in
theorem mX0_goesThrough_9 (l : Launch) (X : gX) (σ : gS) (b : Nat → Nat) (U : Nat → Int → Int) (J : Nat → Int) (R : Int → Option Nat) (hX : XW X σ b U J R) (hT : okT (U 20)) (aa : Nat) (g : Int → Option Nat) (hA9 : σ aa = some (24, gV (X.2.1 8) 32 g)) (fa : Int → Nat) (hF9 : FW σ (fcZ (U 20) 0) fa) (lq : Nat) (hgA : ∀ a : Int, 0 ≤ a → a < 32 → g a = some (fa a)) (h0 : σ lq = some (9, gL 9 [.ref aa])) : gMet l X yX0_goesThrough cX0_goesThrough 4 none 5 0 0 118 σ [.ref (b 0), .ref lq] (oV (fun σ' => gKeep (fun t => t = 22) σ σ' ∧ (FW σ' (fcZ (U 20) 1024) fa))) := by
  refine gMet.of (by decide) (Nat.le_of_ble_eq_true rfl) ?_
  intro pp ee ss mm args below meth cd Q H locs ls hargs hx hb hr hlocks hml hown hnm hts hK hG hS hQ hl
  have hown : ss.vm.findClass RX0 = some mm.cls := hown
  have hl : lv_has ls 4 [(0, .ref (b 0)), (1, .ref lq)] := hl
  have hkp : gKeep (fun t => t = 22) σ σ := gKeep.rf
  refine g_iconst hx hb dX0_goesThrough_0 ?_
  refine lv_istore_n (lv' := [(2, .int (iI 0)), (0, .ref (b 0)), (1, .ref lq)]) hx hb dX0_goesThrough_1 rfl hl (by decide) rfl (fun ls hl => ?_)
  have loop_2 : ∀ (nF : Nat) (σM : gS) (x9 : Int), ((32 - x9).toNat : Nat) < nF → (gKeep (fun t => t = 22) σ σM) → (XW X σM b U J R) → (σM aa = some (24, gV (X.2.1 8) 32 g)) → (FW σM (fcZ (U 20) (32 * x9.toNat)) fa) → (0 ≤ x9 ∧ x9 ≤ 32) → ∀ (H : Heap) (locs : List Loc) (ls : Array Slot), gSat X σM H → va_S (gA X) ss.heap H locs → lv_has ls 4 [(2, .int (iI x9)), (0, .ref (b 0)), (1, .ref lq)] → W pp l ee (gR 5 0 0 118) ss mm args below meth cd H locs 0 0 Q (F0 mm 2 ls []) := by
    intro nF
    induction nF with
    | zero => intro σM x9 hm; exact absurd hm (Nat.not_lt_zero _)
    | succ nF ih_2 =>
      intro σM x9 hm hkM hXM hAAM hGM hi2_4 H locs ls hG hS hl
      refine lv_iload_n hx hb dX0_goesThrough_2 rfl (lv_at hl 0 rfl) ?_
      refine g_bipush hx hb dX0_goesThrough_3 (by decide) ?_
      refine g_icmp_ge (tgt := 45) hx hb dX0_goesThrough_5 (by decide) (by omega) (by omega) (fun cq1 => ?_) (fun cq1 => ?_)
      · exact g_vret hx hb hr hlocks hQ hG hS (Nat.zero_le _) (Nat.zero_le _) ⟨rfl, hkM, (by rw [show 1024 = 32 * x9.toNat by omega]; exact hGM)⟩ dX0_goesThrough_45
      · refine g_iconst hx hb dX0_goesThrough_8 ?_
        refine lv_istore_n (lv' := [(3, .int (iI 0)), (2, .int (iI x9)), (0, .ref (b 0)), (1, .ref lq)]) hx hb dX0_goesThrough_9 rfl hl (by decide) rfl (fun ls hl => ?_)
        have loop_10 : ∀ (nF : Nat) (σL : gS) (y9 : Int), ((32 - y9).toNat : Nat) < nF → (gKeep (fun t => t = 22) σ σL) → (XW X σL b U J R) → (σL aa = some (24, gV (X.2.1 8) 32 g)) → (FW σL (fcZ (U 20) (32 * x9.toNat + y9.toNat)) fa) → (0 ≤ y9 ∧ y9 ≤ 32) → ∀ (H : Heap) (locs : List Loc) (ls : Array Slot), gSat X σL H → va_S (gA X) ss.heap H locs → lv_has ls 4 [(3, .int (iI y9)), (2, .int (iI x9)), (0, .ref (b 0)), (1, .ref lq)] → W pp l ee (gR 5 0 0 118) ss mm args below meth cd H locs 0 0 Q (F0 mm 10 ls []) := by
          intro nF
          induction nF with
          | zero => intro σL y9 hm; exact absurd hm (Nat.not_lt_zero _)
          | succ nF ih_10 =>
            intro σL y9 hm hkL hXL hAAL hGL hi10_4 H locs ls hG hS hl
            refine lv_iload_n hx hb dX0_goesThrough_10 rfl (lv_at hl 0 rfl) ?_
            refine g_bipush hx hb dX0_goesThrough_11 (by decide) ?_
            refine g_icmp_ge (tgt := 39) hx hb dX0_goesThrough_13 (by decide) (by omega) (by omega) (fun cq2 => ?_) (fun cq2 => ?_)
            · refine g_iinc (lv' := [(2, .int (iI (x9 + 1))), (3, .int (iI y9)), (0, .ref (b 0)), (1, .ref lq)]) hx hb dX0_goesThrough_39 hl (k := 1) rfl (by decide) rfl (fun ls hl => ?_)
              refine lv_goto (tgt := 2) hx hb dX0_goesThrough_42 (by decide) ?_
              exact ih_2 σL (x9 + 1) (by omega) (hkL) (hXL) (hAAL) ((by rw [show 32 * (x9 + 1).toNat = 32 * x9.toNat + y9.toNat by omega]; exact hGL)) (by omega)  _ _ _ hG hS (lv_sub hl [0, 2, 3] rfl)
            · refine lv_aload_n hx hb dX0_goesThrough_16 rfl (lv_at hl 3 rfl) ?_
              refine lv_iload_n hx hb dX0_goesThrough_17 rfl (lv_at hl 1 rfl) ?_
              refine lv_iload_n hx hb dX0_goesThrough_18 rfl (lv_at hl 0 rfl) ?_
              refine g_callS (As := [.int (iI x9), .int (iI y9)]) (rest := [.ref lq]) 2 hx hb hml hown hts hK hG hS hl.1 (mX0_codeOf l X σL  x9 y9 (by omega) (by omega)) q387 q388 q69 q389 (by decide +kernel) rfl ⟨Nat.le_of_ble_eq_true rfl, Nat.le_of_ble_eq_true rfl⟩ ⟨Nat.le_of_ble_eq_true rfl, Nat.le_of_ble_eq_true rfl⟩ (Nat.le_of_ble_eq_true rfl) dX0_goesThrough_19 (kI (fun r3 σr3 H locs hp hG hS => ?_))
              obtain ⟨hr3, rfl⟩ := hp
              refine lv_aload_n hx hb dX0_goesThrough_22 rfl (lv_at hl 2 rfl) ?_
              refine lv_iload_n hx hb dX0_goesThrough_23 rfl (lv_at hl 1 rfl) ?_
              refine lv_iload_n hx hb dX0_goesThrough_24 rfl (lv_at hl 0 rfl) ?_
              refine g_callV (As := [.int (iI x9), .int (iI y9)]) (rest := [.int (iI r3), .ref lq]) 2 hx hb hml hown hts hK hG hS hl.1 (mX0_keptAt l X σL b U J R hXL hT x9 y9 (by omega) (by omega)) hXL.c0 rfl q606 q608 qs18 q69 q609 (by decide +kernel) rfl ⟨Nat.le_of_ble_eq_true rfl, Nat.le_of_ble_eq_true rfl⟩ ⟨Nat.le_of_ble_eq_true rfl, Nat.le_of_ble_eq_true rfl⟩ (Nat.le_of_ble_eq_true rfl) dX0_goesThrough_25 (kI (fun r4 σr4 H locs hp hG hS => ?_))
              obtain ⟨⟨hr4, kr4⟩, rfl⟩ := hp
              refine g_lc9 (rest := []) hx hb hml hown hts hK hG hS hl.1 (mX0_lambda_rank_3 l X σL fa (fcZ (U 20) (32 * x9.toNat + y9.toNat)) hGL aa g hAAL r3 r4 hgA (fun a => by have := fcZ_r (U 20) (32 * x9.toNat + y9.toNat) a; omega) (by omega)) (hkL _ _ _ h0 (by decide))  q664 (fun v σ' h => h.1) ⟨Nat.le_of_ble_eq_true rfl, Nat.le_of_ble_eq_true rfl⟩ ⟨Nat.le_of_ble_eq_true rfl, Nat.le_of_ble_eq_true rfl⟩ (Nat.le_of_ble_eq_true rfl) dX0_goesThrough_28 (kV (fun σr5 H locs hp hG hS => ?_))
              obtain ⟨kq6, hrel6⟩ := hp
              have hX_7 : XW X σr5 b U J R := hXL.keep kq6 (by first | decide | omega | (intro q9; dsimp only at q9; omega))
              have hAA_7 : σr5 aa = some (24, gV (X.2.1 8) 32 g) := kq6 _ _ _ hAAL (by first | decide | omega | (intro q9; dsimp only at q9; omega))
              have hkp7 : gKeep (fun t => t = 22) σ σr5 := hkL.tr (kq6.mono (fun t (h : t = 22) => (by show t = 22; omega)))
              have hn1 : ((32 * x9.toNat + y9.toNat : Nat) : Int) = 32 * x9 + y9 := by omega
              have hG_6 : FW σr5 (fcZ (U 20) (32 * x9.toNat + y9.toNat + 1)) fa := by
                rcases hrel6 with ⟨e, h⟩ | ⟨e, h⟩
                · exact h.cong (fun a h0 h1 => by rw [fcZ_y hn1 (by omega) hr4.symm, iup_n (by omega)])
                · rw [fcZ_y hn1 (by omega) hr4.symm]; exact h
              refine g_iinc (lv' := [(3, .int (iI (y9 + 1))), (2, .int (iI x9)), (0, .ref (b 0)), (1, .ref lq)]) hx hb dX0_goesThrough_33 hl (k := 0) rfl (by decide) rfl (fun ls hl => ?_)
              refine lv_goto (tgt := 10) hx hb dX0_goesThrough_36 (by decide) ?_
              exact ih_10 σr5 (y9 + 1) (by omega) (hkp7) (hX_7) (hAA_7) ((by rw [show 32 * x9.toNat + (y9 + 1).toNat = 32 * x9.toNat + y9.toNat + 1 by omega]; exact hG_6)) (by omega)  _ _ _ hG hS (lv_sub hl [0, 1, 2, 3] rfl)
        exact loop_10 _ σM 0 (Nat.lt_succ_self _) (hkM) (hXM) (hAAM) (hGM) (by omega)  _ _ _ hG hS (lv_sub hl [0, 1, 2, 3] rfl)
  exact loop_2 _ σ 0 (Nat.lt_succ_self _) (hkp) (hX) (hA9) (hF9) (by omega)  _ _ _ hG hS (lv_sub hl [0, 1, 2] rfl)

