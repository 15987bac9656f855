theorem gThUr {X : gX} {s : State} (hK : gIn X s) : ∃ u : Option Nat, va_Z "java/lang/Throwable" "UNASSIGNED_STACK" "[Ljava/lang/StackTraceElement;" (va_rf u) (gA X) s s.heap := by
  rcases (gThU hK).1 with h | ⟨t, h⟩
  · exact ⟨none, h⟩
  · exact ⟨some t, h⟩
theorem gThNr {X : gX} {s : State} (hK : gIn X s) : ∃ u : Option Nat, va_Z "java/lang/Throwable" "SUPPRESSED_SENTINEL" "Ljava/util/List;" (va_rf u) (gA X) s s.heap := by
  rcases (gThN hK).1 with h | ⟨t, h⟩
  · exact ⟨none, h⟩
  · exact ⟨some t, h⟩
/-- a number: (1, the place behind, it), else (0, the fault's place, 0) -/
def nmZ (t : Int → Int) (n p : Int) : Int × Int × Int :=
  if 49 ≤ hrZ t n p ∧ hrZ t n p ≤ 57 then (if 48 ≤ hrZ t n (p + 1) ∧ hrZ t n (p + 1) ≤ 57 then (if 10 * (hrZ t n p - 48) + hrZ t n (p + 1) - 48 < 31 then (1, p + 2, 10 * (hrZ t n p - 48) + hrZ t n (p + 1) - 48) else (0, p + 1, 0)) else (1, p + 1, hrZ t n p - 48)) else (0, p, 0)
theorem nmZ_y {t : Int → Int} {n p : Int} (h : (nmZ t n p).1 = 1) : trmZ t n p = tfZ t n (nmZ t n p).2.2 (nmZ t n p).2.1 := by
  unfold nmZ at h ⊢
  unfold trmZ
  split <;> rename_i h1
  · split <;> rename_i h2
    · split <;> rename_i h3
      · rfl
      · rw [if_pos h1, if_pos h2, if_neg h3] at h; exact absurd h (by show ¬ (0 : Int) = 1; decide)
    · rfl
  · rw [if_neg h1] at h; exact absurd h (by show ¬ (0 : Int) = 1; decide)
theorem nmZ_n {t : Int → Int} {n p : Int} (h : (nmZ t n p).1 = 0) : (trmZ t n p).1 = 0 ∧ (trmZ t n p).2.1 = (nmZ t n p).2.1 := by
  unfold nmZ at h ⊢
  unfold trmZ
  split <;> rename_i h1
  · split <;> rename_i h2
    · split <;> rename_i h3
      · rw [if_pos h1, if_pos h2, if_pos h3] at h; exact absurd h (by show ¬ (1 : Int) = 0; decide)
      · exact ⟨rfl, rfl⟩
    · rw [if_pos h1, if_neg h2] at h; exact absurd h (by show ¬ (1 : Int) = 0; decide)
  · exact ⟨rfl, rfl⟩
theorem heX {t : Int → Int} {n p r : Int} (hr : r = if p < n then t p else -1) (hv : ∀ q : Int, 0 ≤ q → q < n → 1 ≤ t q ∧ t q ≤ 127) (hp : 0 ≤ p) : (p < n ∧ r = hrZ t n p ∧ 1 ≤ r ∧ r ≤ 127) ∨ (¬ p < n ∧ r = -1 ∧ hrZ t n p = 0) := by
  unfold hrZ
  by_cases h : p < n
  · rw [if_pos h] at hr ⊢
    have := hv p hp h
    exact Or.inl ⟨h, hr, by omega, by omega⟩
  · rw [if_neg h] at hr ⊢
    exact Or.inr ⟨h, hr, rfl⟩

theorem mJ9_init_2 (l : Launch) (X : gX) (σ : gS) (z tz : Nat)  (hz : σ z = some (tz, gO 6 [.null, .null, .null, .null, .null, .int (iI 0), .int (iI 0)])) : gMet l X yJ9_init_2 cJ9_init_2 5 none 1 0 0 20 σ [.ref z, .null, .null, .int (iI 0), .int (iI 0)] (oV (fun σ' => σ' = gup σ z (tz, gO 6 [.null, .null, .null, .null, .null, .int (iI 0), .int (iI 0)]))) := by
  refine gMet.of (by decide) (Nat.le_of_ble_eq_true rfl) ?_
  intro pp ee ss mm args below meth cd Q H locs ls hargs hx hb hr hlocks hml hown hnm hts hK hG hS hQ hl
  have hown : ss.vm.findClass RJ9 = some mm.cls := hown
  have hl : lv_has ls 5 [(0, .ref z), (1, .null), (2, .null), (3, .int (iI 0)), (4, .int (iI 0))] := hl
  refine lv_aload_n hx hb dJ9_init_2_0 rfl (lv_at hl 0 rfl) ?_
  refine W.objInit hx hb hown (hts _ q285) (hts _ q123) (hts _ q124) rfl (by rw [hml]; exact hl.1) rfl dJ9_init_2_1 (Nat.le_of_ble_eq_true rfl) (Nat.le_of_ble_eq_true rfl) ?_
  refine W.eq (g2 := F0 mm 4 ls []) rfl ?_
  refine lv_aload_n hx hb dJ9_init_2_4 rfl (lv_at hl 0 rfl) ?_
  refine lv_aload_n hx hb dJ9_init_2_5 rfl (lv_at hl 0 rfl) ?_
  refine g_put (C := RX6) (T := TX6) (N := 7) (ty0 := tyX6) (v := .ref z) hx hb hts hown hK hG hS hz rfl in_X6 tyX6_ok nmX6 0 (by decide) q327 rfl (by decide) rfl rfl (Nat.le_of_ble_eq_true rfl) dJ9_init_2_6 (fun H locs hG hS => ?_)
  have hs1 : (gup σ z (tz, gO 6 ([.null, .null, .null, .null, .null, .int (iI 0), .int (iI 0)].set 0 (.ref z)))) = gup σ z (tz, gO 6 [.ref z, .null, .null, .null, .null, .int (iI 0), .int (iI 0)]) := by rfl
  have hL1 : (gup σ z (tz, gO 6 ([.null, .null, .null, .null, .null, .int (iI 0), .int (iI 0)].set 0 (.ref z)))) z = some (tz, gO 6 [.ref z, .null, .null, .null, .null, .int (iI 0), .int (iI 0)]) := gup_s
  generalize (gup σ z (tz, gO 6 ([.null, .null, .null, .null, .null, .int (iI 0), .int (iI 0)].set 0 (.ref z)))) = σ1 at hG hs1 hL1
  refine lv_aload_n hx hb dJ9_init_2_9 rfl (lv_at hl 0 rfl) ?_
  obtain ⟨u2, hu2⟩ := gThUr hK
  refine va_gets hx hb hu2 hS hown (hts _ q286) (fun _ h => h) dJ9_init_2_10 ?_
  refine g_put (C := RX6) (T := TX6) (N := 7) (ty0 := tyX6) (v := va_rf u2) hx hb hts hown hK hG hS hL1 rfl in_X6 tyX6_ok nmX6 1 (by decide) q328 rfl (by decide) (nrfA _) (frfA _) (Nat.le_of_ble_eq_true rfl) dJ9_init_2_13 (fun H locs hG hS => ?_)
  have hs3 : (gup σ1 z (tz, gO 6 ([.ref z, .null, .null, .null, .null, .int (iI 0), .int (iI 0)].set 1 (va_rf u2)))) = gup σ z (tz, gO 6 [.ref z, va_rf u2, .null, .null, .null, .int (iI 0), .int (iI 0)]) := by rw [hs1, gup_gup]; rfl
  have hL3 : (gup σ1 z (tz, gO 6 ([.ref z, .null, .null, .null, .null, .int (iI 0), .int (iI 0)].set 1 (va_rf u2)))) z = some (tz, gO 6 [.ref z, va_rf u2, .null, .null, .null, .int (iI 0), .int (iI 0)]) := gup_s
  generalize (gup σ1 z (tz, gO 6 ([.ref z, .null, .null, .null, .null, .int (iI 0), .int (iI 0)].set 1 (va_rf u2)))) = σ3 at hG hs3 hL3
  refine lv_aload_n hx hb dJ9_init_2_16 rfl (lv_at hl 0 rfl) ?_
  obtain ⟨u4, hu4⟩ := gThNr hK
  refine va_gets hx hb hu4 hS hown (hts _ q288) (fun _ h => h) dJ9_init_2_17 ?_
  refine g_put (C := RX6) (T := TX6) (N := 7) (ty0 := tyX6) (v := va_rf u4) hx hb hts hown hK hG hS hL3 rfl in_X6 tyX6_ok nmX6 2 (by decide) q329 rfl (by decide) (nrf _) (frf _) (Nat.le_of_ble_eq_true rfl) dJ9_init_2_20 (fun H locs hG hS => ?_)
  have hs5 : (gup σ3 z (tz, gO 6 ([.ref z, va_rf u2, .null, .null, .null, .int (iI 0), .int (iI 0)].set 2 (va_rf u4)))) = gup σ z (tz, gO 6 [.ref z, va_rf u2, va_rf u4, .null, .null, .int (iI 0), .int (iI 0)]) := by rw [hs3, gup_gup]; rfl
  have hL5 : (gup σ3 z (tz, gO 6 ([.ref z, va_rf u2, .null, .null, .null, .int (iI 0), .int (iI 0)].set 2 (va_rf u4)))) z = some (tz, gO 6 [.ref z, va_rf u2, va_rf u4, .null, .null, .int (iI 0), .int (iI 0)]) := gup_s
  generalize (gup σ3 z (tz, gO 6 ([.ref z, va_rf u2, .null, .null, .null, .int (iI 0), .int (iI 0)].set 2 (va_rf u4)))) = σ5 at hG hs5 hL5
  refine lv_iload hx hb dJ9_init_2_23 (lv_at hl 4 rfl) ?_
  refine g_if_eq (tgt := 36) hx hb dJ9_init_2_25 (by decide) (by omega) (fun cq6 => ?_) (fun cq6 => absurd cq6 (by decide))
  refine lv_aload_n hx hb dJ9_init_2_36 rfl (lv_at hl 0 rfl) ?_
  refine lv_null hx hb dJ9_init_2_37 ?_
  refine g_put (C := RX6) (T := TX6) (N := 7) (ty0 := tyX6) (v := .null) hx hb hts hown hK hG hS hL5 rfl in_X6 tyX6_ok nmX6 1 (by decide) q328 rfl (by decide) rfl rfl (Nat.le_of_ble_eq_true rfl) dJ9_init_2_38 (fun H locs hG hS => ?_)
  have hs7 : (gup σ5 z (tz, gO 6 ([.ref z, va_rf u2, va_rf u4, .null, .null, .int (iI 0), .int (iI 0)].set 1 (.null)))) = gup σ z (tz, gO 6 [.ref z, .null, va_rf u4, .null, .null, .int (iI 0), .int (iI 0)]) := by rw [hs5, gup_gup]; rfl
  have hL7 : (gup σ5 z (tz, gO 6 ([.ref z, va_rf u2, va_rf u4, .null, .null, .int (iI 0), .int (iI 0)].set 1 (.null)))) z = some (tz, gO 6 [.ref z, .null, va_rf u4, .null, .null, .int (iI 0), .int (iI 0)]) := gup_s
  generalize (gup σ5 z (tz, gO 6 ([.ref z, va_rf u2, va_rf u4, .null, .null, .int (iI 0), .int (iI 0)].set 1 (.null)))) = σ7 at hG hs7 hL7
  refine lv_aload_n hx hb dJ9_init_2_41 rfl (lv_at hl 0 rfl) ?_
  refine lv_aload_nN hx hb dJ9_init_2_42 rfl (lv_at hl 1 rfl) ?_
  refine g_put (C := RX6) (T := TX6) (N := 7) (ty0 := tyX6) (v := .null) hx hb hts hown hK hG hS hL7 rfl in_X6 tyX6_ok nmX6 3 (by decide) q326 rfl (by decide) rfl rfl (Nat.le_of_ble_eq_true rfl) dJ9_init_2_43 (fun H locs hG hS => ?_)
  have hs8 : (gup σ7 z (tz, gO 6 ([.ref z, .null, va_rf u4, .null, .null, .int (iI 0), .int (iI 0)].set 3 (.null)))) = gup σ z (tz, gO 6 [.ref z, .null, va_rf u4, .null, .null, .int (iI 0), .int (iI 0)]) := by rw [hs7, gup_gup]; rfl
  have hL8 : (gup σ7 z (tz, gO 6 ([.ref z, .null, va_rf u4, .null, .null, .int (iI 0), .int (iI 0)].set 3 (.null)))) z = some (tz, gO 6 [.ref z, .null, va_rf u4, .null, .null, .int (iI 0), .int (iI 0)]) := gup_s
  generalize (gup σ7 z (tz, gO 6 ([.ref z, .null, va_rf u4, .null, .null, .int (iI 0), .int (iI 0)].set 3 (.null)))) = σ8 at hG hs8 hL8
  refine lv_aload_n hx hb dJ9_init_2_46 rfl (lv_at hl 0 rfl) ?_
  refine lv_aload_nN hx hb dJ9_init_2_47 rfl (lv_at hl 2 rfl) ?_
  refine g_put (C := RX6) (T := TX6) (N := 7) (ty0 := tyX6) (v := .null) hx hb hts hown hK hG hS hL8 rfl in_X6 tyX6_ok nmX6 0 (by decide) q327 rfl (by decide) rfl rfl (Nat.le_of_ble_eq_true rfl) dJ9_init_2_48 (fun H locs hG hS => ?_)
  have hs9 : (gup σ8 z (tz, gO 6 ([.ref z, .null, va_rf u4, .null, .null, .int (iI 0), .int (iI 0)].set 0 (.null)))) = gup σ z (tz, gO 6 [.null, .null, va_rf u4, .null, .null, .int (iI 0), .int (iI 0)]) := by rw [hs8, gup_gup]; rfl
  have hL9 : (gup σ8 z (tz, gO 6 ([.ref z, .null, va_rf u4, .null, .null, .int (iI 0), .int (iI 0)].set 0 (.null)))) z = some (tz, gO 6 [.null, .null, va_rf u4, .null, .null, .int (iI 0), .int (iI 0)]) := gup_s
  generalize (gup σ8 z (tz, gO 6 ([.ref z, .null, va_rf u4, .null, .null, .int (iI 0), .int (iI 0)].set 0 (.null)))) = σ9 at hG hs9 hL9
  refine lv_iload_n hx hb dJ9_init_2_51 rfl (lv_at hl 3 rfl) ?_
  refine g_if_ne (tgt := 60) hx hb dJ9_init_2_52 (by decide) (by omega) (fun cq10 => absurd cq10 (by decide)) (fun cq10 => ?_)
  refine lv_aload_n hx hb dJ9_init_2_55 rfl (lv_at hl 0 rfl) ?_
  refine lv_null hx hb dJ9_init_2_56 ?_
  refine g_put (C := RX6) (T := TX6) (N := 7) (ty0 := tyX6) (v := .null) hx hb hts hown hK hG hS hL9 rfl in_X6 tyX6_ok nmX6 2 (by decide) q329 rfl (by decide) rfl rfl (Nat.le_of_ble_eq_true rfl) dJ9_init_2_57 (fun H locs hG hS => ?_)
  have hs11 : (gup σ9 z (tz, gO 6 ([.null, .null, va_rf u4, .null, .null, .int (iI 0), .int (iI 0)].set 2 (.null)))) = gup σ z (tz, gO 6 [.null, .null, .null, .null, .null, .int (iI 0), .int (iI 0)]) := by rw [hs9, gup_gup]; rfl
  have hL11 : (gup σ9 z (tz, gO 6 ([.null, .null, va_rf u4, .null, .null, .int (iI 0), .int (iI 0)].set 2 (.null)))) z = some (tz, gO 6 [.null, .null, .null, .null, .null, .int (iI 0), .int (iI 0)]) := gup_s
  generalize (gup σ9 z (tz, gO 6 ([.null, .null, va_rf u4, .null, .null, .int (iI 0), .int (iI 0)].set 2 (.null)))) = σ11 at hG hs11 hL11
  exact g_vret hx hb hr hlocks hQ hG hS (Nat.zero_le _) (Nat.zero_le _) ⟨rfl, hs11⟩ dJ9_init_2_60

theorem mJ10_init_2 (l : Launch) (X : gX) (σ : gS) (z tz : Nat)  (hz : σ z = some (tz, gO 6 [.null, .null, .null, .null, .null, .int (iI 0), .int (iI 0)])) : gMet l X yJ10_init_2 cJ10_init_2 5 none 2 0 0 44 σ [.ref z, .null, .null, .int (iI 0), .int (iI 0)] (oV (fun σ' => σ' = gup σ z (tz, gO 6 [.null, .null, .null, .null, .null, .int (iI 0), .int (iI 0)]))) := by
  refine gMet.of (by decide) (Nat.le_of_ble_eq_true rfl) ?_
  intro pp ee ss mm args below meth cd Q H locs ls hargs hx hb hr hlocks hml hown hnm hts hK hG hS hQ hl
  have hown : ss.vm.findClass RJ10 = some mm.cls := hown
  have hl : lv_has ls 5 [(0, .ref z), (1, .null), (2, .null), (3, .int (iI 0)), (4, .int (iI 0))] := hl
  refine lv_aload_n hx hb dJ10_init_2_0 rfl (lv_at hl 0 rfl) ?_
  refine lv_aload_nN hx hb dJ10_init_2_1 rfl (lv_at hl 1 rfl) ?_
  refine lv_aload_nN hx hb dJ10_init_2_2 rfl (lv_at hl 2 rfl) ?_
  refine lv_iload_n hx hb dJ10_init_2_3 rfl (lv_at hl 3 rfl) ?_
  refine lv_iload hx hb dJ10_init_2_4 (lv_at hl 4 rfl) ?_
  refine g_callI (As := [.null, .null, .int (iI 0), .int (iI 0)]) (rest := []) 4 hx hb hml hown hts hK hG hS hl.1 (mJ9_init_2 l X σ z _ hz) q570 q571 q82 q572 rfl (by decide +kernel) rfl ⟨Nat.le_of_ble_eq_true rfl, Nat.le_of_ble_eq_true rfl⟩ ⟨Nat.le_of_ble_eq_true rfl, Nat.le_of_ble_eq_true rfl⟩ (Nat.le_of_ble_eq_true rfl) dJ10_init_2_6 (kV (fun σr1 H locs hp hG hS => ?_))
  have hp : σr1 = (gup σ z (tz, gO 6 [.null, .null, .null, .null, .null, .int (iI 0), .int (iI 0)])) := hp
  have hL2 : σr1 z = some (tz, gO 6 [.null, .null, .null, .null, .null, .int (iI 0), .int (iI 0)]) := by rw [hp]; exact gup_s
  exact g_vret hx hb hr hlocks hQ hG hS (Nat.zero_le _) (Nat.zero_le _) ⟨rfl, hp⟩ dJ10_init_2_9

theorem mX6_init (l : Launch) (X : gX) (σ : gS) (z tz : Nat) (pl : Int) (hz : σ z = some (tz, gO 6 [.null, .null, .null, .null, .null, .int (iI 0), .int (iI 0)])) : gMet l X yX6_init cX6_init 2 none 3 0 0 68 σ [.ref z, .int (iI pl)] (oV (fun σ' => σ' = gup σ z (tz, gO 6 [.null, .null, .null, .null, .null, .int (iI 0), .int (iI pl)]))) := by
  refine gMet.of (by decide) (Nat.le_of_ble_eq_true rfl) ?_
  intro pp ee ss mm args below meth cd Q H locs ls hargs hx hb hr hlocks hml hown hnm hts hK hG hS hQ hl
  have hown : ss.vm.findClass RX6 = some mm.cls := hown
  have hl : lv_has ls 2 [(0, .ref z), (1, .int (iI pl))] := hl
  refine lv_aload_n hx hb dX6_init_0 rfl (lv_at hl 0 rfl) ?_
  refine lv_null hx hb dX6_init_1 ?_
  refine lv_null hx hb dX6_init_2 ?_
  refine g_iconst hx hb dX6_init_3 ?_
  refine g_iconst hx hb dX6_init_4 ?_
  refine g_callI (As := [.null, .null, .int (iI 0), .int (iI 0)]) (rest := []) 4 hx hb hml hown hts hK hG hS hl.1 (mJ10_init_2 l X σ z _ hz) q567 q568 q83 q569 rfl (by decide +kernel) rfl ⟨Nat.le_of_ble_eq_true rfl, Nat.le_of_ble_eq_true rfl⟩ ⟨Nat.le_of_ble_eq_true rfl, Nat.le_of_ble_eq_true rfl⟩ (Nat.le_of_ble_eq_true rfl) dX6_init_5 (kV (fun σr1 H locs hp hG hS => ?_))
  have hp : σr1 = (gup σ z (tz, gO 6 [.null, .null, .null, .null, .null, .int (iI 0), .int (iI 0)])) := hp
  have hL2 : σr1 z = some (tz, gO 6 [.null, .null, .null, .null, .null, .int (iI 0), .int (iI 0)]) := by rw [hp]; exact gup_s
  refine lv_aload_n hx hb dX6_init_8 rfl (lv_at hl 0 rfl) ?_
  refine lv_iload_n hx hb dX6_init_9 rfl (lv_at hl 1 rfl) ?_
  refine g_putF (C := RX6) (T := TX6) (N := 7) (ty0 := tyX6) (v := .int (iI pl)) hx hb hts hown hK hG hS hL2 rfl in_X6 tyX6_ok nmX6 6 (by decide) q573 rfl (by decide) hnm rfl rfl rfl (Nat.le_of_ble_eq_true rfl) dX6_init_10 (fun H locs hG hS => ?_)
  have hs3 : (gup σr1 z (tz, gO 6 ([.null, .null, .null, .null, .null, .int (iI 0), .int (iI 0)].set 6 (.int (iI pl))))) = gup σ z (tz, gO 6 [.null, .null, .null, .null, .null, .int (iI 0), .int (iI pl)]) := by rw [hp, gup_gup]; rfl
  have hL3 : (gup σr1 z (tz, gO 6 ([.null, .null, .null, .null, .null, .int (iI 0), .int (iI 0)].set 6 (.int (iI pl))))) z = some (tz, gO 6 [.null, .null, .null, .null, .null, .int (iI 0), .int (iI pl)]) := gup_s
  generalize (gup σr1 z (tz, gO 6 ([.null, .null, .null, .null, .null, .int (iI 0), .int (iI 0)].set 6 (.int (iI pl))))) = σ3 at hG hs3 hL3
  exact g_vret hx hb hr hlocks hQ hG hS (Nat.zero_le _) (Nat.zero_le _) ⟨rfl, hs3⟩ dX6_init_13

theorem mX5_init (l : Launch) (X : gX) (σ : gS) (z tz : Nat) (o9 : Nat) (hz : σ z = some (tz, gO 5 [.int (iI 0), .null])) : gMet l X yX5_init cX5_init 2 none 1 0 0 20 σ [.ref z, .ref o9] (oV (fun σ' => σ' = gup σ z (tz, gO 5 [.int (iI 0), .ref o9]))) := by
  refine gMet.of (by decide) (Nat.le_of_ble_eq_true rfl) ?_
  intro pp ee ss mm args below meth cd Q H locs ls hargs hx hb hr hlocks hml hown hnm hts hK hG hS hQ hl
  have hown : ss.vm.findClass RX5 = some mm.cls := hown
  have hl : lv_has ls 2 [(0, .ref z), (1, .ref o9)] := hl
  refine lv_aload_n hx hb dX5_init_0 rfl (lv_at hl 0 rfl) ?_
  refine lv_aload_n hx hb dX5_init_1 rfl (lv_at hl 1 rfl) ?_
  refine g_putF (C := RX5) (T := TX5) (N := 2) (ty0 := tyX5) (v := .ref o9) hx hb hts hown hK hG hS hz rfl in_X5 tyX5_ok nmX5 1 (by decide) q526 rfl (by decide) hnm rfl rfl rfl (Nat.le_of_ble_eq_true rfl) dX5_init_2 (fun H locs hG hS => ?_)
  have hs1 : (gup σ z (tz, gO 5 ([.int (iI 0), .null].set 1 (.ref o9)))) = gup σ z (tz, gO 5 [.int (iI 0), .ref o9]) := by rfl
  have hL1 : (gup σ z (tz, gO 5 ([.int (iI 0), .null].set 1 (.ref o9)))) z = some (tz, gO 5 [.int (iI 0), .ref o9]) := gup_s
  generalize (gup σ z (tz, gO 5 ([.int (iI 0), .null].set 1 (.ref o9)))) = σ1 at hG hs1 hL1
  refine lv_aload_n hx hb dX5_init_5 rfl (lv_at hl 0 rfl) ?_
  refine W.objInit hx hb hown (hts _ q524) (hts _ q123) (hts _ q124) rfl (by rw [hml]; exact hl.1) rfl dX5_init_6 (Nat.le_of_ble_eq_true rfl) (Nat.le_of_ble_eq_true rfl) ?_
  refine W.eq (g2 := F0 mm 9 ls []) rfl ?_
  exact g_vret hx hb hr hlocks hQ hG hS (Nat.zero_le _) (Nat.zero_le _) ⟨rfl, hs1⟩ dX5_init_9

set_option maxHeartbeats 4000000 in
theorem mX5_here (l : Launch) (X : gX) (σ : gS) (b : Nat → Nat) (U : Nat → Int → Int) (J : Nat → Int) (R : Int → Option Nat) (hX : XW X σ b U J R) (hT : okT (U 20)) (rd : Nat) (p : Int) (hD : σ rd = some (19, gO 5 [.int (iI p), .ref (b 0)])) (hTp : 0 ≤ J 6 ∧ J 6 ≤ 60) (hTv : ∀ q : Int, 0 ≤ q → q < J 6 → 1 ≤ U 5 q ∧ U 5 q ≤ 127) (hAt : 0 ≤ p ∧ p ≤ J 6)   : gMet l X yX5_here cX5_here 1 (some .int) 0 0 0 0 σ [.ref rd] (oI (fun r σ' => (r = (if p < J 6 then U 5 p else -1) ∧ (-1 ≤ r ∧ r ≤ 127)) ∧ σ = σ')) := by
  refine gMet.of (by decide) (Nat.le_of_ble_eq_true rfl) ?_
  intro pp ee ss mm args below meth cd Q H locs ls hargs hx hb hr hlocks hml hown hnm hts hK hG hS hQ hl
  have hown : ss.vm.findClass RX5 = some mm.cls := hown
  have hl : lv_has ls 1 [(0, .ref rd)] := hl
  refine lv_aload_n hx hb dX5_here_0 rfl (lv_at hl 0 rfl) ?_
  refine g_get (C := RX5) (T := TX5) (N := 2) (v := .int (iI p)) hx hb hts hown hK hG hD rfl in_X5 0 (by decide) q525 rfl rfl dX5_here_1 ?_
  refine lv_aload_n hx hb dX5_here_4 rfl (lv_at hl 0 rfl) ?_
  refine g_get (C := RX5) (T := TX5) (N := 2) (v := .ref (b 0)) hx hb hts hown hK hG hD rfl in_X5 1 (by decide) q526 rfl rfl dX5_here_5 ?_
  refine g_getN (C := RX0) (T := TX0) (N := 20) (v := .int (iI (J 6))) hx hb hts hown hK hG hX.c0 rfl in_X0 6 (by decide) q427 rfl rfl dX5_here_8 ?_
  refine g_icmp_ge (tgt := 29) hx hb dX5_here_11 (by decide) (by omega) (by omega) (fun cq1 => ?_) (fun cq1 => ?_)
  · refine g_iconst hx hb dX5_here_29 ?_
    exact g_iret hx hb hr hlocks hQ hG hS (Nat.zero_le _) (Nat.zero_le _) ⟨_, rfl, ⟨(by first | rw [if_pos (by omega)] | rw [if_neg (by omega)]), (by omega)⟩, rfl⟩ dX5_here_30
  · refine lv_aload_n hx hb dX5_here_14 rfl (lv_at hl 0 rfl) ?_
    refine g_get (C := RX5) (T := TX5) (N := 2) (v := .ref (b 0)) hx hb hts hown hK hG hD rfl in_X5 1 (by decide) q526 rfl rfl dX5_here_15 ?_
    refine g_getN (C := RX0) (T := TX0) (N := 20) (v := .ref (b 5)) hx hb hts hown hK hG hX.c0 rfl in_X0 5 (by decide) q425 rfl rfl dX5_here_18 ?_
    refine lv_aload_n hx hb dX5_here_21 rfl (lv_at hl 0 rfl) ?_
    refine g_get (C := RX5) (T := TX5) (N := 2) (v := .int (iI p)) hx hb hts hown hK hG hD rfl in_X5 0 (by decide) q525 rfl rfl dX5_here_22 ?_
    refine g_bald hx hb hK hG hX.c5 dX5_here_25 (by omega) ?_
    have hvr := hTv p (by omega) (by omega)
    refine lv_goto (tgt := 30) hx hb dX5_here_26 (by decide) ?_
    exact g_iret hx hb hr hlocks hQ hG hS (Nat.zero_le _) (Nat.zero_le _) ⟨_, rfl, ⟨(by first | rw [if_pos (by omega)] | rw [if_neg (by omega)]), (by omega)⟩, rfl⟩ dX5_here_30

set_option maxHeartbeats 8000000 in
theorem mX5_must (l : Launch) (X : gX) (σ : gS) (b : Nat → Nat) (U : Nat → Int → Int) (J : Nat → Int) (R : Int → Option Nat) (hX : XW X σ b U J R) (hT : okT (U 20)) (rd : Nat) (p : Int) (hD : σ rd = some (19, gO 5 [.int (iI p), .ref (b 0)])) (z : Int)  (h0 : z = 0 ∨ z = 1) : gMetX l X yX5_must cX5_must 2 none 4 1 7 89 σ [.ref rd, .int (iI z)] (oV (fun σ' => gKeep (fun t => t = 0) σ σ' ∧ (z = 1 ∧ σ = σ'))) (fun q σ' => ∃ pl : Int, σ' q = some (19, gO 6 [.null, .null, .null, .null, .null, .int (iI 0), .int (iI pl)]) ∧ (z = 0 ∧ pl = p ∧ gKeep (fun t => t = 0) σ σ')) := by
  refine gMetX.of (by decide) (Nat.le_of_ble_eq_true rfl) ?_
  intro pp ee ss mm args below meth cd Q H locs ls hargs hx hb hr hlocks hml hown hnm hts hK hG hS hQ hl hqx
  have hown : ss.vm.findClass RX5 = some mm.cls := hown
  have hl : lv_has ls 2 [(0, .ref rd), (1, .int (iI z))] := hl
  have hkp : gKeep (fun t => t = 0) σ σ := gKeep.rf
  refine lv_iload_n hx hb dX5_must_0 rfl (lv_at hl 1 rfl) ?_
  refine g_if_ne (tgt := 16) hx hb dX5_must_1 (by decide) (by omega) (fun cq1 => ?_) (fun cq1 => ?_)
  · exact g_vret hx hb hr hlocks hQ hG hS (Nat.zero_le _) (Nat.zero_le _) ⟨rfl, hkp, (⟨by omega, rfl⟩)⟩ dX5_must_16
  · refine g_new (ci := 6) (C := RX6) (T := TX6) (N := 7) (ty := tyX6) (fs := [.null, .null, .null, .null, .null, .int (iI 0), .int (iI 0)]) hx hb 19 hts hown hK hG hS rfl in_X6 tyX6_ok q555 q556 q88 (fun j hj => match j, hj with | 0, _ => rfl | 1, _ => rfl | 2, _ => rfl | 3, _ => rfl | 4, _ => rfl | 5, _ => rfl | 6, _ => rfl | k9 + 7, h => absurd h (by omega)) (Nat.le_of_ble_eq_true rfl) (Nat.le_of_ble_eq_true rfl) dX5_must_4 (fun nw2 H hznw2 hG hS => ?_)
    have hLnw2 : (gup σ nw2 (19, gO 6 [.null, .null, .null, .null, .null, .int (iI 0), .int (iI 0)])) nw2 = some (19, gO 6 [.null, .null, .null, .null, .null, .int (iI 0), .int (iI 0)]) := gup_s
    have hDn3 : (gup σ nw2 (19, gO 6 [.null, .null, .null, .null, .null, .int (iI 0), .int (iI 0)])) rd = some (19, gO 5 [.int (iI p), .ref (b 0)]) := (gKeep.new hznw2 : gKeep (fun _ => False) σ (gup σ nw2 (19, gO 6 [.null, .null, .null, .null, .null, .int (iI 0), .int (iI 0)]))) _ _ _ hD (fun h => h)
    generalize hgen3 : (gup σ nw2 (19, gO 6 [.null, .null, .null, .null, .null, .int (iI 0), .int (iI 0)])) = σ3 at hG hLnw2 hDn3
    refine lv_dup hx hb dX5_must_7 rfl ?_
    refine lv_aload_n hx hb dX5_must_8 rfl (lv_at hl 0 rfl) ?_
    refine g_get (C := RX5) (T := TX5) (N := 2) (v := .int (iI p)) hx hb hts hown hK hG hDn3 rfl in_X5 0 (by decide) q525 rfl rfl dX5_must_9 ?_
    refine g_callI (As := [.int (iI p)]) (rest := [.ref nw2]) 1 hx hb hml hown hts hK hG hS hl.1 (mX6_init l X σ3 nw2 _ p hLnw2) q564 q565 q88 q566 rfl (by decide +kernel) rfl ⟨Nat.le_of_ble_eq_true rfl, Nat.le_of_ble_eq_true rfl⟩ ⟨Nat.le_of_ble_eq_true rfl, Nat.le_of_ble_eq_true rfl⟩ (Nat.le_of_ble_eq_true rfl) dX5_must_12 (kV (fun σr4 H locs hp hG hS => ?_))
    have hp : σr4 = (gup σ3 nw2 (19, gO 6 [.null, .null, .null, .null, .null, .int (iI 0), .int (iI p)])) := hp
    have hL5 : σr4 nw2 = some (19, gO 6 [.null, .null, .null, .null, .null, .int (iI 0), .int (iI p)]) := by rw [hp]; exact gup_s
    have hp5 : σr4 = (gup σ nw2 (19, gO 6 [.null, .null, .null, .null, .null, .int (iI 0), .int (iI p)])) := by rw [hp, ← hgen3, gup_gup]
    have hX_f5 : XW X σr4 b U J R := by rw [hp5]; exact hX.keep (gKeep.new hznw2 : gKeep (fun _ => False) _ _) (fun h => h)
    have hD_f5 : σr4 rd = some (19, gO 5 [.int (iI p), .ref (b 0)]) := by rw [hp5]; exact (gKeep.new hznw2 : gKeep (fun _ => False) _ _) _ _ _ hD (fun h => h)
    have hkp_f5 : gKeep (fun t => t = 0) σ σr4 := by rw [hp5]; exact hkp.tr (gKeep.new hznw2)
    exact vx_athrow hx hb dX5_must_15 (hqx _ _ _ _ _ _ _ nw2 19 [.null, .null, .null, .null, .null, .int (iI 0), .int (iI p)] _ ⟨p, hL5, (by omega), rfl, hkp_f5⟩ hG hS (Nat.le_of_ble_eq_true rfl) (Nat.le_of_ble_eq_true rfl) hL5)

set_option maxHeartbeats 8000000 in
theorem mX5_number (l : Launch) (X : gX) (σ : gS) (b : Nat → Nat) (U : Nat → Int → Int) (J : Nat → Int) (R : Int → Option Nat) (hX : XW X σ b U J R) (hT : okT (U 20)) (rd : Nat) (p : Int) (hD : σ rd = some (19, gO 5 [.int (iI p), .ref (b 0)]))  (hTp : 0 ≤ J 6 ∧ J 6 ≤ 60) (hTv : ∀ q : Int, 0 ≤ q → q < J 6 → 1 ≤ U 5 q ∧ U 5 q ≤ 127) (hAt : 0 ≤ p ∧ p ≤ J 6)  : gMetX l X yX5_number cX5_number 2 (some .int) 5 2 14 110 σ [.ref rd] (oI (fun r σ' => gKeep (fun t => t = 19 ∨ t = 0) σ σ' ∧ ((nmZ (U 5) (J 6) p).1 = 1 ∧ r = (nmZ (U 5) (J 6) p).2.2 ∧ σ' rd = some (19, gO 5 [.int (iI (nmZ (U 5) (J 6) p).2.1), .ref (b 0)])))) (fun q σ' => ∃ pl : Int, σ' q = some (19, gO 6 [.null, .null, .null, .null, .null, .int (iI 0), .int (iI pl)]) ∧ ((nmZ (U 5) (J 6) p).1 = 0 ∧ pl = (nmZ (U 5) (J 6) p).2.1 ∧ gKeep (fun t => t = 19 ∨ t = 0) σ σ')) := by
  refine gMetX.of (by decide) (Nat.le_of_ble_eq_true rfl) ?_
  intro pp ee ss mm args below meth cd Q H locs ls hargs hx hb hr hlocks hml hown hnm hts hK hG hS hQ hl hqx
  have hown : ss.vm.findClass RX5 = some mm.cls := hown
  have hl : lv_has ls 2 [(0, .ref rd)] := hl
  have hkp : gKeep (fun t => t = 19 ∨ t = 0) σ σ := gKeep.rf
  refine lv_aload_n hx hb dX5_number_0 rfl (lv_at hl 0 rfl) ?_
  refine lv_aload_n hx hb dX5_number_1 rfl (lv_at hl 0 rfl) ?_
  refine g_callV (As := []) (rest := [.ref rd]) 0 hx hb hml hown hts hK hG hS hl.1 (mX5_here l X σ b U J R hX hT rd p hD hTp hTv (by omega)  ) hD rfl q544 q546 qs14 q87 q547 (by decide +kernel) rfl ⟨Nat.le_of_ble_eq_true rfl, Nat.le_of_ble_eq_true rfl⟩ ⟨Nat.le_of_ble_eq_true rfl, Nat.le_of_ble_eq_true rfl⟩ (Nat.le_of_ble_eq_true rfl) dX5_number_2 (kI (fun r1 σr1 H locs hp hG hS => ?_))
  obtain ⟨⟨hr1, kr1⟩, rfl⟩ := hp
  have hzr1 := heX hr1 hTv (by omega)
  refine g_i2l hx hb dX5_number_5 (by omega) ?_
  refine g_ldc2 hx hb (49) hown (hts _ q548) (by decide) dX5_number_6 ?_
  refine g_ldc2 hx hb (57) hown (hts _ q549) (by decide) dX5_number_9 ?_
  refine g_callSN (As := [.long (lI r1), .long (lI (49)), .long (lI (57))]) (rest := [.ref rd]) 3 hx hb hml hown hts hK hG hS hl.1 (mX0_isIn l X σ  r1 (49) (57) (by omega) (by omega) (by omega)) q550 q495 q69 q496 (by decide +kernel) rfl ⟨Nat.le_of_ble_eq_true rfl, Nat.le_of_ble_eq_true rfl⟩ ⟨Nat.le_of_ble_eq_true rfl, Nat.le_of_ble_eq_true rfl⟩ (Nat.le_of_ble_eq_true rfl) dX5_number_12 (kI (fun r2 σr2 H locs hp hG hS => ?_))
  obtain ⟨hr2, rfl⟩ := hp
  refine g_callVX (As := [.int (iI r2)]) (rest := []) 1 hx hb hml hown hts hK hG hS hl.1 (mX5_must l X σ b U J R hX hT rd p hD r2 (by omega)) hD rfl q551 q553 qs15 q87 q554 (by decide +kernel) rfl ⟨Nat.le_of_ble_eq_true rfl, Nat.le_of_ble_eq_true rfl⟩ ⟨Nat.le_of_ble_eq_true rfl, Nat.le_of_ble_eq_true rfl⟩ (Nat.le_of_ble_eq_true rfl) dX5_number_15 (fun q9 σx H1 l1 hpx hGx hSx => by obtain ⟨pl, hq9, hrx⟩ := hpx; exact hqx _ _ _ _ _ _ _ q9 _ _ σx ⟨pl, hq9, (by unfold nmZ; rw [if_neg (by omega)]), (by unfold nmZ; rw [if_neg (by omega)]; exact hrx.2.1), hkp.tr (hrx.2.2.mono (fun t (h : t = 0) => by show t = 19 ∨ t = 0; omega))⟩ hGx hSx (Nat.le_of_ble_eq_true rfl) (Nat.le_of_ble_eq_true rfl) hq9) (kV (fun σr3 H locs hp hG hS => ?_))
  obtain ⟨-, hz4, rfl⟩ := hp
  refine lv_aload_n hx hb dX5_number_18 rfl (lv_at hl 0 rfl) ?_
  refine g_callV (As := []) (rest := []) 0 hx hb hml hown hts hK hG hS hl.1 (mX5_here l X σ b U J R hX hT rd p hD hTp hTv (by omega)  ) hD rfl q544 q546 qs14 q87 q547 (by decide +kernel) rfl ⟨Nat.le_of_ble_eq_true rfl, Nat.le_of_ble_eq_true rfl⟩ ⟨Nat.le_of_ble_eq_true rfl, Nat.le_of_ble_eq_true rfl⟩ (Nat.le_of_ble_eq_true rfl) dX5_number_19 (kI (fun r5 σr5 H locs hp hG hS => ?_))
  obtain ⟨⟨hr5, kr5⟩, rfl⟩ := hp
  have hzr5 := heX hr5 hTv (by omega)
  refine g_bipush hx hb dX5_number_22 (by decide) ?_
  refine g_isub hx hb dX5_number_24 ?_
  refine lv_istore_n (lv' := [(1, .int (iI (r5 - 48))), (0, .ref rd)]) hx hb dX5_number_25 rfl hl (by decide) rfl (fun ls hl => ?_)
  refine lv_aload_n hx hb dX5_number_26 rfl (lv_at hl 1 rfl) ?_
  refine lv_dup hx hb dX5_number_27 rfl ?_
  refine g_get (C := RX5) (T := TX5) (N := 2) (v := .int (iI p)) hx hb hts hown hK hG hD rfl in_X5 0 (by decide) q525 rfl rfl dX5_number_28 ?_
  refine g_iconst hx hb dX5_number_31 ?_
  refine g_iadd hx hb dX5_number_32 ?_
  refine g_put (C := RX5) (T := TX5) (N := 2) (ty0 := tyX5) (v := .int (iI (p + 1))) hx hb hts hown hK hG hS hD rfl in_X5 tyX5_ok nmX5 0 (by decide) q525 rfl (by decide) rfl rfl (Nat.le_of_ble_eq_true rfl) dX5_number_33 (fun H locs hG hS => ?_)
  have hX_6 : XW X (gup σ rd (19, gO 5 ([.int (iI p), .ref (b 0)].set 0 (.int (iI (p + 1)))))) b U J R := hX.keep (gKeep.up hD rfl : gKeep (fun t => t = 19) σ (gup σ rd (19, gO 5 ([.int (iI p), .ref (b 0)].set 0 (.int (iI (p + 1))))))) (by first | decide | omega | (intro q9; dsimp only at q9; omega))
  have hD_6 : (gup σ rd (19, gO 5 ([.int (iI p), .ref (b 0)].set 0 (.int (iI (p + 1)))))) rd = some (19, gO 5 [.int (iI (p + 1)), .ref (b 0)]) := gup_s
  have hkp6 : gKeep (fun t => t = 19 ∨ t = 0) σ (gup σ rd (19, gO 5 ([.int (iI p), .ref (b 0)].set 0 (.int (iI (p + 1)))))) := hkp.tr ((gKeep.up hD rfl : gKeep (fun t => t = 19) σ (gup σ rd (19, gO 5 ([.int (iI p), .ref (b 0)].set 0 (.int (iI (p + 1))))))).mono (fun t (h : t = 19) => (by show t = 19 ∨ t = 0; omega)))
  generalize (gup σ rd (19, gO 5 ([.int (iI p), .ref (b 0)].set 0 (.int (iI (p + 1)))))) = σ6 at hG hX_6 hD_6 hkp6
  refine lv_aload_n hx hb dX5_number_36 rfl (lv_at hl 1 rfl) ?_
  refine g_callV (As := []) (rest := []) 0 hx hb hml hown hts hK hG hS hl.1 (mX5_here l X σ6 b U J R hX_6 hT rd (p + 1) hD_6 hTp hTv (by omega)  ) hD_6 rfl q544 q546 qs14 q87 q547 (by decide +kernel) rfl ⟨Nat.le_of_ble_eq_true rfl, Nat.le_of_ble_eq_true rfl⟩ ⟨Nat.le_of_ble_eq_true rfl, Nat.le_of_ble_eq_true rfl⟩ (Nat.le_of_ble_eq_true rfl) dX5_number_37 (kI (fun r7 σr7 H locs hp hG hS => ?_))
  obtain ⟨⟨hr7, kr7⟩, rfl⟩ := hp
  have hzr7 := heX hr7 hTv (by omega)
  refine g_i2l hx hb dX5_number_40 (by omega) ?_
  refine g_ldc2 hx hb (48) hown (hts _ q579) (by decide) dX5_number_41 ?_
  refine g_ldc2 hx hb (57) hown (hts _ q549) (by decide) dX5_number_44 ?_
  refine g_callSN (As := [.long (lI r7), .long (lI (48)), .long (lI (57))]) (rest := []) 3 hx hb hml hown hts hK hG hS hl.1 (mX0_isIn l X σ6  r7 (48) (57) (by omega) (by omega) (by omega)) q550 q495 q69 q496 (by decide +kernel) rfl ⟨Nat.le_of_ble_eq_true rfl, Nat.le_of_ble_eq_true rfl⟩ ⟨Nat.le_of_ble_eq_true rfl, Nat.le_of_ble_eq_true rfl⟩ (Nat.le_of_ble_eq_true rfl) dX5_number_47 (kI (fun r8 σr8 H locs hp hG hS => ?_))
  obtain ⟨hr8, rfl⟩ := hp
  refine g_if_eq (tgt := 91) hx hb dX5_number_50 (by decide) (by omega) (fun cq9 => ?_) (fun cq9 => ?_)
  · refine lv_iload_n hx hb dX5_number_91 rfl (lv_at hl 0 rfl) ?_
    exact g_iret hx hb hr hlocks hQ hG hS (Nat.le_of_ble_eq_true rfl) (Nat.le_of_ble_eq_true rfl) ⟨_, rfl, hkp6, (⟨by unfold nmZ; rw [if_pos (by omega), if_neg (by omega)], by unfold nmZ; rw [if_pos (by omega), if_neg (by omega)]; dsimp only; omega, by unfold nmZ; rw [if_pos (by omega), if_neg (by omega)]; exact hD_6⟩)⟩ dX5_number_92
  · refine g_bipush hx hb dX5_number_53 (by decide) ?_
    refine lv_iload_n hx hb dX5_number_55 rfl (lv_at hl 0 rfl) ?_
    refine g_imul hx hb dX5_number_56 ?_
    refine lv_aload_n hx hb dX5_number_57 rfl (lv_at hl 1 rfl) ?_
    refine g_callV (As := []) (rest := [.int (iI (10 * (r5 - 48)))]) 0 hx hb hml hown hts hK hG hS hl.1 (mX5_here l X σ6 b U J R hX_6 hT rd (p + 1) hD_6 hTp hTv (by omega)  ) hD_6 rfl q544 q546 qs14 q87 q547 (by decide +kernel) rfl ⟨Nat.le_of_ble_eq_true rfl, Nat.le_of_ble_eq_true rfl⟩ ⟨Nat.le_of_ble_eq_true rfl, Nat.le_of_ble_eq_true rfl⟩ (Nat.le_of_ble_eq_true rfl) dX5_number_58 (kI (fun r10 σr10 H locs hp hG hS => ?_))
    obtain ⟨⟨hr10, kr10⟩, rfl⟩ := hp
    have hzr10 := heX hr10 hTv (by omega)
    refine g_iadd hx hb dX5_number_61 ?_
    refine g_bipush hx hb dX5_number_62 (by decide) ?_
    refine g_isub hx hb dX5_number_64 ?_
    refine lv_istore_n (lv' := [(1, .int (iI (((10 * (r5 - 48)) + r10) - 48))), (0, .ref rd)]) hx hb dX5_number_65 rfl hl (by decide) rfl (fun ls hl => ?_)
    refine lv_aload_n hx hb dX5_number_66 rfl (lv_at hl 1 rfl) ?_
    refine lv_iload_n hx hb dX5_number_67 rfl (lv_at hl 0 rfl) ?_
    refine g_bipush hx hb dX5_number_68 (by decide) ?_
    refine g_icmp_ge (tgt := 77) hx hb dX5_number_70 (by decide) (by omega) (by omega) (fun cq11 => ?_) (fun cq11 => ?_)
    · refine g_iconst hx hb dX5_number_77 ?_
      refine g_callVX (As := [.int (iI 0)]) (rest := []) 1 hx hb hml hown hts hK hG hS hl.1 (mX5_must l X σ6 b U J R hX_6 hT rd (p + 1) hD_6 0 (by omega)) hD_6 rfl q551 q553 qs15 q87 q554 (by decide +kernel) rfl ⟨Nat.le_of_ble_eq_true rfl, Nat.le_of_ble_eq_true rfl⟩ ⟨Nat.le_of_ble_eq_true rfl, Nat.le_of_ble_eq_true rfl⟩ (Nat.le_of_ble_eq_true rfl) dX5_number_78 (fun q9 σx H1 l1 hpx hGx hSx => by obtain ⟨pl, hq9, hrx⟩ := hpx; exact hqx _ _ _ _ _ _ _ q9 _ _ σx ⟨pl, hq9, (by unfold nmZ; rw [if_pos (by omega), if_pos (by omega), if_neg (by omega)]), (by unfold nmZ; rw [if_pos (by omega), if_pos (by omega), if_neg (by omega)]; exact hrx.2.1), hkp6.tr (hrx.2.2.mono (fun t (h : t = 0) => by show t = 19 ∨ t = 0; omega))⟩ hGx hSx (Nat.le_of_ble_eq_true rfl) (Nat.le_of_ble_eq_true rfl) hq9) (kV (fun σr12 H locs hp hG hS => ?_))
      obtain ⟨-, hz13, rfl⟩ := hp
      refine lv_aload_n hx hb dX5_number_81 rfl (lv_at hl 1 rfl) ?_
      refine lv_dup hx hb dX5_number_82 rfl ?_
      refine g_get (C := RX5) (T := TX5) (N := 2) (v := .int (iI (p + 1))) hx hb hts hown hK hG hD_6 rfl in_X5 0 (by decide) q525 rfl rfl dX5_number_83 ?_
      refine g_iconst hx hb dX5_number_86 ?_
      refine g_iadd hx hb dX5_number_87 ?_
      refine g_put (C := RX5) (T := TX5) (N := 2) (ty0 := tyX5) (v := .int (iI ((p + 1) + 1))) hx hb hts hown hK hG hS hD_6 rfl in_X5 tyX5_ok nmX5 0 (by decide) q525 rfl (by decide) rfl rfl (Nat.le_of_ble_eq_true rfl) dX5_number_88 (fun H locs hG hS => ?_)
      have hX_14 : XW X (gup σ6 rd (19, gO 5 ([.int (iI (p + 1)), .ref (b 0)].set 0 (.int (iI ((p + 1) + 1)))))) b U J R := hX_6.keep (gKeep.up hD_6 rfl : gKeep (fun t => t = 19) σ6 (gup σ6 rd (19, gO 5 ([.int (iI (p + 1)), .ref (b 0)].set 0 (.int (iI ((p + 1) + 1))))))) (by first | decide | omega | (intro q9; dsimp only at q9; omega))
      have hD_14 : (gup σ6 rd (19, gO 5 ([.int (iI (p + 1)), .ref (b 0)].set 0 (.int (iI ((p + 1) + 1)))))) rd = some (19, gO 5 [.int (iI ((p + 1) + 1)), .ref (b 0)]) := gup_s
      have hkp14 : gKeep (fun t => t = 19 ∨ t = 0) σ (gup σ6 rd (19, gO 5 ([.int (iI (p + 1)), .ref (b 0)].set 0 (.int (iI ((p + 1) + 1)))))) := hkp6.tr ((gKeep.up hD_6 rfl : gKeep (fun t => t = 19) σ6 (gup σ6 rd (19, gO 5 ([.int (iI (p + 1)), .ref (b 0)].set 0 (.int (iI ((p + 1) + 1))))))).mono (fun t (h : t = 19) => (by show t = 19 ∨ t = 0; omega)))
      generalize (gup σ6 rd (19, gO 5 ([.int (iI (p + 1)), .ref (b 0)].set 0 (.int (iI ((p + 1) + 1)))))) = σ14 at hG hX_14 hD_14 hkp14
      refine lv_iload_n hx hb dX5_number_91 rfl (lv_at hl 0 rfl) ?_
      exact g_iret hx hb hr hlocks hQ hG hS (Nat.le_of_ble_eq_true rfl) (Nat.le_of_ble_eq_true rfl) ⟨_, rfl, hkp14, (⟨by unfold nmZ; rw [if_pos (by omega), if_pos (by omega), if_pos (by omega)], by unfold nmZ; rw [if_pos (by omega), if_pos (by omega), if_pos (by omega)]; dsimp only; omega, by unfold nmZ; rw [if_pos (by omega), if_pos (by omega), if_pos (by omega)]; rw [show p + 2 = p + 1 + 1 by omega]; exact hD_14⟩)⟩ dX5_number_92
    · refine g_iconst hx hb dX5_number_73 ?_
      refine lv_goto (tgt := 78) hx hb dX5_number_74 (by decide) ?_
      refine g_callVX (As := [.int (iI 1)]) (rest := []) 1 hx hb hml hown hts hK hG hS hl.1 (mX5_must l X σ6 b U J R hX_6 hT rd (p + 1) hD_6 1 (by omega)) hD_6 rfl q551 q553 qs15 q87 q554 (by decide +kernel) rfl ⟨Nat.le_of_ble_eq_true rfl, Nat.le_of_ble_eq_true rfl⟩ ⟨Nat.le_of_ble_eq_true rfl, Nat.le_of_ble_eq_true rfl⟩ (Nat.le_of_ble_eq_true rfl) dX5_number_78 (fun q9 σx H1 l1 hpx hGx hSx => by obtain ⟨pl, hq9, hrx⟩ := hpx; exact hqx _ _ _ _ _ _ _ q9 _ _ σx ⟨pl, hq9, (by unfold nmZ; rw [if_pos (by omega), if_pos (by omega), if_neg (by omega)]), (by unfold nmZ; rw [if_pos (by omega), if_pos (by omega), if_neg (by omega)]; exact hrx.2.1), hkp6.tr (hrx.2.2.mono (fun t (h : t = 0) => by show t = 19 ∨ t = 0; omega))⟩ hGx hSx (Nat.le_of_ble_eq_true rfl) (Nat.le_of_ble_eq_true rfl) hq9) (kV (fun σr15 H locs hp hG hS => ?_))
      obtain ⟨-, hz16, rfl⟩ := hp
      refine lv_aload_n hx hb dX5_number_81 rfl (lv_at hl 1 rfl) ?_
      refine lv_dup hx hb dX5_number_82 rfl ?_
      refine g_get (C := RX5) (T := TX5) (N := 2) (v := .int (iI (p + 1))) hx hb hts hown hK hG hD_6 rfl in_X5 0 (by decide) q525 rfl rfl dX5_number_83 ?_
      refine g_iconst hx hb dX5_number_86 ?_
      refine g_iadd hx hb dX5_number_87 ?_
      refine g_put (C := RX5) (T := TX5) (N := 2) (ty0 := tyX5) (v := .int (iI ((p + 1) + 1))) hx hb hts hown hK hG hS hD_6 rfl in_X5 tyX5_ok nmX5 0 (by decide) q525 rfl (by decide) rfl rfl (Nat.le_of_ble_eq_true rfl) dX5_number_88 (fun H locs hG hS => ?_)
      have hX_17 : XW X (gup σ6 rd (19, gO 5 ([.int (iI (p + 1)), .ref (b 0)].set 0 (.int (iI ((p + 1) + 1)))))) b U J R := hX_6.keep (gKeep.up hD_6 rfl : gKeep (fun t => t = 19) σ6 (gup σ6 rd (19, gO 5 ([.int (iI (p + 1)), .ref (b 0)].set 0 (.int (iI ((p + 1) + 1))))))) (by first | decide | omega | (intro q9; dsimp only at q9; omega))
      have hD_17 : (gup σ6 rd (19, gO 5 ([.int (iI (p + 1)), .ref (b 0)].set 0 (.int (iI ((p + 1) + 1)))))) rd = some (19, gO 5 [.int (iI ((p + 1) + 1)), .ref (b 0)]) := gup_s
      have hkp17 : gKeep (fun t => t = 19 ∨ t = 0) σ (gup σ6 rd (19, gO 5 ([.int (iI (p + 1)), .ref (b 0)].set 0 (.int (iI ((p + 1) + 1)))))) := hkp6.tr ((gKeep.up hD_6 rfl : gKeep (fun t => t = 19) σ6 (gup σ6 rd (19, gO 5 ([.int (iI (p + 1)), .ref (b 0)].set 0 (.int (iI ((p + 1) + 1))))))).mono (fun t (h : t = 19) => (by show t = 19 ∨ t = 0; omega)))
      generalize (gup σ6 rd (19, gO 5 ([.int (iI (p + 1)), .ref (b 0)].set 0 (.int (iI ((p + 1) + 1)))))) = σ17 at hG hX_17 hD_17 hkp17
      refine lv_iload_n hx hb dX5_number_91 rfl (lv_at hl 0 rfl) ?_
      exact g_iret hx hb hr hlocks hQ hG hS (Nat.le_of_ble_eq_true rfl) (Nat.le_of_ble_eq_true rfl) ⟨_, rfl, hkp17, (⟨by unfold nmZ; rw [if_pos (by omega), if_pos (by omega), if_pos (by omega)], by unfold nmZ; rw [if_pos (by omega), if_pos (by omega), if_pos (by omega)]; dsimp only; omega, by unfold nmZ; rw [if_pos (by omega), if_pos (by omega), if_pos (by omega)]; rw [show p + 2 = p + 1 + 1 by omega]; exact hD_17⟩)⟩ dX5_number_92

set_option maxHeartbeats 8000000 in
theorem mX5_power (l : Launch) (X : gX) (σ : gS) (b : Nat → Nat) (U : Nat → Int → Int) (J : Nat → Int) (R : Int → Option Nat) (hX : XW X σ b U J R) (hT : okT (U 20)) (rd : Nat) (p : Int) (hD : σ rd = some (19, gO 5 [.int (iI p), .ref (b 0)])) (c : Int) (hTp : 0 ≤ J 6 ∧ J 6 ≤ 60) (hTv : ∀ q : Int, 0 ≤ q → q < J 6 → 1 ≤ U 5 q ∧ U 5 q ≤ 127) (hAt : 0 ≤ p ∧ p ≤ J 6) (h0 : 1 ≤ c ∧ c ≤ 127) : gMet l X yX5_power cX5_power 3 (some .int) 1 0 0 20 σ [.ref rd, .int (iI c)] (oI (fun r σ' => gKeep (fun t => t = 19) σ σ' ∧ (r = cntZ (U 5) (J 6) c p ∧ σ' rd = some (19, gO 5 [.int (iI (p + r)), .ref (b 0)])))) := by
  refine gMet.of (by decide) (Nat.le_of_ble_eq_true rfl) ?_
  intro pp ee ss mm args below meth cd Q H locs ls hargs hx hb hr hlocks hml hown hnm hts hK hG hS hQ hl
  have hown : ss.vm.findClass RX5 = some mm.cls := hown
  have hl : lv_has ls 3 [(0, .ref rd), (1, .int (iI c))] := hl
  have hkp : gKeep (fun t => t = 19) σ σ := gKeep.rf
  refine g_iconst hx hb dX5_power_0 ?_
  refine lv_istore_n (lv' := [(2, .int (iI 0)), (0, .ref rd), (1, .int (iI c))]) hx hb dX5_power_1 rfl hl (by decide) rfl (fun ls hl => ?_)
  have loop_2 : ∀ (nF : Nat) (σL : gS) (n9 : Int) (pl9 : Int), ((2 - n9).toNat : Nat) < nF → (gKeep (fun t => t = 19) σ σL) → (XW X σL b U J R) → (σL rd = some (19, gO 5 [.int (iI pl9), .ref (b 0)])) → (0 ≤ n9 ∧ n9 ≤ 2) → (pl9 = p + n9) → (n9 = 0 ∨ (n9 = 1 ∧ (hrZ (U 5) (J 6) p) = c) ∨ (n9 = 2 ∧ (hrZ (U 5) (J 6) p) = c ∧ (hrZ (U 5) (J 6) (p + 1)) = c)) → (pl9 ≤ J 6) → ∀ (H : Heap) (locs : List Loc) (ls : Array Slot), gSat X σL H → va_S (gA X) ss.heap H locs → lv_has ls 3 [(2, .int (iI n9)), (0, .ref rd), (1, .int (iI c))] → W pp l ee (gR 1 0 0 20) ss mm args below meth cd H locs 0 0 Q (F0 mm 2 ls []) := by
    intro nF
    induction nF with
    | zero => intro σL n9 pl9 hm; exact absurd hm (Nat.not_lt_zero _)
    | succ nF ih_2 =>
      intro σL n9 pl9 hm hkL hXL hDL hn9 hpl hc hle H locs ls hG hS hl
      refine lv_iload_n hx hb dX5_power_2 rfl (lv_at hl 0 rfl) ?_
      refine g_iconst hx hb dX5_power_3 ?_
      refine g_icmp_ge (tgt := 31) hx hb dX5_power_4 (by decide) (by omega) (by omega) (fun cq1 => ?_) (fun cq1 => ?_)
      · refine lv_iload_n hx hb dX5_power_31 rfl (lv_at hl 0 rfl) ?_
        exact g_iret hx hb hr hlocks hQ hG hS (Nat.zero_le _) (Nat.zero_le _) ⟨_, rfl, hkL, (⟨by
                  unfold cntZ
                  rcases hc with hc | hc | hc
                  · first | (exfalso; omega) | (subst hc; rw [show p + 0 = p by omega] at hh; rw [if_neg (by omega)])
                  · first | (exfalso; omega) | (obtain ⟨e1, e2⟩ := hc; subst e1; rw [if_pos e2, if_neg (by omega)])
                  · first | (exfalso; omega) | (obtain ⟨e1, e2, e3⟩ := hc; rw [if_pos e2, if_pos e3]; omega), by rw [← hpl]; exact hDL⟩)⟩ dX5_power_32
      · refine lv_aload_n hx hb dX5_power_7 rfl (lv_at hl 1 rfl) ?_
        refine g_callV (As := []) (rest := []) 0 hx hb hml hown hts hK hG hS hl.1 (mX5_here l X σL b U J R hXL hT rd pl9 hDL hTp hTv (by omega)  ) hDL rfl q544 q546 qs14 q87 q547 (by decide +kernel) rfl ⟨Nat.le_of_ble_eq_true rfl, Nat.le_of_ble_eq_true rfl⟩ ⟨Nat.le_of_ble_eq_true rfl, Nat.le_of_ble_eq_true rfl⟩ (Nat.le_of_ble_eq_true rfl) dX5_power_8 (kI (fun r2 σr2 H locs hp hG hS => ?_))
        obtain ⟨⟨hr2, kr2⟩, rfl⟩ := hp
        have hh := heX hr2 hTv (by omega)
        rw [hpl] at hh
        refine lv_iload_n hx hb dX5_power_11 rfl (lv_at hl 2 rfl) ?_
        refine g_icmp_ne (tgt := 31) hx hb dX5_power_12 (by decide) (by omega) (by omega) (fun cq3 => ?_) (fun cq3 => ?_)
        · refine lv_iload_n hx hb dX5_power_31 rfl (lv_at hl 0 rfl) ?_
          exact g_iret hx hb hr hlocks hQ hG hS (Nat.zero_le _) (Nat.zero_le _) ⟨_, rfl, hkL, (⟨by
                    unfold cntZ
                    rcases hc with hc | hc | hc
                    · first | (exfalso; omega) | (subst hc; rw [show p + 0 = p by omega] at hh; rw [if_neg (by omega)])
                    · first | (exfalso; omega) | (obtain ⟨e1, e2⟩ := hc; subst e1; rw [if_pos e2, if_neg (by omega)])
                    · first | (exfalso; omega) | (obtain ⟨e1, e2, e3⟩ := hc; rw [if_pos e2, if_pos e3]; omega), by rw [← hpl]; exact hDL⟩)⟩ dX5_power_32
        · refine g_iinc (lv' := [(2, .int (iI (n9 + 1))), (0, .ref rd), (1, .int (iI c))]) hx hb dX5_power_15 hl (k := 0) rfl (by decide) rfl (fun ls hl => ?_)
          refine lv_aload_n hx hb dX5_power_18 rfl (lv_at hl 1 rfl) ?_
          refine lv_dup hx hb dX5_power_19 rfl ?_
          refine g_get (C := RX5) (T := TX5) (N := 2) (v := .int (iI pl9)) hx hb hts hown hK hG hDL rfl in_X5 0 (by decide) q525 rfl rfl dX5_power_20 ?_
          refine g_iconst hx hb dX5_power_23 ?_
          refine g_iadd hx hb dX5_power_24 ?_
          refine g_put (C := RX5) (T := TX5) (N := 2) (ty0 := tyX5) (v := .int (iI (pl9 + 1))) hx hb hts hown hK hG hS hDL rfl in_X5 tyX5_ok nmX5 0 (by decide) q525 rfl (by decide) rfl rfl (Nat.le_of_ble_eq_true rfl) dX5_power_25 (fun H locs hG hS => ?_)
          have hX_4 : XW X (gup σL rd (19, gO 5 ([.int (iI pl9), .ref (b 0)].set 0 (.int (iI (pl9 + 1)))))) b U J R := hXL.keep (gKeep.up hDL rfl : gKeep (fun t => t = 19) σL (gup σL rd (19, gO 5 ([.int (iI pl9), .ref (b 0)].set 0 (.int (iI (pl9 + 1))))))) (by first | decide | omega | (intro q9; dsimp only at q9; omega))
          have hD_4 : (gup σL rd (19, gO 5 ([.int (iI pl9), .ref (b 0)].set 0 (.int (iI (pl9 + 1)))))) rd = some (19, gO 5 [.int (iI (pl9 + 1)), .ref (b 0)]) := gup_s
          have hkp4 : gKeep (fun t => t = 19) σ (gup σL rd (19, gO 5 ([.int (iI pl9), .ref (b 0)].set 0 (.int (iI (pl9 + 1)))))) := hkL.tr ((gKeep.up hDL rfl : gKeep (fun t => t = 19) σL (gup σL rd (19, gO 5 ([.int (iI pl9), .ref (b 0)].set 0 (.int (iI (pl9 + 1))))))).mono (fun t (h : t = 19) => (by show t = 19; omega)))
          generalize (gup σL rd (19, gO 5 ([.int (iI pl9), .ref (b 0)].set 0 (.int (iI (pl9 + 1)))))) = σ4 at hG hX_4 hD_4 hkp4
          refine lv_goto (tgt := 2) hx hb dX5_power_28 (by decide) ?_
          exact ih_2 σ4 (n9 + 1) (pl9 + 1) (by omega) (hkp4) (hX_4) (hD_4) (by omega) (by omega) (by
                    rcases hc with hc | hc | hc
                    · subst hc; rw [show p + 0 = p by omega] at hh; exact Or.inr (Or.inl ⟨by omega, by omega⟩)
                    · obtain ⟨e1, e2⟩ := hc; subst e1; exact Or.inr (Or.inr ⟨by omega, e2, by omega⟩)
                    · omega) (by omega)  _ _ _ hG hS (lv_sub hl [0, 1, 2] rfl)
  exact loop_2 _ σ 0 p (Nat.lt_succ_self _) (hkp) (hX) (hD) (by omega) (by omega) (Or.inl rfl) (hAt.2)  _ _ _ hG hS (lv_sub hl [0, 1, 2] rfl)

theorem nmZ_r (t : Int → Int) {n p p8 v : Int} (hp : p ≤ n) (h : (nmZ t n p).1 = 1) (h8 : p8 = (nmZ t n p).2.1) (hv : v = (nmZ t n p).2.2) : p ≤ p8 ∧ p8 ≤ n ∧ 0 ≤ v ∧ v ≤ 30 := by
  subst h8
  subst hv
  unfold nmZ at h ⊢
  split <;> rename_i h1
  · have l1 := hrZ_lt (t := t) (n := n) (p := p) (by omega)
    split <;> rename_i h2
    · have l2 := hrZ_lt (t := t) (n := n) (p := p + 1) (by omega)
      split <;> rename_i h3
      · refine ⟨?_, ?_, ?_, ?_⟩ <;> dsimp only <;> omega
      · rw [if_pos h1, if_pos h2, if_neg h3] at h; exact absurd h (by show ¬ (0 : Int) = 1; decide)
    · refine ⟨?_, ?_, ?_, ?_⟩ <;> dsimp only <;> omega
  · rw [if_neg h1] at h; exact absurd h (by show ¬ (0 : Int) = 1; decide)

set_option maxHeartbeats 8000000 in
theorem mX5_term (l : Launch) (X : gX) (σ : gS) (b : Nat → Nat) (U : Nat → Int → Int) (J : Nat → Int) (R : Int → Option Nat) (hX : XW X σ b U J R) (hT : okT (U 20)) (rd : Nat) (p : Int) (hD : σ rd = some (19, gO 5 [.int (iI p), .ref (b 0)]))  (hTp : 0 ≤ J 6 ∧ J 6 ≤ 60) (hTv : ∀ q : Int, 0 ≤ q → q < J 6 → 1 ≤ U 5 q ∧ U 5 q ≤ 127) (hAt : 0 ≤ p ∧ p ≤ J 6) (hRd : ∀ q : Int, 0 ≤ q → q < 9 → 0 ≤ U 7 q ∧ U 7 q ≤ 30)  : gMetX l X yX5_term cX5_term 4 none 6 2 14 131 σ [.ref rd] (oV (fun σ' => gKeep (fun t => t = 1 ∨ t = 19 ∨ t = 0) σ σ' ∧ (∃ (U' : Nat → Int → Int) (J' : Nat → Int), XW X σ' b U' J' R ∧ okT (U' 20) ∧ ((trmZ (U 5) (J 6) p).1 = 1 ∧ U' 7 = addR (U 7) (trmZ (U 5) (J 6) p) ∧ (∀ q, q ≠ 7 → U' q = U q) ∧ J = J' ∧ σ' rd = some (19, gO 5 [.int (iI (trmZ (U 5) (J 6) p).2.1), .ref (b 0)]))))) (fun q σ' => ∃ pl : Int, σ' q = some (19, gO 6 [.null, .null, .null, .null, .null, .int (iI 0), .int (iI pl)]) ∧ ((trmZ (U 5) (J 6) p).1 = 0 ∧ pl = (trmZ (U 5) (J 6) p).2.1 ∧ gKeep (fun t => t = 19 ∨ t = 0) σ σ')) := by
  refine gMetX.of (by decide) (Nat.le_of_ble_eq_true rfl) ?_
  intro pp ee ss mm args below meth cd Q H locs ls hargs hx hb hr hlocks hml hown hnm hts hK hG hS hQ hl hqx
  have hown : ss.vm.findClass RX5 = some mm.cls := hown
  have hl : lv_has ls 4 [(0, .ref rd)] := hl
  have hkp : gKeep (fun t => t = 1 ∨ t = 19 ∨ t = 0) σ σ := gKeep.rf
  refine lv_aload_n hx hb dX5_term_0 rfl (lv_at hl 0 rfl) ?_
  refine g_callVX (As := []) (rest := []) 0 hx hb hml hown hts hK hG hS hl.1 (mX5_number l X σ b U J R hX hT rd p hD hTp hTv (by omega)) hD rfl q540 q542 qs13 q87 q543 (by decide +kernel) rfl ⟨Nat.le_of_ble_eq_true rfl, Nat.le_of_ble_eq_true rfl⟩ ⟨Nat.le_of_ble_eq_true rfl, Nat.le_of_ble_eq_true rfl⟩ (Nat.le_of_ble_eq_true rfl) dX5_term_1 (fun q9 σx H1 l1 hpx hGx hSx => by obtain ⟨pl, hq9, hrx⟩ := hpx; exact hqx _ _ _ _ _ _ _ q9 _ _ σx ⟨pl, hq9, (nmZ_n hrx.1).1, hrx.2.1.trans (nmZ_n hrx.1).2.symm, hrx.2.2⟩ hGx hSx (Nat.le_of_ble_eq_true rfl) (Nat.le_of_ble_eq_true rfl) hq9) (kI (fun r1 σr1 H locs hp hG hS => ?_))
  obtain ⟨kq2, hn1_2, hn2_2, hD_2⟩ := hp
  have hX_3 : XW X σr1 b U J R := hX.keep kq2 (by first | decide | omega | (intro q9; dsimp only at q9; omega))
  have hkp3 : gKeep (fun t => t = 1 ∨ t = 19 ∨ t = 0) σ σr1 := hkp.tr (kq2.mono (fun t (h : t = 19 ∨ t = 0) => (by show t = 1 ∨ t = 19 ∨ t = 0; omega)))
  have hty := nmZ_y hn1_2
  have htr := trmZ_r (U 5) (n := J 6) (p := p) (by omega)
  obtain ⟨p8, hp8⟩ : ∃ z, z = (nmZ (U 5) (J 6) p).2.1 := ⟨_, rfl⟩
  have hpr : p ≤ p8 ∧ p8 ≤ J 6 ∧ 0 ≤ r1 ∧ r1 ≤ 30 := nmZ_r (U 5) (by omega) hn1_2 hp8 hn2_2
  rw [← hp8, ← hn2_2] at hty
  rw [← hp8] at hD_2
  refine lv_istore_n (lv' := [(1, .int (iI r1)), (0, .ref rd)]) hx hb dX5_term_4 rfl hl (by decide) rfl (fun ls hl => ?_)
  refine lv_aload_n hx hb dX5_term_5 rfl (lv_at hl 1 rfl) ?_
  refine g_bipush hx hb dX5_term_6 (by decide) ?_
  refine g_callV (As := [.int (iI 120)]) (rest := []) 1 hx hb hml hown hts hK hG hS hl.1 (mX5_power l X σr1 b U J R hX_3 hT rd p8 hD_2 120 hTp hTv (by omega) (by omega)) hD_2 rfl q580 q582 qs16 q87 q583 (by decide +kernel) rfl ⟨Nat.le_of_ble_eq_true rfl, Nat.le_of_ble_eq_true rfl⟩ ⟨Nat.le_of_ble_eq_true rfl, Nat.le_of_ble_eq_true rfl⟩ (Nat.le_of_ble_eq_true rfl) dX5_term_8 (kI (fun r4 σr4 H locs hp hG hS => ?_))
  obtain ⟨kq5, hc_5, hD_5⟩ := hp
  have hcr5 := cntZ_r (U 5) (J 6) (c := 120) (p := p8) (by decide) (by omega)
  rw [← hc_5] at hcr5
  have hX_6 : XW X σr4 b U J R := hX_3.keep kq5 (by first | decide | omega | (intro q9; dsimp only at q9; omega))
  have hkp6 : gKeep (fun t => t = 1 ∨ t = 19 ∨ t = 0) σ σr4 := hkp3.tr (kq5.mono (fun t (h : t = 19) => (by show t = 1 ∨ t = 19 ∨ t = 0; omega)))
  refine lv_istore_n (lv' := [(2, .int (iI r4)), (1, .int (iI r1)), (0, .ref rd)]) hx hb dX5_term_11 rfl hl (by decide) rfl (fun ls hl => ?_)
  refine lv_aload_n hx hb dX5_term_12 rfl (lv_at hl 2 rfl) ?_
  refine g_bipush hx hb dX5_term_13 (by decide) ?_
  refine g_callV (As := [.int (iI 121)]) (rest := []) 1 hx hb hml hown hts hK hG hS hl.1 (mX5_power l X σr4 b U J R hX_6 hT rd (p8 + r4) hD_5 121 hTp hTv (by omega) (by omega)) hD_5 rfl q580 q582 qs16 q87 q583 (by decide +kernel) rfl ⟨Nat.le_of_ble_eq_true rfl, Nat.le_of_ble_eq_true rfl⟩ ⟨Nat.le_of_ble_eq_true rfl, Nat.le_of_ble_eq_true rfl⟩ (Nat.le_of_ble_eq_true rfl) dX5_term_15 (kI (fun r7 σr7 H locs hp hG hS => ?_))
  obtain ⟨kq8, hc_8, hD_8⟩ := hp
  have hcr8 := cntZ_r (U 5) (J 6) (c := 121) (p := (p8 + r4)) (by decide) (by omega)
  rw [← hc_8] at hcr8
  have hX_9 : XW X σr7 b U J R := hX_6.keep kq8 (by first | decide | omega | (intro q9; dsimp only at q9; omega))
  have hkp9 : gKeep (fun t => t = 1 ∨ t = 19 ∨ t = 0) σ σr7 := hkp6.tr (kq8.mono (fun t (h : t = 19) => (by show t = 1 ∨ t = 19 ∨ t = 0; omega)))
  refine lv_istore_n (lv' := [(3, .int (iI r7)), (2, .int (iI r4)), (1, .int (iI r1)), (0, .ref rd)]) hx hb dX5_term_18 rfl hl (by decide) rfl (fun ls hl => ?_)
  refine lv_aload_n hx hb dX5_term_19 rfl (lv_at hl 3 rfl) ?_
  refine g_get (C := RX5) (T := TX5) (N := 2) (v := .ref (b 0)) hx hb hts hown hK hG hD_8 rfl in_X5 1 (by decide) q526 rfl rfl dX5_term_20 ?_
  refine g_getN (C := RX0) (T := TX0) (N := 20) (v := .ref (b 7)) hx hb hts hown hK hG hX_9.c0 rfl in_X0 7 (by decide) q429 rfl rfl dX5_term_23 ?_
  refine g_iconst hx hb dX5_term_26 ?_
  refine lv_iload_n hx hb dX5_term_27 rfl (lv_at hl 1 rfl) ?_
  refine g_imul hx hb dX5_term_28 ?_
  refine lv_iload_n hx hb dX5_term_29 rfl (lv_at hl 0 rfl) ?_
  refine g_iadd hx hb dX5_term_30 ?_
  refine lv_aload_n hx hb dX5_term_31 rfl (lv_at hl 3 rfl) ?_
  refine g_get (C := RX5) (T := TX5) (N := 2) (v := .ref (b 0)) hx hb hts hown hK hG hD_8 rfl in_X5 1 (by decide) q526 rfl rfl dX5_term_32 ?_
  refine g_getN (C := RX0) (T := TX0) (N := 20) (v := .ref (b 7)) hx hb hts hown hK hG hX_9.c0 rfl in_X0 7 (by decide) q429 rfl rfl dX5_term_35 ?_
  refine g_iconst hx hb dX5_term_38 ?_
  refine lv_iload_n hx hb dX5_term_39 rfl (lv_at hl 1 rfl) ?_
  refine g_imul hx hb dX5_term_40 ?_
  refine lv_iload_n hx hb dX5_term_41 rfl (lv_at hl 0 rfl) ?_
  refine g_iadd hx hb dX5_term_42 ?_
  refine g_iald hx hb hK hG hX_9.c7 dX5_term_43 (by omega) ?_
  have hrd0 := hRd ((3 * r4) + r7) (by omega) (by omega)
  refine lv_iload_n hx hb dX5_term_44 rfl (lv_at hl 2 rfl) ?_
  refine g_iadd hx hb dX5_term_45 ?_
  refine g_bipush hx hb dX5_term_46 (by decide) ?_
  refine g_irem hx hb dX5_term_48 (by omega) (by omega) ?_
  refine g_iast hx hb hK hG hS hX_9.c7 dX5_term_49 (by omega) (fun H locs hG hS => ?_)
  obtain ⟨U10, eU10⟩ : ∃ z : Nat → Int → Int, z = va_up U 7 (iup (U 7) ((3 * r4) + r7) ((((U 7) ((3 * r4) + r7)) + r1) % 31)) := ⟨_, rfl⟩
  have u7_10 : U10 7 = (iup (U 7) ((3 * r4) + r7) ((((U 7) ((3 * r4) + r7)) + r1) % 31)) := by rw [eU10, va_up_self]
  have fU10 : ∀ j, j ≠ 7 → U10 j = U j := fun j hj => by rw [eU10, va_up_ne _ _ hj]
  have hX10 : XW X (gup σr7 (b 7) (1, gI (X.2.1 0) 9 (iup (U 7) ((3 * r4) + r7) ((((U 7) ((3 * r4) + r7)) + r1) % 31)))) b U10 J R := by rw [eU10]; exact hX_9.set 7 rfl (iup (U 7) ((3 * r4) + r7) ((((U 7) ((3 * r4) + r7)) + r1) % 31))
  have hT10 : okT (U10 20) := by rw [fU10 20 (by decide)]; exact hT
  have hD_10 : (gup σr7 (b 7) (1, gI (X.2.1 0) 9 (iup (U 7) ((3 * r4) + r7) ((((U 7) ((3 * r4) + r7)) + r1) % 31)))) rd = some (19, gO 5 [.int (iI ((p8 + r4) + r7)), .ref (b 0)]) := (gKeep.up hX_9.c7 rfl : gKeep (fun t => t = 1) σr7 (gup σr7 (b 7) (1, gI (X.2.1 0) 9 (iup (U 7) ((3 * r4) + r7) ((((U 7) ((3 * r4) + r7)) + r1) % 31))))) _ _ _ hD_8 (by first | decide | omega | (intro q9; dsimp only at q9; omega))
  have hkp10 : gKeep (fun t => t = 1 ∨ t = 19 ∨ t = 0) σ (gup σr7 (b 7) (1, gI (X.2.1 0) 9 (iup (U 7) ((3 * r4) + r7) ((((U 7) ((3 * r4) + r7)) + r1) % 31)))) := hkp9.tr ((gKeep.up hX_9.c7 rfl : gKeep (fun t => t = 1) σr7 (gup σr7 (b 7) (1, gI (X.2.1 0) 9 (iup (U 7) ((3 * r4) + r7) ((((U 7) ((3 * r4) + r7)) + r1) % 31))))).mono (fun t (h : t = 1) => (by show t = 1 ∨ t = 19 ∨ t = 0; omega)))
  generalize (gup σr7 (b 7) (1, gI (X.2.1 0) 9 (iup (U 7) ((3 * r4) + r7) ((((U 7) ((3 * r4) + r7)) + r1) % 31)))) = σ10 at hG hX10 hD_10 hkp10
  exact g_vret hx hb hr hlocks hQ hG hS (Nat.le_of_ble_eq_true rfl) (Nat.le_of_ble_eq_true rfl) ⟨rfl, hkp10, (⟨U10, J, hX10, hT10, (by
            have ht : (trmZ (U 5) (J 6) p) = (1, p8 + r4 + r7, 3 * r4 + r7, r1) := by rw [hty]; unfold tfZ; rw [← hc_5, ← hc_8]
            rw [ht]
            exact ⟨rfl, by rw [u7_10]; rfl, fU10, rfl, hD_10⟩)⟩)⟩ dX5_term_50

