theorem mX9_init (l : Launch) (X : gX) (σ : gS) (z tz : Nat) (x : Int) (hz : σ z = some (tz, gO 9 [.int (iI 0)])) : gMet l X yX9_init cX9_init 2 none 1 0 0 20 σ [.ref z, .int (iI x)] (oV (fun σ' => σ' = gup σ z (tz, gO 9 [.int (iI x)]))) := by
  refine gMet.of (by decide) (Nat.le_of_ble_eq_true rfl) ?_
  intro pp ee ss mm args below meth cd Q H locs ls hargs hx hb hr hlocks hml hown hnm hts hK hG hS hQ hl
  have hown : ss.vm.findClass RX9 = some mm.cls := hown
  have hl : lv_has ls 2 [(0, .ref z), (1, .int (iI x))] := hl
  refine lv_aload_n hx hb dX9_init_0 rfl (lv_at hl 0 rfl) ?_
  refine W.objInit hx hb hown (hts _ q1115) (hts _ q123) (hts _ q124) rfl (by rw [hml]; exact hl.1) rfl dX9_init_1 (Nat.le_of_ble_eq_true rfl) (Nat.le_of_ble_eq_true rfl) ?_
  refine W.eq (g2 := F0 mm 4 ls []) rfl ?_
  refine lv_aload_n hx hb dX9_init_4 rfl (lv_at hl 0 rfl) ?_
  refine lv_iload_n hx hb dX9_init_5 rfl (lv_at hl 1 rfl) ?_
  refine g_putF (C := RX9) (T := TX9) (N := 1) (ty0 := tyX9) (v := .int (iI x)) hx hb hts hown hK hG hS hz rfl in_X9 tyX9_ok nmX9 0 (by decide) q1116 rfl (by decide) hnm rfl rfl rfl (Nat.le_of_ble_eq_true rfl) dX9_init_6 (fun H locs hG hS => ?_)
  have hs1 : (gup σ z (tz, gO 9 ([.int (iI 0)].set 0 (.int (iI x))))) = gup σ z (tz, gO 9 [.int (iI x)]) := by rfl
  have hL1 : (gup σ z (tz, gO 9 ([.int (iI 0)].set 0 (.int (iI x))))) z = some (tz, gO 9 [.int (iI x)]) := gup_s
  generalize (gup σ z (tz, gO 9 ([.int (iI 0)].set 0 (.int (iI x))))) = σ1 at hG hs1 hL1
  exact g_vret hx hb hr hlocks hQ hG hS (Nat.zero_le _) (Nat.zero_le _) ⟨rfl, hs1⟩ dX9_init_9

theorem mX10_init (l : Launch) (X : gX) (σ : gS) (z tz : Nat)  (hz : σ z = some (tz, gO 10 [.int (iI 0)])) : gMet l X yX10_init cX10_init 1 none 1 0 0 20 σ [.ref z] (oV (fun σ' => σ' = gup σ z (tz, gO 10 [.int (iI 0)]))) := by
  refine gMet.of (by decide) (Nat.le_of_ble_eq_true rfl) ?_
  intro pp ee ss mm args below meth cd Q H locs ls hargs hx hb hr hlocks hml hown hnm hts hK hG hS hQ hl
  have hown : ss.vm.findClass RX10 = some mm.cls := hown
  have hl : lv_has ls 1 [(0, .ref z)] := hl
  refine lv_aload_n hx hb dX10_init_0 rfl (lv_at hl 0 rfl) ?_
  refine W.objInit hx hb hown (hts _ q1148) (hts _ q123) (hts _ q124) rfl (by rw [hml]; exact hl.1) rfl dX10_init_1 (Nat.le_of_ble_eq_true rfl) (Nat.le_of_ble_eq_true rfl) ?_
  refine W.eq (g2 := F0 mm 4 ls []) rfl ?_
  exact g_vret hx hb hr hlocks hQ hG hS (Nat.zero_le _) (Nat.zero_le _) ⟨rfl, by funext q; by_cases e : q = z; (rw [e, gup_s]; exact hz); (rw [gup_n e])⟩ dX10_init_4

theorem rise_le {n : Nat} {cd : Nat → Int} {a : Int} (h : ∀ i j, i < j → j < n → cd i < cd j) (h0 : ∀ i, i < n → a ≤ cd i) : ∀ i : Nat, i < n → a + i ≤ cd i := by
  intro i
  induction i with
  | zero => intro hi; have := h0 0 hi; omega
  | succ i ih => intro hi; have := ih (by omega); have := h i (i + 1) (by omega) hi; omega
theorem cyK_le {σ : gS} {mp n : Nat} {cd : Nat → Int} {O : Int → Int} (h : MapW σ mp n cd O) : n ≤ 1024 := by
  apply Classical.byContradiction
  intro q
  have h1 := rise_le h.inc (fun i hi => (h.rng hi).1) 1024 (by omega)
  have h2 := (h.rng (i := 1024) (by omega)).2
  omega

set_option maxHeartbeats 8000000 in
theorem mX0_cyclesOf (l : Launch) (X : gX) (σ : gS) (b : Nat → Nat) (U : Nat → Int → Int) (J : Nat → Int) (R : Int → Option Nat) (hX : XW X σ b U J R) (hT : okT (U 20)) (k : Int)  (h0 : -2147483648 ≤ k ∧ k ≤ 2147483647) : gMet l X yX0_cyclesOf cX0_cyclesOf 7 (some (.object "java/util/TreeMap")) 10 3080 8210 3121 σ [.ref (b 0), .int (iI k)] (oA (fun v σ' => gKeep (fun t => t = 1 ∨ t = 7 ∨ t = 12) σ σ' ∧ (∃ z n cd, v = .ref z ∧ MapW σ' z n cd (cyA (U 20) k 1024).2 ∧ cyK n cd (cyA (U 20) k 1024).2 ∧ n ≤ 1024 ∧ ∃ (U' : Nat → Int → Int) (J' : Nat → Int), XW X σ' b U' J' R ∧ okT (U' 20) ∧ (∀ q, q ≠ 8 → q ≠ 10 → U' q = U q) ∧ (∀ q, q ≠ 9 → J' q = J q)))) := by
  refine gMet.of (by decide) (Nat.le_of_ble_eq_true rfl) ?_
  intro pp ee ss mm args below meth cd Q H locs ls hargs hx hb hr hlocks hml hown hnm hts hK hG hS hQ hl
  have hown : ss.vm.findClass RX0 = some mm.cls := hown
  have hl : lv_has ls 7 [(0, .ref (b 0)), (1, .int (iI k))] := hl
  have hkp : gKeep (fun t => t = 1 ∨ t = 7 ∨ t = 12) σ σ := gKeep.rf
  refine g_new (ci := 13) (C := RJ4) (T := TJ4) (N := 9) (ty := tyJ4) (fs := [.null, .null, .null, .null, .int (iI 0), .int (iI 0), .null, .null, .null]) hx hb 7 hts hown hK hG hS rfl in_J4 tyJ4_ok q1104 q137 q75 (fun j hj => match j, hj with | 0, _ => rfl | 1, _ => rfl | 2, _ => rfl | 3, _ => rfl | 4, _ => rfl | 5, _ => rfl | 6, _ => rfl | 7, _ => rfl | 8, _ => rfl | k9 + 9, h => absurd h (by omega)) (Nat.le_of_ble_eq_true rfl) (Nat.le_of_ble_eq_true rfl) dX0_cyclesOf_0 (fun nw1 H hznw1 hG hS => ?_)
  have hLnw1 : (gup σ nw1 (7, gO 13 [.null, .null, .null, .null, .int (iI 0), .int (iI 0), .null, .null, .null])) nw1 = some (7, gO 13 [.null, .null, .null, .null, .int (iI 0), .int (iI 0), .null, .null, .null]) := gup_s
  generalize hgen2 : (gup σ nw1 (7, gO 13 [.null, .null, .null, .null, .int (iI 0), .int (iI 0), .null, .null, .null])) = σ2 at hG hLnw1 
  refine lv_dup hx hb dX0_cyclesOf_3 rfl ?_
  refine g_callI (As := []) (rest := [.ref nw1]) 0 hx hb hml hown hts hK hG hS hl.1 (mJ4_init l X σ2 nw1 _ hLnw1) q1105 q139 q75 q140 rfl (by decide +kernel) rfl ⟨Nat.le_of_ble_eq_true rfl, Nat.le_of_ble_eq_true rfl⟩ ⟨Nat.le_of_ble_eq_true rfl, Nat.le_of_ble_eq_true rfl⟩ (Nat.le_of_ble_eq_true rfl) dX0_cyclesOf_4 (kV (fun σr3 H locs hp hG hS => ?_))
  have hp : σr3 = (gup σ2 nw1 (7, gO 13 [.null, .null, .null, .null, .int (iI 0), .int (iI 0), .null, .null, .null])) := hp
  have hL4 : σr3 nw1 = some (7, gO 13 [.null, .null, .null, .null, .int (iI 0), .int (iI 0), .null, .null, .null]) := by rw [hp]; exact gup_s
  have hp4 : σr3 = (gup σ nw1 (7, gO 13 [.null, .null, .null, .null, .int (iI 0), .int (iI 0), .null, .null, .null])) := by rw [hp, ← hgen2, gup_gup]
  have hX_f4 : XW X σr3 b U J R := by rw [hp4]; exact hX.keep (gKeep.new hznw1 : gKeep (fun _ => False) _ _) (fun h => h)
  have hkp_f4 : gKeep (fun t => t = 1 ∨ t = 7 ∨ t = 12) σ σr3 := by rw [hp4]; exact hkp.tr (gKeep.new hznw1)
  have hM0 := MapW.mk0 hL4 (fun _ => 0) (fun _ => 0)
  refine lv_astore_n (lv' := [(2, .ref nw1), (0, .ref (b 0)), (1, .int (iI k))]) hx hb dX0_cyclesOf_7 rfl hl (by decide) rfl (fun ls hl => ?_)
  refine lv_aload_n hx hb dX0_cyclesOf_8 rfl (lv_at hl 1 rfl) ?_
  refine lv_iload_n hx hb dX0_cyclesOf_9 rfl (lv_at hl 2 rfl) ?_
  refine g_callV (As := [.int (iI k)]) (rest := []) 1 hx hb hml hown hts hK hG hS hl.1 (mX0_gathers l X σr3 b U J R hX_f4 hT k (by omega)) hX_f4.c0 rfl q648 q650 qs20 q69 q651 (by decide +kernel) rfl ⟨Nat.le_of_ble_eq_true rfl, Nat.le_of_ble_eq_true rfl⟩ ⟨Nat.le_of_ble_eq_true rfl, Nat.le_of_ble_eq_true rfl⟩ (Nat.le_of_ble_eq_true rfl) dX0_cyclesOf_10 (kV (fun σr5 H locs hp hG hS => ?_))
  obtain ⟨U6, J6, hX6, kp6, hT6, hrel6⟩ := hp
  have hM_7 : MapW σr5 nw1 0 (fun _ => 0) (fun _ => 0) := hM0.keep kp6 ⟨(by first | decide | omega | (intro q9; dsimp only at q9; omega)), (by first | decide | omega | (intro q9; dsimp only at q9; omega)), (by first | decide | omega | (intro q9; dsimp only at q9; omega)), (by first | decide | omega | (intro q9; dsimp only at q9; omega))⟩
  have hkp7 : gKeep (fun t => t = 1 ∨ t = 7 ∨ t = 12) σ σr5 := hkp_f4.tr (kp6.mono (fun t (h : t = 1) => (by show t = 1 ∨ t = 7 ∨ t = 12; omega)))
  have hli := hrel6.1
  have hgu : ∀ q, q ≠ 8 → q ≠ 10 → U6 q = U q := fun q h1 h2 => hrel6.2.1 q h1
  have hgj := hrel6.2.2
  have hl1 := hli.1
  have hl2 := hli.2.1
  refine g_iconst hx hb dX0_cyclesOf_13 ?_
  refine lv_istore_n (lv' := [(3, .int (iI 0)), (2, .ref nw1), (0, .ref (b 0)), (1, .int (iI k))]) hx hb dX0_cyclesOf_14 rfl hl (by decide) rfl (fun ls hl => ?_)
  have loop_15 : ∀ (nF : Nat) (σL : gS) (i9 : Int) (UL : Nat → Int → Int) (JL : Nat → Int), ((1024 - i9).toNat : Nat) < nF → (gKeep (fun t => t = 1 ∨ t = 7 ∨ t = 12) σ σL) → (XW X σL b UL JL R) → (MapW σL nw1 0 (fun _ => 0) (fun _ => 0)) → (okT (UL 20)) → (0 ≤ i9 ∧ i9 ≤ 1024) → (∀ q : Int, 0 ≤ q → q < i9 → UL 10 q = 0) → (∀ q, q ≠ 8 → q ≠ 10 → UL q = U q) → (∀ q, q ≠ 9 → JL q = J q) → (lisP (fibL (U 20) k 1024) (UL 8) (JL 9)) → ∀ (H : Heap) (locs : List Loc) (ls : Array Slot), gSat X σL H → va_S (gA X) ss.heap H locs → lv_has ls 7 [(3, .int (iI i9)), (2, .ref nw1), (0, .ref (b 0)), (1, .int (iI k))] → W pp l ee (gR 10 3080 8210 3121) ss mm args below meth cd H locs 2 11 Q (F0 mm 15 ls []) := by
    intro nF
    induction nF with
    | zero => intro σL i9 UL JL hm; exact absurd hm (Nat.not_lt_zero _)
    | succ nF ih_15 =>
      intro σL i9 UL JL hm hkL hXL hML hTL hi9 hz9 huL hjL hliL H locs ls hG hS hl
      refine lv_iload_n hx hb dX0_cyclesOf_15 rfl (lv_at hl 0 rfl) ?_
      refine g_sipush hx hb dX0_cyclesOf_16 (by decide) ?_
      refine g_icmp_ge (tgt := 35) hx hb dX0_cyclesOf_19 (by decide) (by omega) (by omega) (fun cq8 => ?_) (fun cq8 => ?_)
      · refine g_iconst hx hb dX0_cyclesOf_35 ?_
        refine lv_istore_n (lv' := [(3, .int (iI 0)), (2, .ref nw1), (0, .ref (b 0)), (1, .int (iI k))]) hx hb dX0_cyclesOf_36 rfl hl (by decide) rfl (fun ls hl => ?_)
        have loop_37 : ∀ (nF : Nat) (σM : gS) (k9 : Nat) (n9 : Nat) (cd9 : Nat → Int) (UM : Nat → Int → Int) (JM : Nat → Int) (cN : Nat) (sN : Nat), ((JM 9 - k9).toNat : Nat) < nF → (gKeep (fun t => t = 1 ∨ t = 7 ∨ t = 12) σ σM) → (XW X σM b UM JM R) → (MapW σM nw1 n9 cd9 ((cyF (U 20) (fibL (U 20) k 1024) k9).2)) → (okT (UM 20)) → ((k9 : Int) ≤ JM 9) → (∀ q : Int, 0 ≤ q → q < 1024 → UM 10 q = (cyF (U 20) (fibL (U 20) k 1024) k9).1 q) → (∀ q, q ≠ 8 → q ≠ 10 → UM q = U q) → (∀ q, q ≠ 9 → JM q = J q) → (lisP (fibL (U 20) k 1024) (UM 8) (JM 9)) → (cyK n9 cd9 (cyF (U 20) (fibL (U 20) k 1024) k9).2) → (cN ≤ 2 + 3 * k9 ∧ sN ≤ 11 + 8 * k9) → ∀ (H : Heap) (locs : List Loc) (ls : Array Slot), gSat X σM H → va_S (gA X) ss.heap H locs → lv_has ls 7 [(3, .int (iI (k9 : Int))), (2, .ref nw1), (0, .ref (b 0)), (1, .int (iI k))] → W pp l ee (gR 10 3080 8210 3121) ss mm args below meth cd H locs cN sN Q (F0 mm 37 ls []) := by
          intro nF
          induction nF with
          | zero => intro σM k9 n9 cd9 UM JM cN sN hm; exact absurd hm (Nat.not_lt_zero _)
          | succ nF ih_37 =>
            intro σM k9 n9 cd9 UM JM cN sN hm hkM hXM hMM hTM hk9 hsn huM hjM hliM hky hcs H locs ls hG hS hl
            have hl1 := hliM.1
            have hl2 := hliM.2.1
            have hcb := cyF_b (U 20) (fibL (U 20) k 1024) k9
            have hT9 : UM 20 = U 20 := huM 20 (by decide) (by decide)
            refine lv_iload_n hx hb dX0_cyclesOf_37 rfl (lv_at hl 0 rfl) ?_
            refine lv_aload_n hx hb dX0_cyclesOf_38 rfl (lv_at hl 2 rfl) ?_
            refine g_get (C := RX0) (T := TX0) (N := 20) (v := .int (iI (JM 9))) hx hb hts hown hK hG hXM.c0 rfl in_X0 9 (by decide) q432 rfl rfl dX0_cyclesOf_39 ?_
            refine g_icmp_ge (tgt := 155) hx hb dX0_cyclesOf_42 (by decide) (by omega) (by omega) (fun cq9 => ?_) (fun cq9 => ?_)
            · refine lv_aload_n hx hb dX0_cyclesOf_155 rfl (lv_at hl 1 rfl) ?_
              have hke : k9 = (fibL (U 20) k 1024).length := by omega
              have hfe := cyA_F (U 20) k 1024
              rw [← hke] at hfe
              exact g_aret hx hb hr (by first | exact Or.inl ⟨_, rfl⟩ | exact Or.inr ⟨_, rfl⟩) (by first | exact Or.inl rfl | exact Or.inr ⟨_, rfl⟩ | assumption | exact va_rf_or _) hlocks hQ hG hS (by show _ ≤ 3080; omega) (by show _ ≤ 8210; omega) ⟨_, rfl, hkM, (⟨_, n9, cd9, rfl, by rw [hfe]; exact hMM, by rw [hfe]; exact hky, cyK_le hMM, UM, JM, hXM, hTM, huM, hjM⟩)⟩ dX0_cyclesOf_156
            · refine lv_aload_n hx hb dX0_cyclesOf_45 rfl (lv_at hl 2 rfl) ?_
              refine g_get (C := RX0) (T := TX0) (N := 20) (v := .ref (b 10)) hx hb hts hown hK hG hXM.c0 rfl in_X0 10 (by decide) q433 rfl rfl dX0_cyclesOf_46 ?_
              refine lv_aload_n hx hb dX0_cyclesOf_49 rfl (lv_at hl 2 rfl) ?_
              refine g_get (C := RX0) (T := TX0) (N := 20) (v := .ref (b 8)) hx hb hts hown hK hG hXM.c0 rfl in_X0 8 (by decide) q431 rfl rfl dX0_cyclesOf_50 ?_
              refine lv_iload_n hx hb dX0_cyclesOf_53 rfl (lv_at hl 0 rfl) ?_
              refine g_iald hx hb hK hG hXM.c8 dX0_cyclesOf_54 (by omega) ?_
              have hfa := fibL_at (T := U 20) (k := k) (n := 1024) (i := k9) (by omega)
              obtain ⟨sp, hsp⟩ : ∃ z : Int, z = (fibL (U 20) k 1024).getD k9 0 := ⟨_, rfl⟩
              rw [← hsp] at hfa
              have hsp2 : UM 8 (k9 : Int) = sp := by rw [hsp]; exact hliM.2.2 k9 (by omega)
              refine g_rw (b := sp) (hsp2) ?_
              refine g_zald hx hb hK hG hXM.c10 dX0_cyclesOf_55 (by omega) ?_
              have hb9 : UM 10 sp = 0 ∨ UM 10 sp = 1 := by rw [hsn _ (by omega) (by omega)]; exact hcb _
              refine g_if_eq (tgt := 64) hx hb dX0_cyclesOf_56 (by decide) (by omega) (fun cq10 => ?_) (fun cq10 => ?_)
              · refine lv_aload_n hx hb dX0_cyclesOf_64 rfl (lv_at hl 2 rfl) ?_
                refine lv_aload_n hx hb dX0_cyclesOf_65 rfl (lv_at hl 2 rfl) ?_
                refine g_get (C := RX0) (T := TX0) (N := 20) (v := .ref (b 8)) hx hb hts hown hK hG hXM.c0 rfl in_X0 8 (by decide) q431 rfl rfl dX0_cyclesOf_66 ?_
                refine lv_iload_n hx hb dX0_cyclesOf_69 rfl (lv_at hl 0 rfl) ?_
                refine g_iald hx hb hK hG hXM.c8 dX0_cyclesOf_70 (by omega) ?_
                refine g_rw (b := sp) (hsp2) ?_
                refine g_callV (As := [.int (iI sp)]) (rest := []) 1 hx hb hml hown hts hK hG hS hl.1 (mX0_periodOf l X σM b UM JM R hXM hTM sp (by omega)) hXM.c0 rfl q639 q641 qs19 q69 q642 (by decide +kernel) rfl ⟨Nat.le_of_ble_eq_true rfl, Nat.le_of_ble_eq_true rfl⟩ ⟨by show _ ≤ 3080; omega, by show _ ≤ 8210; omega⟩ (Nat.le_of_ble_eq_true rfl) dX0_cyclesOf_71 (kI (fun r11 σr11 H locs hp hG hS => ?_))
                obtain ⟨⟨hr11, kr11⟩, rfl⟩ := hp
                refine lv_istore (lv' := [(4, .int (iI r11)), (3, .int (iI (k9 : Int))), (2, .ref nw1), (0, .ref (b 0)), (1, .int (iI k))]) hx hb dX0_cyclesOf_74 hl (by decide) rfl (fun ls hl => ?_)
                have hpq : r11 = perZ (U 20) sp := by rw [hr11, hT9]
                have hpl := perZ_le (U 20) sp
                rw [← hpq] at hpl
                refine lv_iload hx hb dX0_cyclesOf_76 (lv_at hl 0 rfl) ?_
                refine g_if_le (tgt := 149) hx hb dX0_cyclesOf_78 (by decide) (by omega) (fun cq12 => ?_) (fun cq12 => ?_)
                · refine g_iinc (lv' := [(3, .int (iI ((k9 : Int) + 1))), (4, .int (iI r11)), (2, .ref nw1), (0, .ref (b 0)), (1, .int (iI k))]) hx hb dX0_cyclesOf_149 hl (k := 1) rfl (by decide) rfl (fun ls hl => ?_)
                  refine lv_goto (tgt := 37) hx hb dX0_cyclesOf_152 (by decide) ?_
                  exact ih_37 σM (k9 + 1) n9 cd9 UM JM cN sN (by omega) (hkM) (hXM) ((by rw [cyF, cyS_n (by rw [← hsp, ← hpq]; omega)]; exact hMM)) (hTM) (by omega) (fun q h1 h2 => by rw [cyF, cyS_n (by rw [← hsp, ← hpq]; omega)]; exact hsn q h1 h2) (huM) (hjM) (hliM) (by rw [cyF, cyS_n (by rw [← hsp, ← hpq]; omega)]; exact hky) (⟨by omega, by omega⟩)  _ _ _ hG hS (lv_sub hl [0, 2, 3, 4] rfl)
                · have hsn0 : (cyF (U 20) (fibL (U 20) k 1024) k9).1 sp = 0 := by rw [← hsn _ (by omega) (by omega)]; omega
                  have hpe : 1 ≤ perZ (U 20) sp := by rw [← hpq]; omega
                  have hO9 := cyF_r (U 20) (fibL (U 20) k 1024) k9 r11
                  refine lv_aload_n hx hb dX0_cyclesOf_81 rfl (lv_at hl 3 rfl) ?_
                  refine lv_aload_n hx hb dX0_cyclesOf_82 rfl (lv_at hl 3 rfl) ?_
                  refine g_get (C := RX0) (T := TX0) (N := 20) (v := .ref (b 8)) hx hb hts hown hK hG hXM.c0 rfl in_X0 8 (by decide) q431 rfl rfl dX0_cyclesOf_83 ?_
                  refine lv_iload_n hx hb dX0_cyclesOf_86 rfl (lv_at hl 1 rfl) ?_
                  refine g_iald hx hb hK hG hXM.c8 dX0_cyclesOf_87 (by omega) ?_
                  refine g_rw (b := sp) (hsp2) ?_
                  refine lv_iload hx hb dX0_cyclesOf_88 (lv_at hl 0 rfl) ?_
                  refine g_callV (As := [.int (iI sp), .int (iI r11)]) (rest := []) 2 hx hb hml hown hts hK hG hS hl.1 (mX0_marks l X σM b UM JM R hXM hTM sp r11 (by omega) (by omega) (fun i hi => by rw [hT9]; exact perZ_way (by omega) hpe (by rw [← hpq]; exact hi))) hXM.c0 rfl q1106 q1108 qs28 q69 q1109 (by decide +kernel) rfl ⟨Nat.le_of_ble_eq_true rfl, Nat.le_of_ble_eq_true rfl⟩ ⟨by show _ ≤ 3080; omega, by show _ ≤ 8210; omega⟩ (Nat.le_of_ble_eq_true rfl) dX0_cyclesOf_90 (kV (fun σr13 H locs hp hG hS => ?_))
                  obtain ⟨kq14, U14, J14, hX14, hT14, hrel14⟩ := hp
                  have hM_15 : MapW σr13 nw1 n9 cd9 ((cyF (U 20) (fibL (U 20) k 1024) k9).2) := hMM.keep kq14 ⟨(by first | decide | omega | (intro q9; dsimp only at q9; omega)), (by first | decide | omega | (intro q9; dsimp only at q9; omega)), (by first | decide | omega | (intro q9; dsimp only at q9; omega)), (by first | decide | omega | (intro q9; dsimp only at q9; omega))⟩
                  have hkp15 : gKeep (fun t => t = 1 ∨ t = 7 ∨ t = 12) σ σr13 := hkM.tr (kq14.mono (fun t (h : t = 1) => (by show t = 1 ∨ t = 7 ∨ t = 12; omega)))
                  have hmk14 := hrel14
                  have hj914 : J14 9 = JM 9 := congrFun hrel14.2.2 9
                  refine g_new (ci := 9) (C := RX9) (T := TX9) (N := 1) (ty := tyX9) (fs := [.int (iI 0)]) hx hb 8 hts hown hK hG hS rfl in_X9 tyX9_ok q1110 q1111 q105 (fun j hj => match j, hj with | 0, _ => rfl | k9 + 1, h => absurd h (by omega)) (by show _ ≤ 3080; omega) (by show _ ≤ 8210; omega) dX0_cyclesOf_93 (fun nw16 H hznw16 hG hS => ?_)
                  have hLnw16 : (gup σr13 nw16 (8, gO 9 [.int (iI 0)])) nw16 = some (8, gO 9 [.int (iI 0)]) := gup_s
                  generalize hgen17 : (gup σr13 nw16 (8, gO 9 [.int (iI 0)])) = σ17 at hG hLnw16 
                  refine lv_dup hx hb dX0_cyclesOf_96 rfl ?_
                  refine lv_iload hx hb dX0_cyclesOf_97 (lv_at hl 0 rfl) ?_
                  refine g_callI (As := [.int (iI r11)]) (rest := [.ref nw16]) 1 hx hb hml hown hts hK hG hS hl.1 (mX9_init l X σ17 nw16 _ r11 hLnw16) q1112 q1113 q105 q1114 rfl (by decide +kernel) rfl ⟨Nat.le_of_ble_eq_true rfl, Nat.le_of_ble_eq_true rfl⟩ ⟨by show _ ≤ 3080; omega, by show _ ≤ 8210; omega⟩ (Nat.le_of_ble_eq_true rfl) dX0_cyclesOf_99 (kV (fun σr18 H locs hp hG hS => ?_))
                  have hp : σr18 = (gup σ17 nw16 (8, gO 9 [.int (iI r11)])) := hp
                  have hL19 : σr18 nw16 = some (8, gO 9 [.int (iI r11)]) := by rw [hp]; exact gup_s
                  have hp19 : σr18 = (gup σr13 nw16 (8, gO 9 [.int (iI r11)])) := by rw [hp, ← hgen17, gup_gup]
                  have hX_f19 : XW X σr18 b U14 J14 R := by rw [hp19]; exact hX14.keep (gKeep.new hznw16 : gKeep (fun _ => False) _ _) (fun h => h)
                  have hM_f19 : MapW σr18 nw1 n9 cd9 ((cyF (U 20) (fibL (U 20) k 1024) k9).2) := by rw [hp19]; exact hM_15.keep (gKeep.new hznw16 : gKeep (fun _ => False) _ _) ⟨(fun h => h), (fun h => h), (fun h => h), (fun h => h)⟩
                  have hkp_f19 : gKeep (fun t => t = 1 ∨ t = 7 ∨ t = 12) σ σr18 := by rw [hp19]; exact hkp15.tr (gKeep.new hznw16)
                  refine lv_astore (lv' := [(5, .ref nw16), (4, .int (iI r11)), (3, .int (iI (k9 : Int))), (2, .ref nw1), (0, .ref (b 0)), (1, .int (iI k))]) hx hb dX0_cyclesOf_102 hl (by decide) rfl (fun ls hl => ?_)
                  refine lv_aload_n hx hb dX0_cyclesOf_104 rfl (lv_at hl 3 rfl) ?_
                  refine lv_aload hx hb dX0_cyclesOf_105 (lv_at hl 0 rfl) ?_
                  obtain ⟨fm20, hm20⟩ := hM_f19.hm
                  obtain ⟨fm22, hm22⟩ := hM_f19.hm
                  refine g_callV (As := [.ref nw16]) (rest := []) 1 hx hb hml hown hts hK hG hS hl.1 (mM_get hM_f19 (c := r11) hL19 (by omega)) hm22 rfl q1121 q1122 q1123 q75 q1124 (by decide +kernel) rfl ⟨Nat.le_of_ble_eq_true rfl, Nat.le_of_ble_eq_true rfl⟩ ⟨by show _ ≤ 3080; omega, by show _ ≤ 8210; omega⟩ (Nat.le_of_ble_eq_true rfl) dX0_cyclesOf_107 (kA (fun r21 σr21 H locs hp hG hS => ?_))
                  obtain ⟨hp, rfl⟩ := hp
                  rcases hp with ⟨w9, rfl, hinc, hMG⟩ | ⟨rfl, hnin⟩
                  · have hcw := hMG.cell
                    refine g_castS hx hb hts hown hK hG hcw rfl q1143 dX0_cyclesOf_110 ?_
                    refine lv_astore (lv' := [(6, .ref w9), (5, .ref nw16), (4, .int (iI r11)), (3, .int (iI (k9 : Int))), (2, .ref nw1), (0, .ref (b 0)), (1, .int (iI k))]) hx hb dX0_cyclesOf_113 hl (by decide) rfl (fun ls hl => ?_)
                    refine lv_aload hx hb dX0_cyclesOf_115 (lv_at hl 0 rfl) ?_
                    refine lv_ifnonnull (tgt := 138) hx hb dX0_cyclesOf_117 (by decide) ?_
                    refine lv_aload hx hb dX0_cyclesOf_138 (lv_at hl 0 rfl) ?_
                    refine lv_dup hx hb dX0_cyclesOf_140 rfl ?_
                    refine g_getN (C := RX10) (T := TX10) (N := 1) (v := .int (iI ((cyF (U 20) (fibL (U 20) k 1024) k9).2 r11))) hx hb hts hown hK hG hcw rfl in_X10 0 (by decide) q1149 rfl rfl dX0_cyclesOf_141 ?_
                    refine g_iconst hx hb dX0_cyclesOf_144 ?_
                    refine g_iadd hx hb dX0_cyclesOf_145 ?_
                    refine g_putN (C := RX10) (T := TX10) (N := 1) (ty0 := tyX10) (v := .int (iI (((cyF (U 20) (fibL (U 20) k 1024) k9).2 r11) + 1))) hx hb hts hown hK hG hS hcw rfl in_X10 tyX10_ok nmX10 0 (by decide) q1149 rfl (by decide) rfl rfl (Nat.le_of_ble_eq_true rfl) dX0_cyclesOf_146 (fun H locs hG hS => ?_)
                    have hX_23 : XW X (gup σr18 w9 (12, gO 10 ([.int (iI ((cyF (U 20) (fibL (U 20) k 1024) k9).2 r11))].set 0 (.int (iI (((cyF (U 20) (fibL (U 20) k 1024) k9).2 r11) + 1)))))) b U14 J14 R := hX_f19.keep (gKeep.up hMG.cell rfl : gKeep (fun t => t = 12) σr18 (gup σr18 w9 (12, gO 10 ([.int (iI ((cyF (U 20) (fibL (U 20) k 1024) k9).2 r11))].set 0 (.int (iI (((cyF (U 20) (fibL (U 20) k 1024) k9).2 r11) + 1))))))) (by first | decide | omega | (intro q9; dsimp only at q9; omega))
                    have hM_23 : MapW (gup σr18 w9 (12, gO 10 ([.int (iI ((cyF (U 20) (fibL (U 20) k 1024) k9).2 r11))].set 0 (.int (iI (((cyF (U 20) (fibL (U 20) k 1024) k9).2 r11) + 1)))))) nw1 n9 cd9 (iup ((cyF (U 20) (fibL (U 20) k 1024) k9).2) r11 (((cyF (U 20) (fibL (U 20) k 1024) k9).2 r11) + 1)) := hMG.put
                    have hkp23 : gKeep (fun t => t = 1 ∨ t = 7 ∨ t = 12) σ (gup σr18 w9 (12, gO 10 ([.int (iI ((cyF (U 20) (fibL (U 20) k 1024) k9).2 r11))].set 0 (.int (iI (((cyF (U 20) (fibL (U 20) k 1024) k9).2 r11) + 1)))))) := hkp_f19.tr ((gKeep.up hMG.cell rfl : gKeep (fun t => t = 12) σr18 (gup σr18 w9 (12, gO 10 ([.int (iI ((cyF (U 20) (fibL (U 20) k 1024) k9).2 r11))].set 0 (.int (iI (((cyF (U 20) (fibL (U 20) k 1024) k9).2 r11) + 1))))))).mono (fun t (h : t = 12) => (by show t = 1 ∨ t = 7 ∨ t = 12; omega)))
                    generalize (gup σr18 w9 (12, gO 10 ([.int (iI ((cyF (U 20) (fibL (U 20) k 1024) k9).2 r11))].set 0 (.int (iI (((cyF (U 20) (fibL (U 20) k 1024) k9).2 r11) + 1)))))) = σ23 at hG hX_23 hM_23 hkp23
                    refine g_iinc (lv' := [(3, .int (iI ((k9 : Int) + 1))), (6, .ref w9), (5, .ref nw16), (4, .int (iI r11)), (2, .ref nw1), (0, .ref (b 0)), (1, .int (iI k))]) hx hb dX0_cyclesOf_149 hl (k := 3) rfl (by decide) rfl (fun ls hl => ?_)
                    refine lv_goto (tgt := 37) hx hb dX0_cyclesOf_152 (by decide) ?_
                    exact ih_37 σ23 (k9 + 1) n9 cd9 U14 J14 (cN + 1) (sN + 1) (by omega) (hkp23) (hX_23) ((by rw [cyF, ← hsp, cyS_y hsn0 hpe, ← hpq]; exact hM_23)) (hT14) (by omega) (fun q h1 h2 => by rw [cyF, ← hsp, cyS_y hsn0 hpe, ← hpq, hmk14.1 q]; rw [huM 20 (by decide) (by decide)]; exact mkN_eq hsn _ q h1 h2) (fun q h1 h2 => (hmk14.2.1 q h2).trans (huM q h1 h2)) (fun q h => (congrFun hmk14.2.2 q).trans (hjM q h)) (by rw [hmk14.2.1 8 (by decide), hmk14.2.2]; exact hliM) (by rw [cyF, ← hsp, cyS_y hsn0 hpe, ← hpq]; exact cyK_old hky hinc) (⟨by omega, by omega⟩)  _ _ _ hG hS (lv_sub hl [0, 4, 5, 6] rfl)
                  · have hO0 : (cyF (U 20) (fibL (U 20) k 1024) k9).2 r11 = 0 := by have e := (hky r11); have e2 : ¬ 0 < (cyF (U 20) (fibL (U 20) k 1024) k9).2 r11 := fun q => hnin (e.mpr q); omega
                    refine lv_castN hx hb dX0_cyclesOf_110 ?_
                    refine lv_astoreN (lv' := [(6, .null), (5, .ref nw16), (4, .int (iI r11)), (3, .int (iI (k9 : Int))), (2, .ref nw1), (0, .ref (b 0)), (1, .int (iI k))]) hx hb dX0_cyclesOf_113 hl (by decide) rfl (fun ls hl => ?_)
                    refine lv_aloadN hx hb dX0_cyclesOf_115 (lv_at hl 0 rfl) ?_
                    refine lv_ifnonnullN hx hb dX0_cyclesOf_117 ?_
                    refine g_new (ci := 10) (C := RX10) (T := TX10) (N := 1) (ty := tyX10) (fs := [.int (iI 0)]) hx hb 12 hts hown hK hG hS rfl in_X10 tyX10_ok q1143 q1144 q107 (fun j hj => match j, hj with | 0, _ => rfl | k9 + 1, h => absurd h (by omega)) (by show _ ≤ 3080; omega) (by show _ ≤ 8210; omega) dX0_cyclesOf_120 (fun nw24 H hznw24 hG hS => ?_)
                    have hLnw24 : (gup σr18 nw24 (12, gO 10 [.int (iI 0)])) nw24 = some (12, gO 10 [.int (iI 0)]) := gup_s
                    have hLf25_0 := (gKeep.new hznw24 : gKeep (fun _ => False) σr18 (gup σr18 nw24 (12, gO 10 [.int (iI 0)]))) _ _ _ hL19 (fun h => h)
                    generalize hgen25 : (gup σr18 nw24 (12, gO 10 [.int (iI 0)])) = σ25 at hG hLnw24 hLf25_0
                    refine lv_dup hx hb dX0_cyclesOf_123 rfl ?_
                    refine g_callIN (As := []) (rest := [.ref nw24]) 0 hx hb hml hown hts hK hG hS hl.1 (mX10_init l X σ25 nw24 _ hLnw24) q1145 q1146 q107 q1147 rfl (by decide +kernel) rfl ⟨Nat.le_of_ble_eq_true rfl, Nat.le_of_ble_eq_true rfl⟩ ⟨by show _ ≤ 3080; omega, by show _ ≤ 8210; omega⟩ (Nat.le_of_ble_eq_true rfl) dX0_cyclesOf_124 (kV (fun σr26 H locs hp hG hS => ?_))
                    have hp : σr26 = (gup σ25 nw24 (12, gO 10 [.int (iI 0)])) := hp
                    have hL27 : σr26 nw24 = some (12, gO 10 [.int (iI 0)]) := by rw [hp]; exact gup_s
                    have hp27 : σr26 = (gup σr18 nw24 (12, gO 10 [.int (iI 0)])) := by rw [hp, ← hgen25, gup_gup]
                    have hLg27_0 := (gKeep.new hznw24 : gKeep (fun _ => False) σr18 (gup σr18 nw24 (12, gO 10 [.int (iI 0)]))) _ _ _ hL19 (fun h => h)
                    rw [← hp27] at hLg27_0
                    have hX_f27 : XW X σr26 b U14 J14 R := by rw [hp27]; exact hX_f19.keep (gKeep.new hznw24 : gKeep (fun _ => False) _ _) (fun h => h)
                    have hM_f27 : MapW σr26 nw1 n9 cd9 ((cyF (U 20) (fibL (U 20) k 1024) k9).2) := by rw [hp27]; exact hM_f19.keep (gKeep.new hznw24 : gKeep (fun _ => False) _ _) ⟨(fun h => h), (fun h => h), (fun h => h), (fun h => h)⟩
                    have hkp_f27 : gKeep (fun t => t = 1 ∨ t = 7 ∨ t = 12) σ σr26 := by rw [hp27]; exact hkp_f19.tr (gKeep.new hznw24)
                    have hMN : MapN σr26 nw1 n9 cd9 ((cyF (U 20) (fibL (U 20) k 1024) k9).2) nw24 := by rw [hp27]; exact hM_f19.fresh hznw24
                    refine lv_astore (lv' := [(6, .ref nw24), (5, .ref nw16), (4, .int (iI r11)), (3, .int (iI (k9 : Int))), (2, .ref nw1), (0, .ref (b 0)), (1, .int (iI k))]) hx hb dX0_cyclesOf_127 hl (by decide) rfl (fun ls hl => ?_)
                    refine lv_aload_n hx hb dX0_cyclesOf_129 rfl (lv_at hl 4 rfl) ?_
                    refine lv_aload hx hb dX0_cyclesOf_130 (lv_at hl 1 rfl) ?_
                    refine lv_aload hx hb dX0_cyclesOf_132 (lv_at hl 0 rfl) ?_
                    obtain ⟨fm28, hm28⟩ := hM_f27.hm
                    obtain ⟨fm30, hm30⟩ := hM_f27.hm
                    refine g_callV (As := [.ref nw16, .ref nw24]) (rest := []) 2 hx hb hml hown hts hK hG hS hl.1 (mM_put hMN hnin hLg27_0 (by omega) hL27) hm30 rfl q1153 q1154 q1155 q75 q1156 (by decide +kernel) rfl ⟨Nat.le_of_ble_eq_true rfl, Nat.le_of_ble_eq_true rfl⟩ ⟨by show _ ≤ 3080; omega, by show _ ≤ 8210; omega⟩ (Nat.le_of_ble_eq_true rfl) dX0_cyclesOf_134 (kA (fun r29 σr29 H locs hp hG hS => ?_))
                    obtain ⟨rfl, kq31, cd31, hMG31, hin31⟩ := hp
                    have hX_32 : XW X σr29 b U14 J14 R := hX_f27.keep kq31 (by first | decide | omega | (intro q9; dsimp only at q9; omega))
                    have hkp32 : gKeep (fun t => t = 1 ∨ t = 7 ∨ t = 12) σ σr29 := hkp_f27.tr (kq31.mono (fun t (h : t = 7) => (by show t = 1 ∨ t = 7 ∨ t = 12; omega)))
                    have hcl31 := hMG31.cell
                    rw [iup_s] at hcl31
                    refine lv_pop hx hb dX0_cyclesOf_137 rfl ?_
                    refine lv_aload hx hb dX0_cyclesOf_138 (lv_at hl 0 rfl) ?_
                    refine lv_dup hx hb dX0_cyclesOf_140 rfl ?_
                    refine g_getN (C := RX10) (T := TX10) (N := 1) (v := .int (iI 0)) hx hb hts hown hK hG hcl31 rfl in_X10 0 (by decide) q1149 rfl rfl dX0_cyclesOf_141 ?_
                    refine g_iconst hx hb dX0_cyclesOf_144 ?_
                    refine g_iadd hx hb dX0_cyclesOf_145 ?_
                    refine g_rw (b := 1) (by decide) ?_
                    refine g_putN (C := RX10) (T := TX10) (N := 1) (ty0 := tyX10) (v := .int (iI 1)) hx hb hts hown hK hG hS hcl31 rfl in_X10 tyX10_ok nmX10 0 (by decide) q1149 rfl (by decide) rfl rfl (Nat.le_of_ble_eq_true rfl) dX0_cyclesOf_146 (fun H locs hG hS => ?_)
                    have hX_33 : XW X (gup σr29 nw24 (12, gO 10 ([.int (iI 0)].set 0 (.int (iI 1))))) b U14 J14 R := hX_32.keep (gKeep.up hMG31.cell rfl : gKeep (fun t => t = 12) σr29 (gup σr29 nw24 (12, gO 10 ([.int (iI 0)].set 0 (.int (iI 1)))))) (by first | decide | omega | (intro q9; dsimp only at q9; omega))
                    have hM_33 : MapW (gup σr29 nw24 (12, gO 10 ([.int (iI 0)].set 0 (.int (iI 1))))) nw1 (n9 + 1) cd31 (iup (iup ((cyF (U 20) (fibL (U 20) k 1024) k9).2) r11 0) r11 1) := hMG31.put
                    have hkp33 : gKeep (fun t => t = 1 ∨ t = 7 ∨ t = 12) σ (gup σr29 nw24 (12, gO 10 ([.int (iI 0)].set 0 (.int (iI 1))))) := hkp32.tr ((gKeep.up hMG31.cell rfl : gKeep (fun t => t = 12) σr29 (gup σr29 nw24 (12, gO 10 ([.int (iI 0)].set 0 (.int (iI 1)))))).mono (fun t (h : t = 12) => (by show t = 1 ∨ t = 7 ∨ t = 12; omega)))
                    generalize (gup σr29 nw24 (12, gO 10 ([.int (iI 0)].set 0 (.int (iI 1))))) = σ33 at hG hX_33 hM_33 hkp33
                    refine g_iinc (lv' := [(3, .int (iI ((k9 : Int) + 1))), (6, .ref nw24), (5, .ref nw16), (4, .int (iI r11)), (2, .ref nw1), (0, .ref (b 0)), (1, .int (iI k))]) hx hb dX0_cyclesOf_149 hl (k := 3) rfl (by decide) rfl (fun ls hl => ?_)
                    refine lv_goto (tgt := 37) hx hb dX0_cyclesOf_152 (by decide) ?_
                    exact ih_37 σ33 (k9 + 1) (n9 + 1) cd31 U14 J14 (cN + 1 + 1 + 1) (sN + 1 + 1 + 6) (by omega) (hkp33) (hX_33) ((by have e := hM_33; rw [iup_2'] at e; rw [cyF, ← hsp, cyS_y hsn0 hpe, ← hpq]; show MapW _ _ _ _ (iup _ _ ((cyF (U 20) (fibL (U 20) k 1024) k9).2 r11 + 1)); rw [hO0]; exact e)) (hT14) (by omega) (fun q h1 h2 => by rw [cyF, ← hsp, cyS_y hsn0 hpe, ← hpq, hmk14.1 q]; rw [huM 20 (by decide) (by decide)]; exact mkN_eq hsn _ q h1 h2) (fun q h1 h2 => (hmk14.2.1 q h2).trans (huM q h1 h2)) (fun q h => (congrFun hmk14.2.2 q).trans (hjM q h)) (by rw [hmk14.2.1 8 (by decide), hmk14.2.2]; exact hliM) (by rw [cyF, ← hsp, cyS_y hsn0 hpe, ← hpq]; exact cyK_new hky hO0 hin31) (⟨by omega, by omega⟩)  _ _ _ hG hS (lv_sub hl [0, 4, 5, 6] rfl)
              · refine g_bipush hx hb dX0_cyclesOf_59 (by decide) ?_
                refine lv_goto (tgt := 74) hx hb dX0_cyclesOf_61 (by decide) ?_
                refine lv_istore (lv' := [(4, .int (iI (-5))), (3, .int (iI (k9 : Int))), (2, .ref nw1), (0, .ref (b 0)), (1, .int (iI k))]) hx hb dX0_cyclesOf_74 hl (by decide) rfl (fun ls hl => ?_)
                refine lv_iload hx hb dX0_cyclesOf_76 (lv_at hl 0 rfl) ?_
                refine g_if_le (tgt := 149) hx hb dX0_cyclesOf_78 (by decide) (by omega) (fun cq34 => ?_) (fun cq34 => absurd cq34 (by decide))
                refine g_iinc (lv' := [(3, .int (iI ((k9 : Int) + 1))), (4, .int (iI (-5))), (2, .ref nw1), (0, .ref (b 0)), (1, .int (iI k))]) hx hb dX0_cyclesOf_149 hl (k := 1) rfl (by decide) rfl (fun ls hl => ?_)
                refine lv_goto (tgt := 37) hx hb dX0_cyclesOf_152 (by decide) ?_
                exact ih_37 σM (k9 + 1) n9 cd9 UM JM cN sN (by omega) (hkM) (hXM) ((by rw [cyF, cyS_n (by rw [← hsp]; intro q; have e := hsn sp (by omega) (by omega); rw [q.1] at e; omega)]; exact hMM)) (hTM) (by omega) (fun q h1 h2 => by rw [cyF, cyS_n (by rw [← hsp]; intro q; have e := hsn sp (by omega) (by omega); rw [q.1] at e; omega)]; exact hsn q h1 h2) (huM) (hjM) (hliM) (by rw [cyF, cyS_n (by rw [← hsp]; intro q; have e := hsn sp (by omega) (by omega); rw [q.1] at e; omega)]; exact hky) (⟨by omega, by omega⟩)  _ _ _ hG hS (lv_sub hl [0, 2, 3, 4] rfl)
        exact loop_37 _ σL 0 0 (fun _ => 0) UL JL 2 11 (Nat.lt_succ_self _) (hkL) (hXL) (hML) (hTL) (by have := hliL.1; omega) (fun q h1 h2 => hz9 q h1 (by omega)) (huL) (hjL) (hliL) (fun v => ⟨fun ⟨i, h, _⟩ => absurd h (Nat.not_lt_zero _), fun h => absurd h (by show ¬ (0 : Int) < 0; decide)⟩) (⟨by decide, by decide⟩)  _ _ _ hG hS (lv_sub hl [0, 1, 2, 3] rfl)
      · refine lv_aload_n hx hb dX0_cyclesOf_22 rfl (lv_at hl 2 rfl) ?_
        refine g_get (C := RX0) (T := TX0) (N := 20) (v := .ref (b 10)) hx hb hts hown hK hG hXL.c0 rfl in_X0 10 (by decide) q433 rfl rfl dX0_cyclesOf_23 ?_
        refine lv_iload_n hx hb dX0_cyclesOf_26 rfl (lv_at hl 0 rfl) ?_
        refine g_iconst hx hb dX0_cyclesOf_27 ?_
        refine g_zast hx hb hK hG hS hXL.c10 dX0_cyclesOf_28 (by first | rfl | decide) (by omega) (fun H locs hG hS => ?_)
        obtain ⟨U35, eU35⟩ : ∃ z : Nat → Int → Int, z = va_up UL 10 (iup (UL 10) i9 0) := ⟨_, rfl⟩
        have u10_35 : U35 10 = (iup (UL 10) i9 0) := by rw [eU35, va_up_self]
        have fU35 : ∀ j, j ≠ 10 → U35 j = UL j := fun j hj => by rw [eU35, va_up_ne _ _ hj]
        have hX35 : XW X (gup σL (b 10) (1, gI (X.2.1 1) 1024 (iup (UL 10) i9 0))) b U35 JL R := by rw [eU35]; exact hXL.set 10 rfl (iup (UL 10) i9 0)
        have hT35 : okT (U35 20) := by rw [fU35 20 (by decide)]; exact hTL
        have hM_35 : MapW (gup σL (b 10) (1, gI (X.2.1 1) 1024 (iup (UL 10) i9 0))) nw1 0 (fun _ => 0) (fun _ => 0) := hML.keep (gKeep.up hXL.c10 rfl : gKeep (fun t => t = 1) σL (gup σL (b 10) (1, gI (X.2.1 1) 1024 (iup (UL 10) i9 0)))) ⟨(by first | decide | omega | (intro q9; dsimp only at q9; omega)), (by first | decide | omega | (intro q9; dsimp only at q9; omega)), (by first | decide | omega | (intro q9; dsimp only at q9; omega)), (by first | decide | omega | (intro q9; dsimp only at q9; omega))⟩
        have hkp35 : gKeep (fun t => t = 1 ∨ t = 7 ∨ t = 12) σ (gup σL (b 10) (1, gI (X.2.1 1) 1024 (iup (UL 10) i9 0))) := hkL.tr ((gKeep.up hXL.c10 rfl : gKeep (fun t => t = 1) σL (gup σL (b 10) (1, gI (X.2.1 1) 1024 (iup (UL 10) i9 0)))).mono (fun t (h : t = 1) => (by show t = 1 ∨ t = 7 ∨ t = 12; omega)))
        generalize (gup σL (b 10) (1, gI (X.2.1 1) 1024 (iup (UL 10) i9 0))) = σ35 at hG hX35 hM_35 hkp35
        refine g_iinc (lv' := [(3, .int (iI (i9 + 1))), (2, .ref nw1), (0, .ref (b 0)), (1, .int (iI k))]) hx hb dX0_cyclesOf_29 hl (k := 0) rfl (by decide) rfl (fun ls hl => ?_)
        refine lv_goto (tgt := 15) hx hb dX0_cyclesOf_32 (by decide) ?_
        exact ih_15 σ35 (i9 + 1) U35 JL (by omega) (hkp35) (hX35) (hM_35) (hT35) (by omega) (fun q h1 h2 => by
                  rw [u10_35]
                  by_cases e : q = i9
                  · rw [e, iup_s]
                  · rw [iup_n e]; exact hz9 q h1 (by omega)) (fun q h1 h2 => (fU35 q h2).trans (huL q h1 h2)) (hjL) (by rw [fU35 8 (by decide)]; exact hliL)  _ _ _ hG hS (lv_sub hl [0, 1, 2, 3] rfl)
  exact loop_15 _ σr5 0 U6 J6 (Nat.lt_succ_self _) (hkp7) (hX6) (hM_7) (hT6) (by omega) (fun q h1 h2 => by omega) (hgu) (hgj) (hli)  _ _ _ hG hS (lv_sub hl [0, 1, 2, 3] rfl)

