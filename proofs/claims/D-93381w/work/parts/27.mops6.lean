set_option maxHeartbeats 4000000 in
theorem mX4_lengthOf (l : Launch) (X : gX) (σ : gS) (o : Nat) (a : Nat → Nat) (V : Nat → Int → Int) (Iv : Nat → Int) (hM : MW X σ o a V Iv) (hT : okT (V 0)) (sp : Int) (h0 : 0 ≤ sp ∧ sp ≤ 1023) (h1 : (∀ q : Int, 0 ≤ q → q < 1024 → V 5 q = stpZ (V 0) q 0)) : gMet l X yX4_lengthOf cX4_lengthOf 4 (some .int) 0 0 0 0 σ [.ref o, .int (iI sp)] (oI (fun r σ' => (r = lenZ (V 0) sp ∧ (0 ≤ r ∧ r ≤ 1024)) ∧ σ = σ')) := by
  refine gMet.of (by decide) (Nat.le_of_ble_eq_true rfl) ?_
  intro pp ee ss mm args below meth cd Q H locs ls hargs hx hb hr hlocks hml hown hnm hts hK hG hS hQ hl
  have hown : ss.vm.findClass RX4 = some mm.cls := hown
  have hl : lv_has ls 4 [(0, .ref o), (1, .int (iI sp))] := hl
  have hto := h1
  refine lv_aload_n hx hb dX4_lengthOf_0 rfl (lv_at hl 0 rfl) ?_
  refine g_get (C := RX4) (T := TX4) (N := 30) (v := .ref (a 5)) hx hb hts hown hK hG hM.o rfl in_X4 5 (by decide) q1963 rfl rfl dX4_lengthOf_1 ?_
  refine lv_iload_n hx hb dX4_lengthOf_4 rfl (lv_at hl 1 rfl) ?_
  refine g_iald hx hb hK hG hM.a5 dX4_lengthOf_5 (by omega) ?_
  refine g_name (fun w1 ew1 => ?_)
  have hw1 : w1 = stpZ (V 0) sp 0 := by rw [ew1]; exact hto _ (by omega) (by omega)
  have hrw1 := stpZ_r (V 0) (sp := sp) (by omega) 0
  rw [← hw1] at hrw1
  refine lv_istore_n (lv' := [(2, .int (iI w1)), (0, .ref o), (1, .int (iI sp))]) hx hb dX4_lengthOf_6 rfl hl (by decide) rfl (fun ls hl => ?_)
  refine g_iconst hx hb dX4_lengthOf_7 ?_
  refine lv_istore_n (lv' := [(3, .int (iI 1)), (2, .int (iI w1)), (0, .ref o), (1, .int (iI sp))]) hx hb dX4_lengthOf_8 rfl hl (by decide) rfl (fun ls hl => ?_)
  have loop_9 : ∀ (nF : Nat) (at9 : Int) (n9 : Int) (p9 : Int) (f : Nat), (f : Nat) < nF → (1 ≤ n9 ∧ n9 + (f : Int) = 1025) → (at9 = stpZ (V 0) p9 0) → (0 ≤ p9 ∧ p9 ≤ 1023) → (perA (V 0) sp f n9 p9 = perZ (V 0) sp) → (at9 = -7 ∨ (0 ≤ at9 ∧ at9 ≤ 1023)) → ∀ (H : Heap) (locs : List Loc) (ls : Array Slot), gSat X σ H → va_S (gA X) ss.heap H locs → lv_has ls 4 [(3, .int (iI n9)), (2, .int (iI at9)), (0, .ref o), (1, .int (iI sp))] → W pp l ee (gR 0 0 0 0) ss mm args below meth cd H locs 0 0 Q (F0 mm 9 ls []) := by
    intro nF
    induction nF with
    | zero => intro at9 n9 p9 f hm; exact absurd hm (Nat.not_lt_zero _)
    | succ nF ih_9 =>
      intro at9 n9 p9 f hm hi9_0 hat hi9_2 hper hi9_4 H locs ls hG hS hl
      refine lv_iload_n hx hb dX4_lengthOf_9 rfl (lv_at hl 1 rfl) ?_
      refine g_if_lt (tgt := 38) hx hb dX4_lengthOf_10 (by decide) (by omega) (fun cq2 => ?_) (fun cq2 => ?_)
      · refine lv_iload_n hx hb dX4_lengthOf_38 rfl (lv_at hl 1 rfl) ?_
        refine lv_iload_n hx hb dX4_lengthOf_39 rfl (lv_at hl 3 rfl) ?_
        refine g_icmp_ne (tgt := 54) hx hb dX4_lengthOf_40 (by decide) (by omega) (by omega) (fun cq3 => ?_) (fun cq3 => ?_)
        · refine g_iconst hx hb dX4_lengthOf_54 ?_
          exact g_iret hx hb hr hlocks hQ hG hS (Nat.zero_le _) (Nat.zero_le _) ⟨_, rfl, (by
                  have hz : 0 = lenZ (V 0) sp := by
                    unfold lenZ
                    rw [← hper]
                    rcases Nat.eq_zero_or_pos f with hf | hf
                    · rw [perA_0 hf]; rfl
                    · first | (exfalso; omega) | (rw [perA_l (by omega) hf]; rfl)
                  have hz2 := lenZ_r (V 0) sp
                  exact ⟨hz, by omega⟩), rfl⟩ dX4_lengthOf_55
        · refine lv_iload_n hx hb dX4_lengthOf_43 rfl (lv_at hl 0 rfl) ?_
          refine g_sipush hx hb dX4_lengthOf_44 (by decide) ?_
          refine g_icmp_gt (tgt := 54) hx hb dX4_lengthOf_47 (by decide) (by omega) (by omega) (fun cq4 => ?_) (fun cq4 => ?_)
          · refine g_iconst hx hb dX4_lengthOf_54 ?_
            exact g_iret hx hb hr hlocks hQ hG hS (Nat.zero_le _) (Nat.zero_le _) ⟨_, rfl, (by
                    have hz : 0 = lenZ (V 0) sp := by
                      unfold lenZ
                      rw [← hper]
                      rcases Nat.eq_zero_or_pos f with hf | hf
                      · rw [perA_0 hf]; rfl
                      · first | (exfalso; omega) | (rw [perA_l (by omega) hf]; rfl)
                    have hz2 := lenZ_r (V 0) sp
                    exact ⟨hz, by omega⟩), rfl⟩ dX4_lengthOf_55
          · refine lv_iload_n hx hb dX4_lengthOf_50 rfl (lv_at hl 0 rfl) ?_
            refine lv_goto (tgt := 55) hx hb dX4_lengthOf_51 (by decide) ?_
            exact g_iret hx hb hr hlocks hQ hG hS (Nat.zero_le _) (Nat.zero_le _) ⟨_, rfl, (by
                    have hz : n9 = lenZ (V 0) sp := by first | (exfalso; omega) | (unfold lenZ; rw [← hper, perA_b (by omega) (by omega) (by omega), if_pos (by omega)])
                    have hz2 := lenZ_r (V 0) sp
                    exact ⟨hz, by omega⟩), rfl⟩ dX4_lengthOf_55
      · refine lv_iload_n hx hb dX4_lengthOf_13 rfl (lv_at hl 1 rfl) ?_
        refine lv_iload_n hx hb dX4_lengthOf_14 rfl (lv_at hl 3 rfl) ?_
        refine g_icmp_eq (tgt := 38) hx hb dX4_lengthOf_15 (by decide) (by omega) (by omega) (fun cq5 => ?_) (fun cq5 => ?_)
        · refine lv_iload_n hx hb dX4_lengthOf_38 rfl (lv_at hl 1 rfl) ?_
          refine lv_iload_n hx hb dX4_lengthOf_39 rfl (lv_at hl 3 rfl) ?_
          refine g_icmp_ne (tgt := 54) hx hb dX4_lengthOf_40 (by decide) (by omega) (by omega) (fun cq6 => by omega) (fun cq6 => ?_)
          refine lv_iload_n hx hb dX4_lengthOf_43 rfl (lv_at hl 0 rfl) ?_
          refine g_sipush hx hb dX4_lengthOf_44 (by decide) ?_
          refine g_icmp_gt (tgt := 54) hx hb dX4_lengthOf_47 (by decide) (by omega) (by omega) (fun cq7 => ?_) (fun cq7 => ?_)
          · refine g_iconst hx hb dX4_lengthOf_54 ?_
            exact g_iret hx hb hr hlocks hQ hG hS (Nat.zero_le _) (Nat.zero_le _) ⟨_, rfl, (by
                    have hz : 0 = lenZ (V 0) sp := by
                      unfold lenZ
                      rw [← hper]
                      rcases Nat.eq_zero_or_pos f with hf | hf
                      · rw [perA_0 hf]; rfl
                      · first | (exfalso; omega) | (rw [perA_l (by omega) hf]; rfl)
                    have hz2 := lenZ_r (V 0) sp
                    exact ⟨hz, by omega⟩), rfl⟩ dX4_lengthOf_55
          · refine lv_iload_n hx hb dX4_lengthOf_50 rfl (lv_at hl 0 rfl) ?_
            refine lv_goto (tgt := 55) hx hb dX4_lengthOf_51 (by decide) ?_
            exact g_iret hx hb hr hlocks hQ hG hS (Nat.zero_le _) (Nat.zero_le _) ⟨_, rfl, (by
                    have hz : n9 = lenZ (V 0) sp := by first | (exfalso; omega) | (unfold lenZ; rw [← hper, perA_b (by omega) (by omega) (by omega), if_pos (by omega)])
                    have hz2 := lenZ_r (V 0) sp
                    exact ⟨hz, by omega⟩), rfl⟩ dX4_lengthOf_55
        · refine lv_iload_n hx hb dX4_lengthOf_18 rfl (lv_at hl 0 rfl) ?_
          refine g_sipush hx hb dX4_lengthOf_19 (by decide) ?_
          refine g_icmp_gt (tgt := 38) hx hb dX4_lengthOf_22 (by decide) (by omega) (by omega) (fun cq8 => ?_) (fun cq8 => ?_)
          · refine lv_iload_n hx hb dX4_lengthOf_38 rfl (lv_at hl 1 rfl) ?_
            refine lv_iload_n hx hb dX4_lengthOf_39 rfl (lv_at hl 3 rfl) ?_
            refine g_icmp_ne (tgt := 54) hx hb dX4_lengthOf_40 (by decide) (by omega) (by omega) (fun cq9 => ?_) (fun cq9 => by omega)
            refine g_iconst hx hb dX4_lengthOf_54 ?_
            exact g_iret hx hb hr hlocks hQ hG hS (Nat.zero_le _) (Nat.zero_le _) ⟨_, rfl, (by
                    have hz : 0 = lenZ (V 0) sp := by
                      unfold lenZ
                      rw [← hper]
                      rcases Nat.eq_zero_or_pos f with hf | hf
                      · rw [perA_0 hf]; rfl
                      · first | (exfalso; omega) | (rw [perA_l (by omega) hf]; rfl)
                    have hz2 := lenZ_r (V 0) sp
                    exact ⟨hz, by omega⟩), rfl⟩ dX4_lengthOf_55
          · refine lv_aload_n hx hb dX4_lengthOf_25 rfl (lv_at hl 2 rfl) ?_
            refine g_get (C := RX4) (T := TX4) (N := 30) (v := .ref (a 5)) hx hb hts hown hK hG hM.o rfl in_X4 5 (by decide) q1963 rfl rfl dX4_lengthOf_26 ?_
            refine lv_iload_n hx hb dX4_lengthOf_29 rfl (lv_at hl 1 rfl) ?_
            refine g_iald hx hb hK hG hM.a5 dX4_lengthOf_30 (by omega) ?_
            refine g_name (fun w10 ew10 => ?_)
            have hw10 : w10 = stpZ (V 0) at9 0 := by rw [ew10]; exact hto _ (by omega) (by omega)
            have hrw10 := stpZ_r (V 0) (sp := at9) (by omega) 0
            rw [← hw10] at hrw10
            refine lv_istore_n (lv' := [(2, .int (iI w10)), (3, .int (iI n9)), (0, .ref o), (1, .int (iI sp))]) hx hb dX4_lengthOf_31 rfl hl (by decide) rfl (fun ls hl => ?_)
            refine g_iinc (lv' := [(3, .int (iI (n9 + 1))), (2, .int (iI w10)), (0, .ref o), (1, .int (iI sp))]) hx hb dX4_lengthOf_32 hl (k := 1) rfl (by decide) rfl (fun ls hl => ?_)
            refine lv_goto (tgt := 9) hx hb dX4_lengthOf_35 (by decide) ?_
            exact ih_9 w10 (n9 + 1) at9 (f - 1) (by omega) (by omega) (hw10) (by omega) (by rw [← hper, hat]; exact perA_s (by omega) (by omega) (by omega)) (by omega)  _ _ _ hG hS (lv_sub hl [0, 1, 2, 3] rfl)
  exact loop_9 _ w1 1 sp 1024 (Nat.lt_succ_self _) (by omega) (hw1) (by omega) (rfl) (by omega)  _ _ _ hG hS (lv_sub hl [0, 1, 2, 3] rfl)

set_option maxHeartbeats 4000000 in
theorem mX4_findsCycles (l : Launch) (X : gX) (σ : gS) (o : Nat) (a : Nat → Nat) (V : Nat → Int → Int) (Iv : Nat → Int) (hM : MW X σ o a V Iv) (hT : okT (V 0)) (k : Int)  (h0 : -2147483648 ≤ k ∧ k ≤ 2147483647) : gMet l X yX4_findsCycles cX4_findsCycles 6 none 6 0 0 148 σ [.ref o, .int (iI k)] (oV (fun σ' => ∃ (V' : Nat → Int → Int) (I' : Nat → Int), MW X σ' o a V' I' ∧ gKeep (fun t => t = 10) σ σ' ∧ ((∀ q, q ≠ 3 → q ≠ 5 → q ≠ 6 → q ≠ 7 → V' q = V q) ∧ (∀ q : Int, 1 ≤ q → q ≤ 1024 → V' 7 q = (cyA (V 0) k 1024).2 q) ∧ I' = Iv))) := by
  refine gMet.of (by decide) (Nat.le_of_ble_eq_true rfl) ?_
  intro pp ee ss mm args below meth cd Q H locs ls hargs hx hb hr hlocks hml hown hnm hts hK hG hS hQ hl
  have hown : ss.vm.findClass RX4 = some mm.cls := hown
  have hl : lv_has ls 6 [(0, .ref o), (1, .int (iI k))] := hl
  have hkp : gKeep (fun t => t = 10) σ σ := gKeep.rf
  refine lv_aload_n hx hb dX4_findsCycles_0 rfl (lv_at hl 0 rfl) ?_
  refine g_callV (As := []) (rest := []) 0 hx hb hml hown hts hK hG hS hl.1 (mX4_findsKept l X σ o a V Iv hM hT  ) hM.o rfl q2154 q2156 qs54 q86 q2157 (by decide +kernel) rfl ⟨Nat.le_of_ble_eq_true rfl, Nat.le_of_ble_eq_true rfl⟩ ⟨Nat.le_of_ble_eq_true rfl, Nat.le_of_ble_eq_true rfl⟩ (Nat.le_of_ble_eq_true rfl) dX4_findsCycles_1 (kV (fun σr1 H locs hp hG hS => ?_))
  obtain ⟨V1, I1, hM1, kp1, hrel1⟩ := hp
  have hkp1 := hkp.tr kp1
  have hV0 : V1 0 = V 0 := hrel1.1 0 (by decide)
  have hT1 : okT (V1 0) := by rw [hV0]; exact hT
  refine g_iconst hx hb dX4_findsCycles_4 ?_
  refine lv_istore_n (lv' := [(2, .int (iI 0)), (0, .ref o), (1, .int (iI k))]) hx hb dX4_findsCycles_5 rfl hl (by decide) rfl (fun ls hl => ?_)
  have loop_6 : ∀ (nF : Nat) (σL : gS) (VL : Nat → Int → Int) (s9 : Int), ((1024 - s9).toNat : Nat) < nF → (MW X σL o a VL I1) → (gKeep (fun t => t = 10) σ σL) → (0 ≤ s9 ∧ s9 ≤ 1024) → (∀ q, q ≠ 3 → q ≠ 5 → q ≠ 6 → q ≠ 7 → VL q = V q) → (∀ q : Int, 0 ≤ q → q < 1024 → VL 3 q = kepZ (V 0) (q / 32) (q % 32)) → (∀ q : Int, 0 ≤ q → q < s9 → VL 5 q = stpZ (V 0) q 0) → (∀ q : Int, 0 ≤ q → q < s9 → VL 6 q = 0) → (∀ q : Int, 1 ≤ q → q ≤ s9 → VL 7 q = 0) → ∀ (H : Heap) (locs : List Loc) (ls : Array Slot), gSat X σL H → va_S (gA X) ss.heap H locs → lv_has ls 6 [(2, .int (iI s9)), (0, .ref o), (1, .int (iI k))] → W pp l ee (gR 6 0 0 148) ss mm args below meth cd H locs 0 0 Q (F0 mm 6 ls []) := by
    intro nF
    induction nF with
    | zero => intro σL VL s9 hm; exact absurd hm (Nat.not_lt_zero _)
    | succ nF ih_6 =>
      intro σL VL s9 hm hML hkL hi6_2 hA hK3 h5 h6 h7 H locs ls hG hS hl
      have hT0 : okT (VL 0) := by rw [hA 0 (by decide) (by decide) (by decide) (by decide)]; exact hT
      refine lv_iload_n hx hb dX4_findsCycles_6 rfl (lv_at hl 0 rfl) ?_
      refine g_sipush hx hb dX4_findsCycles_7 (by decide) ?_
      refine g_icmp_ge (tgt := 47) hx hb dX4_findsCycles_10 (by decide) (by omega) (by omega) (fun cq2 => ?_) (fun cq2 => ?_)
      · refine g_iconst hx hb dX4_findsCycles_47 ?_
        refine lv_istore_n (lv' := [(2, .int (iI 0)), (0, .ref o), (1, .int (iI k))]) hx hb dX4_findsCycles_48 rfl hl (by decide) rfl (fun ls hl => ?_)
        have loop_49 : ∀ (nF : Nat) (σM : gS) (VM : Nat → Int → Int) (sp : Int), ((1024 - sp).toNat : Nat) < nF → (MW X σM o a VM I1) → (gKeep (fun t => t = 10) σ σM) → (0 ≤ sp ∧ sp ≤ 1024) → (∀ q, q ≠ 3 → q ≠ 5 → q ≠ 6 → q ≠ 7 → VM q = V q) → (∀ q : Int, 0 ≤ q → q < 1024 → VM 3 q = kepZ (V 0) (q / 32) (q % 32)) → (∀ q : Int, 0 ≤ q → q < 1024 → VM 5 q = stpZ (V 0) q 0) → (∀ q : Int, 0 ≤ q → q < 1024 → VM 6 q = (cyA (V 0) k sp.toNat).1 q) → (∀ q : Int, 1 ≤ q → q ≤ 1024 → VM 7 q = (cyA (V 0) k sp.toNat).2 q) → ∀ (H : Heap) (locs : List Loc) (ls : Array Slot), gSat X σM H → va_S (gA X) ss.heap H locs → lv_has ls 6 [(2, .int (iI sp)), (0, .ref o), (1, .int (iI k))] → W pp l ee (gR 6 0 0 148) ss mm args below meth cd H locs 0 0 Q (F0 mm 49 ls []) := by
          intro nF
          induction nF with
          | zero => intro σM VM sp hm; exact absurd hm (Nat.not_lt_zero _)
          | succ nF ih_49 =>
            intro σM VM sp hm hMM hkM hi49_2 hAM hK3M h5M h6M h7M H locs ls hG hS hl
            have hT1 : okT (VM 0) := by rw [hAM 0 (by decide) (by decide) (by decide) (by decide)]; exact hT
            refine lv_iload_n hx hb dX4_findsCycles_49 rfl (lv_at hl 0 rfl) ?_
            refine g_sipush hx hb dX4_findsCycles_50 (by decide) ?_
            refine g_icmp_ge (tgt := 140) hx hb dX4_findsCycles_53 (by decide) (by omega) (by omega) (fun cq3 => ?_) (fun cq3 => ?_)
            · exact g_vret hx hb hr hlocks hQ hG hS (Nat.zero_le _) (Nat.zero_le _) ⟨rfl, VM, I1, hMM, hkM, (⟨hAM, by rw [show 1024 = sp.toNat by omega]; exact fun q h1 h2 => h7M q h1 (by omega), hrel1.2.2⟩)⟩ dX4_findsCycles_140
            · refine lv_aload_n hx hb dX4_findsCycles_56 rfl (lv_at hl 1 rfl) ?_
              refine g_get (C := RX4) (T := TX4) (N := 30) (v := .ref (a 3)) hx hb hts hown hK hG hMM.o rfl in_X4 3 (by decide) q1961 rfl rfl dX4_findsCycles_57 ?_
              refine lv_iload_n hx hb dX4_findsCycles_60 rfl (lv_at hl 0 rfl) ?_
              refine g_iald hx hb hK hG hMM.a3 dX4_findsCycles_61 (by omega) ?_
              refine g_name (fun wk ewk => ?_)
              have hwk : wk = kepZ (V 0) (sp / 32) (sp % 32) := by rw [ewk]; exact hK3M sp (by omega) (by omega)
              have hwkr := kepZ_r (V 0) (sp / 32) (sp % 32)
              rw [← hwk] at hwkr
              refine lv_iload_n hx hb dX4_findsCycles_62 rfl (lv_at hl 2 rfl) ?_
              refine g_icmp_ne (tgt := 83) hx hb dX4_findsCycles_63 (by decide) (by omega) (by omega) (fun cq4 => ?_) (fun cq4 => ?_)
              · refine g_iconst hx hb dX4_findsCycles_83 ?_
                refine lv_istore_n (lv' := [(3, .int (iI 0)), (2, .int (iI sp)), (0, .ref o), (1, .int (iI k))]) hx hb dX4_findsCycles_84 rfl hl (by decide) rfl (fun ls hl => ?_)
                refine lv_iload_n hx hb dX4_findsCycles_85 rfl (lv_at hl 0 rfl) ?_
                refine g_if_le (tgt := 134) hx hb dX4_findsCycles_86 (by decide) (by omega) (fun cq5 => ?_) (fun cq5 => absurd cq5 (by decide))
                refine g_iinc (lv' := [(2, .int (iI (sp + 1))), (3, .int (iI 0)), (0, .ref o), (1, .int (iI k))]) hx hb dX4_findsCycles_134 hl (k := 1) rfl (by decide) rfl (fun ls hl => ?_)
                refine lv_goto (tgt := 49) hx hb dX4_findsCycles_137 (by decide) ?_
                exact ih_49 σM VM (sp + 1) (by omega) (hMM) (hkM) (by omega) (hAM) (hK3M) (h5M) (by rw [show (sp + 1).toNat = sp.toNat + 1 by omega, cyA_n (T := V 0) (k := k) (n := sp.toNat) (by rw [show ((sp.toNat : Nat) : Int) = sp by omega]; intro hq; exact absurd hq.1 (by rw [← hwk]; omega))]; exact h6M) (by rw [show (sp + 1).toNat = sp.toNat + 1 by omega, cyA_n (T := V 0) (k := k) (n := sp.toNat) (by rw [show ((sp.toNat : Nat) : Int) = sp by omega]; intro hq; exact absurd hq.1 (by rw [← hwk]; omega))]; exact h7M)  _ _ _ hG hS (lv_sub hl [0, 2, 3] rfl)
              · refine lv_aload_n hx hb dX4_findsCycles_66 rfl (lv_at hl 1 rfl) ?_
                refine g_get (C := RX4) (T := TX4) (N := 30) (v := .ref (a 6)) hx hb hts hown hK hG hMM.o rfl in_X4 6 (by decide) q1964 rfl rfl dX4_findsCycles_67 ?_
                refine lv_iload_n hx hb dX4_findsCycles_70 rfl (lv_at hl 0 rfl) ?_
                refine g_zald hx hb hK hG hMM.a6 dX4_findsCycles_71 (by omega) ?_
                refine g_name (fun ws ews => ?_)
                have hws : ws = (cyA (V 0) k sp.toNat).1 sp := by rw [ews]; exact h6M sp (by omega) (by omega)
                have hwsr := cyA_b (V 0) k sp.toNat sp
                rw [← hws] at hwsr
                refine g_if_ne (tgt := 83) hx hb dX4_findsCycles_72 (by decide) (by omega) (fun cq6 => ?_) (fun cq6 => ?_)
                · refine g_iconst hx hb dX4_findsCycles_83 ?_
                  refine lv_istore_n (lv' := [(3, .int (iI 0)), (2, .int (iI sp)), (0, .ref o), (1, .int (iI k))]) hx hb dX4_findsCycles_84 rfl hl (by decide) rfl (fun ls hl => ?_)
                  refine lv_iload_n hx hb dX4_findsCycles_85 rfl (lv_at hl 0 rfl) ?_
                  refine g_if_le (tgt := 134) hx hb dX4_findsCycles_86 (by decide) (by omega) (fun cq7 => ?_) (fun cq7 => absurd cq7 (by decide))
                  refine g_iinc (lv' := [(2, .int (iI (sp + 1))), (3, .int (iI 0)), (0, .ref o), (1, .int (iI k))]) hx hb dX4_findsCycles_134 hl (k := 1) rfl (by decide) rfl (fun ls hl => ?_)
                  refine lv_goto (tgt := 49) hx hb dX4_findsCycles_137 (by decide) ?_
                  exact ih_49 σM VM (sp + 1) (by omega) (hMM) (hkM) (by omega) (hAM) (hK3M) (h5M) (by rw [show (sp + 1).toNat = sp.toNat + 1 by omega, cyA_n (T := V 0) (k := k) (n := sp.toNat) (by rw [show ((sp.toNat : Nat) : Int) = sp by omega]; intro hq; exact absurd hq.2.1 (by rw [← hws]; omega))]; exact h6M) (by rw [show (sp + 1).toNat = sp.toNat + 1 by omega, cyA_n (T := V 0) (k := k) (n := sp.toNat) (by rw [show ((sp.toNat : Nat) : Int) = sp by omega]; intro hq; exact absurd hq.2.1 (by rw [← hws]; omega))]; exact h7M)  _ _ _ hG hS (lv_sub hl [0, 2, 3] rfl)
                · refine lv_aload_n hx hb dX4_findsCycles_75 rfl (lv_at hl 1 rfl) ?_
                  refine lv_iload_n hx hb dX4_findsCycles_76 rfl (lv_at hl 0 rfl) ?_
                  refine g_callV (As := [.int (iI sp)]) (rest := []) 1 hx hb hml hown hts hK hG hS hl.1 (mX4_lengthOf l X σM o a VM I1 hMM hT1 sp (by omega) (fun q h1 h2 => by rw [hAM 0 (by decide) (by decide) (by decide) (by decide)]; exact h5M q h1 h2)) hMM.o rfl q2176 q2178 qs56 q86 q2179 (by decide +kernel) rfl ⟨Nat.le_of_ble_eq_true rfl, Nat.le_of_ble_eq_true rfl⟩ ⟨Nat.le_of_ble_eq_true rfl, Nat.le_of_ble_eq_true rfl⟩ (Nat.le_of_ble_eq_true rfl) dX4_findsCycles_77 (kI (fun r8 σr8 H locs hp hG hS => ?_))
                  obtain ⟨⟨hr8, kr8⟩, rfl⟩ := hp
                  have hlr0 : r8 = lenZ (V 0) sp := by rw [hr8, hAM 0 (by decide) (by decide) (by decide) (by decide)]
                  refine g_name (fun n9 en9 => ?_)
                  have hlr : n9 = lenZ (V 0) sp := by rw [en9]; exact hlr0
                  have hn9r := lenZ_r (V 0) sp
                  rw [← hlr] at hn9r
                  refine lv_goto (tgt := 84) hx hb dX4_findsCycles_80 (by decide) ?_
                  refine lv_istore_n (lv' := [(3, .int (iI n9)), (2, .int (iI sp)), (0, .ref o), (1, .int (iI k))]) hx hb dX4_findsCycles_84 rfl hl (by decide) rfl (fun ls hl => ?_)
                  refine lv_iload_n hx hb dX4_findsCycles_85 rfl (lv_at hl 0 rfl) ?_
                  refine g_if_le (tgt := 134) hx hb dX4_findsCycles_86 (by decide) (by omega) (fun cq9 => ?_) (fun cq9 => ?_)
                  · refine g_iinc (lv' := [(2, .int (iI (sp + 1))), (3, .int (iI n9)), (0, .ref o), (1, .int (iI k))]) hx hb dX4_findsCycles_134 hl (k := 1) rfl (by decide) rfl (fun ls hl => ?_)
                    refine lv_goto (tgt := 49) hx hb dX4_findsCycles_137 (by decide) ?_
                    exact ih_49 σM VM (sp + 1) (by omega) (hMM) (hkM) (by omega) (hAM) (hK3M) (h5M) (by rw [show (sp + 1).toNat = sp.toNat + 1 by omega, cyA_n (T := V 0) (k := k) (n := sp.toNat) (by rw [show ((sp.toNat : Nat) : Int) = sp by omega]; intro hq; exact lenZ_no (T := V 0) (s := sp) (by rw [← hlr]; omega) hq.2.2)]; exact h6M) (by rw [show (sp + 1).toNat = sp.toNat + 1 by omega, cyA_n (T := V 0) (k := k) (n := sp.toNat) (by rw [show ((sp.toNat : Nat) : Int) = sp by omega]; intro hq; exact lenZ_no (T := V 0) (s := sp) (by rw [← hlr]; omega) hq.2.2)]; exact h7M)  _ _ _ hG hS (lv_sub hl [0, 2, 3] rfl)
                  · refine lv_aload_n hx hb dX4_findsCycles_89 rfl (lv_at hl 2 rfl) ?_
                    refine g_get (C := RX4) (T := TX4) (N := 30) (v := .ref (a 7)) hx hb hts hown hK hG hMM.o rfl in_X4 7 (by decide) q1965 rfl rfl dX4_findsCycles_90 ?_
                    refine lv_iload_n hx hb dX4_findsCycles_93 rfl (lv_at hl 0 rfl) ?_
                    refine lv_dup2_11 hx hb dX4_findsCycles_94 rfl rfl ?_
                    refine g_iald hx hb hK hG hMM.a7 dX4_findsCycles_95 (by omega) ?_
                    refine g_iconst hx hb dX4_findsCycles_96 ?_
                    refine g_iadd hx hb dX4_findsCycles_97 ?_
                    refine g_iast hx hb hK hG hS hMM.a7 dX4_findsCycles_98 (by omega) (fun H locs hG hS => ?_)
                    obtain ⟨V10, eV10⟩ : ∃ J : Nat → Int → Int, J = va_up VM 7 (iup (VM 7) n9 (((VM 7) n9) + 1)) := ⟨_, rfl⟩
                    have v7_10 : V10 7 = (iup (VM 7) n9 (((VM 7) n9) + 1)) := by rw [eV10, va_up_self]
                    have fV10 : ∀ j, j ≠ 7 → V10 j = VM j := fun j hj => by rw [eV10, va_up_ne _ _ hj]
                    have hM10 : MW X (gup σM (a 7) (10, gI (X.2.1 0) 1025 (iup (VM 7) n9 (((VM 7) n9) + 1)))) o a V10 I1 := by rw [eV10]; exact hMM.set 7 rfl _
                    have hkp10 : gKeep (fun t => t = 10) σ (gup σM (a 7) (10, gI (X.2.1 0) 1025 (iup (VM 7) n9 (((VM 7) n9) + 1)))) := hkM.tr (gKeep.up hMM.a7 rfl)
                    generalize (gup σM (a 7) (10, gI (X.2.1 0) 1025 (iup (VM 7) n9 (((VM 7) n9) + 1)))) = σ10 at hG hM10 hkp10
                    have hper1 := (lenZ_pos (T := V 0) (s := sp) (by omega)).1
                    have hlz := (lenZ_pos (T := V 0) (s := sp) (by omega)).2
                    have hyes : kepZ (V 0) (sp / 32) (sp % 32) = k ∧ (cyA (V 0) k sp.toNat).1 sp = 0 ∧ 1 ≤ perZ (V 0) sp := ⟨by omega, by omega, hper1⟩
                    obtain ⟨Vq, hVq⟩ : ∃ z, z = V10 := ⟨_, rfl⟩
                    have fq7 : ∀ q, q ≠ 7 → Vq q = VM q := fun q h => by rw [hVq]; exact fV10 q h
                    have eq7 : Vq 7 = iup (VM 7) n9 (VM 7 n9 + 1) := by rw [hVq]; exact v7_10
                    rw [← hVq] at hM10
                    refine lv_iload_n hx hb dX4_findsCycles_99 rfl (lv_at hl 1 rfl) ?_
                    refine lv_istore (lv' := [(4, .int (iI sp)), (3, .int (iI n9)), (2, .int (iI sp)), (0, .ref o), (1, .int (iI k))]) hx hb dX4_findsCycles_100 hl (by decide) rfl (fun ls hl => ?_)
                    refine g_iconst hx hb dX4_findsCycles_102 ?_
                    refine lv_istore (lv' := [(5, .int (iI 0)), (4, .int (iI sp)), (3, .int (iI n9)), (2, .int (iI sp)), (0, .ref o), (1, .int (iI k))]) hx hb dX4_findsCycles_103 hl (by decide) rfl (fun ls hl => ?_)
                    have loop_105 : ∀ (nF : Nat) (σN : gS) (VN : Nat → Int → Int) (a9 : Int) (i9 : Int), ((n9 - i9).toNat : Nat) < nF → (MW X σN o a VN I1) → (gKeep (fun t => t = 10) σ σN) → (0 ≤ i9 ∧ i9 ≤ n9) → (a9 = goZ (V 0) 0 i9.toNat sp) → (∀ q : Int, 0 ≤ q → q < 1024 → VN 6 q = mkN (V 0) sp (cyA (V 0) k sp.toNat).1 i9.toNat q) → (∀ q, q ≠ 6 → VN q = Vq q) → ∀ (H : Heap) (locs : List Loc) (ls : Array Slot), gSat X σN H → va_S (gA X) ss.heap H locs → lv_has ls 6 [(5, .int (iI i9)), (4, .int (iI a9)), (3, .int (iI n9)), (2, .int (iI sp)), (0, .ref o), (1, .int (iI k))] → W pp l ee (gR 6 0 0 148) ss mm args below meth cd H locs 0 0 Q (F0 mm 105 ls []) := by
                      intro nF
                      induction nF with
                      | zero => intro σN VN a9 i9 hm; exact absurd hm (Nat.not_lt_zero _)
                      | succ nF ih_105 =>
                        intro σN VN a9 i9 hm hMN hkN hi105_2 hgo h6N hON H locs ls hG hS hl
                        have hway : i9 < n9 → 0 ≤ a9 ∧ a9 ≤ 1023 := fun h => by rw [hgo]; exact perZ_way (by omega) hper1 (by rw [← hlz, ← hlr]; omega)
                        refine lv_iload hx hb dX4_findsCycles_105 (lv_at hl 0 rfl) ?_
                        refine lv_iload_n hx hb dX4_findsCycles_107 rfl (lv_at hl 2 rfl) ?_
                        refine g_icmp_ge (tgt := 134) hx hb dX4_findsCycles_108 (by decide) (by omega) (by omega) (fun cq11 => ?_) (fun cq11 => ?_)
                        · refine g_iinc (lv' := [(2, .int (iI (sp + 1))), (5, .int (iI i9)), (4, .int (iI a9)), (3, .int (iI n9)), (0, .ref o), (1, .int (iI k))]) hx hb dX4_findsCycles_134 hl (k := 3) rfl (by decide) rfl (fun ls hl => ?_)
                          refine lv_goto (tgt := 49) hx hb dX4_findsCycles_137 (by decide) ?_
                          exact ih_49 σN VN (sp + 1) (by omega) (hMN) (hkN) (by omega) (fun q h1 h2 h3 h4 => (hON q h3).trans ((fq7 q h4).trans (hAM q h1 h2 h3 h4))) (by rw [hON 3 (by decide), fq7 3 (by decide)]; exact hK3M) (by rw [hON 5 (by decide), fq7 5 (by decide)]; exact h5M) (fun q h1 h2 => by rw [show (sp + 1).toNat = sp.toNat + 1 by omega, cyA_y (T := V 0) (k := k) (n := sp.toNat) (by rw [show ((sp.toNat : Nat) : Int) = sp by omega]; exact hyes), show ((sp.toNat : Nat) : Int) = sp by omega]; show VN 6 q = mkN (V 0) sp (cyA (V 0) k sp.toNat).1 (perZ (V 0) sp).toNat q; rw [← hlz, show (lenZ (V 0) sp).toNat = i9.toNat by omega]; exact h6N q h1 h2) (fun q h1 h2 => by rw [show (sp + 1).toNat = sp.toNat + 1 by omega, cyA_y (T := V 0) (k := k) (n := sp.toNat) (by rw [show ((sp.toNat : Nat) : Int) = sp by omega]; exact hyes), show ((sp.toNat : Nat) : Int) = sp by omega, hON 7 (by decide), eq7]; show _ = iup (cyA (V 0) k sp.toNat).2 (perZ (V 0) sp) ((cyA (V 0) k sp.toNat).2 (perZ (V 0) sp) + 1) q; rw [← hlz, ← hlr]; by_cases hq : q = n9; (rw [hq, iup_s, iup_s, h7M _ (by omega) (by omega)]); (rw [iup_n hq, iup_n hq]; exact h7M q h1 h2))  _ _ _ hG hS (lv_sub hl [0, 4, 5] rfl)
                        · refine lv_aload_n hx hb dX4_findsCycles_111 rfl (lv_at hl 4 rfl) ?_
                          refine g_get (C := RX4) (T := TX4) (N := 30) (v := .ref (a 6)) hx hb hts hown hK hG hMN.o rfl in_X4 6 (by decide) q1964 rfl rfl dX4_findsCycles_112 ?_
                          refine lv_iload hx hb dX4_findsCycles_115 (lv_at hl 1 rfl) ?_
                          refine g_iconst hx hb dX4_findsCycles_117 ?_
                          refine g_zast hx hb hK hG hS hMN.a6 dX4_findsCycles_118 (by first | rfl | decide) (by omega) (fun H locs hG hS => ?_)
                          obtain ⟨V12, eV12⟩ : ∃ J : Nat → Int → Int, J = va_up VN 6 (iup (VN 6) a9 1) := ⟨_, rfl⟩
                          have v6_12 : V12 6 = (iup (VN 6) a9 1) := by rw [eV12, va_up_self]
                          have fV12 : ∀ j, j ≠ 6 → V12 j = VN j := fun j hj => by rw [eV12, va_up_ne _ _ hj]
                          have hM12 : MW X (gup σN (a 6) (10, gI (X.2.1 1) 1024 (iup (VN 6) a9 1))) o a V12 I1 := by rw [eV12]; exact hMN.set 6 rfl _
                          have hkp12 : gKeep (fun t => t = 10) σ (gup σN (a 6) (10, gI (X.2.1 1) 1024 (iup (VN 6) a9 1))) := hkN.tr (gKeep.up hMN.a6 rfl)
                          generalize (gup σN (a 6) (10, gI (X.2.1 1) 1024 (iup (VN 6) a9 1))) = σ12 at hG hM12 hkp12
                          refine lv_aload_n hx hb dX4_findsCycles_119 rfl (lv_at hl 4 rfl) ?_
                          refine g_get (C := RX4) (T := TX4) (N := 30) (v := .ref (a 5)) hx hb hts hown hK hG hM12.o rfl in_X4 5 (by decide) q1963 rfl rfl dX4_findsCycles_120 ?_
                          refine lv_iload hx hb dX4_findsCycles_123 (lv_at hl 1 rfl) ?_
                          refine g_iald hx hb hK hG hM12.a5 dX4_findsCycles_125 (by omega) ?_
                          refine g_name (fun wn ewn => ?_)
                          have hwn : wn = stpZ (V 0) a9 0 := by rw [ewn, fV12 5 (by decide), hON 5 (by decide), fq7 5 (by decide)]; exact h5M _ (by omega) (by omega)
                          refine lv_istore (lv' := [(4, .int (iI wn)), (5, .int (iI i9)), (3, .int (iI n9)), (2, .int (iI sp)), (0, .ref o), (1, .int (iI k))]) hx hb dX4_findsCycles_126 hl (by decide) rfl (fun ls hl => ?_)
                          refine g_iinc (lv' := [(5, .int (iI (i9 + 1))), (4, .int (iI wn)), (3, .int (iI n9)), (2, .int (iI sp)), (0, .ref o), (1, .int (iI k))]) hx hb dX4_findsCycles_128 hl (k := 1) rfl (by decide) rfl (fun ls hl => ?_)
                          refine lv_goto (tgt := 105) hx hb dX4_findsCycles_131 (by decide) ?_
                          exact ih_105 σ12 V12 wn (i9 + 1) (by omega) (hM12) (hkp12) (by omega) (by rw [show (i9 + 1).toNat = i9.toNat + 1 by omega, goZ_snoc (by omega), ← hgo]; exact hwn) (fun q h1 h2 => by rw [v6_12, show (i9 + 1).toNat = i9.toNat + 1 by omega, mkN, ← hgo]; by_cases hq : q = a9; (rw [hq, iup_s, iup_s]); (rw [iup_n hq, iup_n hq]; exact h6N q h1 h2)) (fun q h => (fV12 q h).trans (hON q h))  _ _ _ hG hS (lv_sub hl [0, 1, 2, 3, 4, 5] rfl)
                    exact loop_105 _ σ10 Vq sp 0 (Nat.lt_succ_self _) (hM10) (hkp10) (by omega) (rfl) (fun q h1 h2 => by rw [fq7 6 (by decide)]; exact h6M q h1 h2) (fun q h => rfl)  _ _ _ hG hS (lv_sub hl [0, 1, 2, 3, 4, 5] rfl)
        exact loop_49 _ σL VL 0 (Nat.lt_succ_self _) (hML) (hkL) (by omega) (hA) (hK3) (fun q h1 h2 => h5 q h1 (by omega)) (fun q h1 h2 => by rw [h6 q h1 (by omega)]; rfl) (fun q h1 h2 => by rw [h7 q h1 (by omega)]; rfl)  _ _ _ hG hS (lv_sub hl [0, 1, 2] rfl)
      · refine lv_aload_n hx hb dX4_findsCycles_13 rfl (lv_at hl 1 rfl) ?_
        refine g_get (C := RX4) (T := TX4) (N := 30) (v := .ref (a 5)) hx hb hts hown hK hG hML.o rfl in_X4 5 (by decide) q1963 rfl rfl dX4_findsCycles_14 ?_
        refine lv_iload_n hx hb dX4_findsCycles_17 rfl (lv_at hl 0 rfl) ?_
        refine lv_aload_n hx hb dX4_findsCycles_18 rfl (lv_at hl 1 rfl) ?_
        refine lv_iload_n hx hb dX4_findsCycles_19 rfl (lv_at hl 0 rfl) ?_
        refine g_iconst hx hb dX4_findsCycles_20 ?_
        refine g_callV (As := [.int (iI s9), .int (iI 0)]) (rest := [.int (iI s9), .ref (a 5)]) 2 hx hb hml hown hts hK hG hS hl.1 (mX4_step l X σL o a VL I1 hML hT0 s9 0 (by omega) (by omega)) hML.o rfl q2134 q2136 qs51 q86 q2137 (by decide +kernel) rfl ⟨Nat.le_of_ble_eq_true rfl, Nat.le_of_ble_eq_true rfl⟩ ⟨Nat.le_of_ble_eq_true rfl, Nat.le_of_ble_eq_true rfl⟩ (Nat.le_of_ble_eq_true rfl) dX4_findsCycles_21 (kI (fun r13 σr13 H locs hp hG hS => ?_))
        obtain ⟨⟨hr13, kr13⟩, rfl⟩ := hp
        refine g_iast hx hb hK hG hS hML.a5 dX4_findsCycles_24 (by omega) (fun H locs hG hS => ?_)
        obtain ⟨V14, eV14⟩ : ∃ J : Nat → Int → Int, J = va_up VL 5 (iup (VL 5) s9 r13) := ⟨_, rfl⟩
        have v5_14 : V14 5 = (iup (VL 5) s9 r13) := by rw [eV14, va_up_self]
        have fV14 : ∀ j, j ≠ 5 → V14 j = VL j := fun j hj => by rw [eV14, va_up_ne _ _ hj]
        have hM14 : MW X (gup σL (a 5) (10, gI (X.2.1 0) 1024 (iup (VL 5) s9 r13))) o a V14 I1 := by rw [eV14]; exact hML.set 5 rfl _
        have hkp14 : gKeep (fun t => t = 10) σ (gup σL (a 5) (10, gI (X.2.1 0) 1024 (iup (VL 5) s9 r13))) := hkL.tr (gKeep.up hML.a5 rfl)
        generalize (gup σL (a 5) (10, gI (X.2.1 0) 1024 (iup (VL 5) s9 r13))) = σ14 at hG hM14 hkp14
        refine lv_aload_n hx hb dX4_findsCycles_25 rfl (lv_at hl 1 rfl) ?_
        refine g_get (C := RX4) (T := TX4) (N := 30) (v := .ref (a 6)) hx hb hts hown hK hG hM14.o rfl in_X4 6 (by decide) q1964 rfl rfl dX4_findsCycles_26 ?_
        refine lv_iload_n hx hb dX4_findsCycles_29 rfl (lv_at hl 0 rfl) ?_
        refine g_iconst hx hb dX4_findsCycles_30 ?_
        refine g_zast hx hb hK hG hS hM14.a6 dX4_findsCycles_31 (by first | rfl | decide) (by omega) (fun H locs hG hS => ?_)
        obtain ⟨V15, eV15⟩ : ∃ J : Nat → Int → Int, J = va_up V14 6 (iup (V14 6) s9 0) := ⟨_, rfl⟩
        have v6_15 : V15 6 = (iup (V14 6) s9 0) := by rw [eV15, va_up_self]
        have fV15 : ∀ j, j ≠ 6 → V15 j = V14 j := fun j hj => by rw [eV15, va_up_ne _ _ hj]
        have hM15 : MW X (gup σ14 (a 6) (10, gI (X.2.1 1) 1024 (iup (V14 6) s9 0))) o a V15 I1 := by rw [eV15]; exact hM14.set 6 rfl _
        have hkp15 : gKeep (fun t => t = 10) σ (gup σ14 (a 6) (10, gI (X.2.1 1) 1024 (iup (V14 6) s9 0))) := hkp14.tr (gKeep.up hM14.a6 rfl)
        generalize (gup σ14 (a 6) (10, gI (X.2.1 1) 1024 (iup (V14 6) s9 0))) = σ15 at hG hM15 hkp15
        refine lv_aload_n hx hb dX4_findsCycles_32 rfl (lv_at hl 1 rfl) ?_
        refine g_get (C := RX4) (T := TX4) (N := 30) (v := .ref (a 7)) hx hb hts hown hK hG hM15.o rfl in_X4 7 (by decide) q1965 rfl rfl dX4_findsCycles_33 ?_
        refine lv_iload_n hx hb dX4_findsCycles_36 rfl (lv_at hl 0 rfl) ?_
        refine g_iconst hx hb dX4_findsCycles_37 ?_
        refine g_iadd hx hb dX4_findsCycles_38 ?_
        refine g_iconst hx hb dX4_findsCycles_39 ?_
        refine g_iast hx hb hK hG hS hM15.a7 dX4_findsCycles_40 (by omega) (fun H locs hG hS => ?_)
        obtain ⟨V16, eV16⟩ : ∃ J : Nat → Int → Int, J = va_up V15 7 (iup (V15 7) (s9 + 1) 0) := ⟨_, rfl⟩
        have v7_16 : V16 7 = (iup (V15 7) (s9 + 1) 0) := by rw [eV16, va_up_self]
        have fV16 : ∀ j, j ≠ 7 → V16 j = V15 j := fun j hj => by rw [eV16, va_up_ne _ _ hj]
        have hM16 : MW X (gup σ15 (a 7) (10, gI (X.2.1 0) 1025 (iup (V15 7) (s9 + 1) 0))) o a V16 I1 := by rw [eV16]; exact hM15.set 7 rfl _
        have hkp16 : gKeep (fun t => t = 10) σ (gup σ15 (a 7) (10, gI (X.2.1 0) 1025 (iup (V15 7) (s9 + 1) 0))) := hkp15.tr (gKeep.up hM15.a7 rfl)
        generalize (gup σ15 (a 7) (10, gI (X.2.1 0) 1025 (iup (V15 7) (s9 + 1) 0))) = σ16 at hG hM16 hkp16
        refine g_iinc (lv' := [(2, .int (iI (s9 + 1))), (0, .ref o), (1, .int (iI k))]) hx hb dX4_findsCycles_41 hl (k := 0) rfl (by decide) rfl (fun ls hl => ?_)
        refine lv_goto (tgt := 6) hx hb dX4_findsCycles_44 (by decide) ?_
        exact ih_6 σ16 V16 (s9 + 1) (by omega) (hM16) (hkp16) (by omega) (fun q h1 h2 h3 h4 => (fV16 q h4).trans ((fV15 q h3).trans ((fV14 q h2).trans (hA q h1 h2 h3 h4)))) (by rw [fV16 3 (by decide), fV15 3 (by decide), fV14 3 (by decide)]; exact hK3) (fun q h1 h2 => by rw [fV16 5 (by decide), fV15 5 (by decide), v5_14]; by_cases hq : q = s9; (rw [hq, iup_s, hr13, hA 0 (by decide) (by decide) (by decide) (by decide)]); (rw [iup_n hq]; exact h5 q h1 (by omega))) (fun q h1 h2 => by rw [fV16 6 (by decide), v6_15, fV14 6 (by decide)]; by_cases hq : q = s9; (rw [hq, iup_s]); (rw [iup_n hq]; exact h6 q h1 (by omega))) (fun q h1 h2 => by rw [v7_16, fV15 7 (by decide), fV14 7 (by decide)]; by_cases hq : q = s9 + 1; (rw [hq, iup_s]); (rw [iup_n hq]; exact h7 q h1 (by omega)))  _ _ _ hG hS (lv_sub hl [0, 1, 2] rfl)
  exact loop_6 _ σr1 V1 0 (Nat.lt_succ_self _) (hM1) (hkp1) (by omega) (fun q h1 h2 h3 h4 => hrel1.1 q h1) (hrel1.2.1) (fun q h1 h2 => by omega) (fun q h1 h2 => by omega) (fun q h1 h2 => by omega)  _ _ _ hG hS (lv_sub hl [0, 1, 2] rfl)

set_option maxHeartbeats 16000000 in
theorem mX4_cycles (l : Launch) (X : gX) (σ : gS) (o : Nat) (a : Nat → Nat) (V : Nat → Int → Int) (Iv : Nat → Int) (hM : MW X σ o a V Iv) (hT : okT (V 0)) (k : Int) (w9 : Int)  (h0 : -2147483648 ≤ k ∧ k ≤ 2147483647) (h1 : -2147483648 ≤ w9 ∧ w9 ≤ 2147483647) : gMet l X yX4_cycles cX4_cycles 9 (some .int) 7 0 0 173 σ [.ref o, .int (iI k), .int (iI w9)] (oI (fun r σ' => ∃ (V' : Nat → Int → Int) (I' : Nat → Int), MW X σ' o a V' I' ∧ gKeep (fun t => t = 10) σ σ' ∧ (r = (if (0 ≤ k ∧ k ≤ 31) ∧ (0 ≤ w9 ∧ w9 ≤ 2 ∨ 10 ≤ w9 ∧ w9 ≤ 89) then cycZ (V 0) k w9 else -1) ∧ (∀ q, q ≠ 3 → q ≠ 5 → q ≠ 6 → q ≠ 7 → V' q = V q) ∧ I' = Iv))) := by
  refine gMet.of (by decide) (Nat.le_of_ble_eq_true rfl) ?_
  intro pp ee ss mm args below meth cd Q H locs ls hargs hx hb hr hlocks hml hown hnm hts hK hG hS hQ hl
  have hown : ss.vm.findClass RX4 = some mm.cls := hown
  have hl : lv_has ls 9 [(0, .ref o), (1, .int (iI k)), (2, .int (iI w9))] := hl
  have hkp : gKeep (fun t => t = 10) σ σ := gKeep.rf
  refine lv_iload_n hx hb dX4_cycles_0 rfl (lv_at hl 1 rfl) ?_
  refine g_callS (As := [.int (iI k)]) (rest := []) 1 hx hb hml hown hts hK hG hS hl.1 (mX4_isCoordinate l X σ  k (by omega)) q2075 q2076 q86 q2077 (by decide +kernel) rfl ⟨Nat.le_of_ble_eq_true rfl, Nat.le_of_ble_eq_true rfl⟩ ⟨Nat.le_of_ble_eq_true rfl, Nat.le_of_ble_eq_true rfl⟩ (Nat.le_of_ble_eq_true rfl) dX4_cycles_1 (kI (fun r1 σr1 H locs hp hG hS => ?_))
  obtain ⟨hr1, rfl⟩ := hp
  refine g_if_eq (tgt := 33) hx hb dX4_cycles_4 (by decide) (by omega) (fun cq2 => ?_) (fun cq2 => ?_)
  · refine g_iconst hx hb dX4_cycles_33 ?_
    exact g_iret hx hb hr hlocks hQ hG hS (Nat.zero_le _) (Nat.zero_le _) ⟨_, rfl, V, Iv, hM, hkp, (⟨by rw [if_neg (by omega)], fun q h1 h2 h3 h4 => rfl, rfl⟩)⟩ dX4_cycles_34
  · refine lv_iload_n hx hb dX4_cycles_7 rfl (lv_at hl 2 rfl) ?_
    refine g_i2l hx hb dX4_cycles_8 (by omega) ?_
    refine lv_lconst (v := lI 0) hx hb dX4_cycles_9 (by decide) ?_
    refine g_ldc2 hx hb (2) hown (hts _ q2059) (by decide) dX4_cycles_10 ?_
    refine g_callS (As := [.long (lI w9), .long (lI 0), .long (lI (2))]) (rest := []) 3 hx hb hml hown hts hK hG hS hl.1 (mX4_in l X σ  w9 0 (2) (by omega) (by omega) (by omega)) q2056 q2057 q86 q2058 (by decide +kernel) rfl ⟨Nat.le_of_ble_eq_true rfl, Nat.le_of_ble_eq_true rfl⟩ ⟨Nat.le_of_ble_eq_true rfl, Nat.le_of_ble_eq_true rfl⟩ (Nat.le_of_ble_eq_true rfl) dX4_cycles_13 (kI (fun r3 σr3 H locs hp hG hS => ?_))
    obtain ⟨hr3, rfl⟩ := hp
    refine g_if_ne (tgt := 35) hx hb dX4_cycles_16 (by decide) (by omega) (fun cq4 => ?_) (fun cq4 => ?_)
    · refine lv_aload_n hx hb dX4_cycles_35 rfl (lv_at hl 0 rfl) ?_
      refine lv_iload_n hx hb dX4_cycles_36 rfl (lv_at hl 1 rfl) ?_
      refine g_callV (As := [.int (iI k)]) (rest := []) 1 hx hb hml hown hts hK hG hS hl.1 (mX4_findsCycles l X σ o a V Iv hM hT k (by omega)) hM.o rfl q2172 q2174 qs55 q86 q2175 (by decide +kernel) rfl ⟨Nat.le_of_ble_eq_true rfl, Nat.le_of_ble_eq_true rfl⟩ ⟨Nat.le_of_ble_eq_true rfl, Nat.le_of_ble_eq_true rfl⟩ (Nat.le_of_ble_eq_true rfl) dX4_cycles_37 (kV (fun σr5 H locs hp hG hS => ?_))
      obtain ⟨V5, I5, hM5, kp5, hrel5⟩ := hp
      have hkp5 := hkp.tr kp5
      obtain ⟨O, hO⟩ : ∃ z, z = (cyA (V 0) k 1024).2 := ⟨_, rfl⟩
      have hO7 := hrel5.2.1
      rw [← hO] at hO7
      have hOr : ∀ j, 0 ≤ O j ∧ O j ≤ 1024 := fun j => by rw [hO]; exact cyA_r (V 0) k 1024 j
      refine g_iconst hx hb dX4_cycles_40 ?_
      refine lv_istore_n (lv' := [(3, .int (iI 0)), (0, .ref o), (1, .int (iI k)), (2, .int (iI w9))]) hx hb dX4_cycles_41 rfl hl (by decide) rfl (fun ls hl => ?_)
      refine g_iconst hx hb dX4_cycles_42 ?_
      refine lv_istore (lv' := [(4, .int (iI 0)), (3, .int (iI 0)), (0, .ref o), (1, .int (iI k)), (2, .int (iI w9))]) hx hb dX4_cycles_43 hl (by decide) rfl (fun ls hl => ?_)
      refine g_iconst hx hb dX4_cycles_45 ?_
      refine lv_istore (lv' := [(5, .int (iI 0)), (4, .int (iI 0)), (3, .int (iI 0)), (0, .ref o), (1, .int (iI k)), (2, .int (iI w9))]) hx hb dX4_cycles_46 hl (by decide) rfl (fun ls hl => ?_)
      refine g_bipush hx hb dX4_cycles_48 (by decide) ?_
      refine lv_istore (lv' := [(6, .int (iI (-5))), (5, .int (iI 0)), (4, .int (iI 0)), (3, .int (iI 0)), (0, .ref o), (1, .int (iI k)), (2, .int (iI w9))]) hx hb dX4_cycles_50 hl (by decide) rfl (fun ls hl => ?_)
      refine lv_iload_n hx hb dX4_cycles_52 rfl (lv_at hl 6 rfl) ?_
      refine g_bipush hx hb dX4_cycles_53 (by decide) ?_
      refine g_icmp_ge (tgt := 62) hx hb dX4_cycles_55 (by decide) (by omega) (by omega) (fun cq6 => ?_) (fun cq6 => ?_)
      · refine lv_iload_n hx hb dX4_cycles_62 rfl (lv_at hl 6 rfl) ?_
        refine g_bipush hx hb dX4_cycles_63 (by decide) ?_
        refine g_icmp_ge (tgt := 75) hx hb dX4_cycles_65 (by decide) (by omega) (by omega) (fun cq7 => ?_) (fun cq7 => ?_)
        · refine lv_iload_n hx hb dX4_cycles_75 rfl (lv_at hl 6 rfl) ?_
          refine g_bipush hx hb dX4_cycles_76 (by decide) ?_
          refine g_isub hx hb dX4_cycles_78 ?_
          refine lv_istore (lv' := [(7, .int (iI (w9 - 50))), (6, .int (iI (-5))), (5, .int (iI 0)), (4, .int (iI 0)), (3, .int (iI 0)), (0, .ref o), (1, .int (iI k)), (2, .int (iI w9))]) hx hb dX4_cycles_79 hl (by decide) rfl (fun ls hl => ?_)
          refine g_iconst hx hb dX4_cycles_81 ?_
          refine lv_istore (lv' := [(8, .int (iI 1)), (7, .int (iI (w9 - 50))), (6, .int (iI (-5))), (5, .int (iI 0)), (4, .int (iI 0)), (3, .int (iI 0)), (0, .ref o), (1, .int (iI k)), (2, .int (iI w9))]) hx hb dX4_cycles_82 hl (by decide) rfl (fun ls hl => ?_)
          have loop_84 : ∀ (nF : Nat) (m9 : Int) (s9 : Int) (l9 : Int) (t9 : Int) (n9 : Int), ((1025 - n9).toNat : Nat) < nF → (1 ≤ n9 ∧ n9 ≤ 1025) → (m9 = smL O (lnL O (n9 - 1).toNat)) → (s9 = smL (fun j => j * O j) (lnL O (n9 - 1).toNat)) → (l9 = ((lnL O (n9 - 1).toNat).length : Int)) → (t9 = tlA O (lnL O (n9 - 1).toNat) w9 (w9 - 50)) → ∀ (H : Heap) (locs : List Loc) (ls : Array Slot), gSat X σr5 H → va_S (gA X) ss.heap H locs → lv_has ls 9 [(8, .int (iI n9)), (7, .int (iI (w9 - 50))), (6, .int (iI t9)), (5, .int (iI l9)), (4, .int (iI s9)), (3, .int (iI m9)), (0, .ref o), (1, .int (iI k)), (2, .int (iI w9))] → W pp l ee (gR 7 0 0 173) ss mm args below meth cd H locs 0 0 Q (F0 mm 84 ls []) := by
            intro nF
            induction nF with
            | zero => intro m9 s9 l9 t9 n9 hm; exact absurd hm (Nat.not_lt_zero _)
            | succ nF ih_84 =>
              intro m9 s9 l9 t9 n9 hm hi84_0 hm9 hs9 hl9 ht9 H locs ls hG hS hl
              have hlen := lnL_len O (n9 - 1).toNat
              refine lv_iload hx hb dX4_cycles_84 (lv_at hl 0 rfl) ?_
              refine g_sipush hx hb dX4_cycles_86 (by decide) ?_
              refine g_icmp_gt (tgt := 168) hx hb dX4_cycles_89 (by decide) (by omega) (by omega) (fun cq8 => ?_) (fun cq8 => ?_)
              · refine lv_iload_n hx hb dX4_cycles_168 rfl (lv_at hl 8 rfl) ?_
                refine g_if_ne (tgt := 176) hx hb dX4_cycles_169 (by decide) (by omega) (fun cq9 => ?_) (fun cq9 => ?_)
                · refine lv_iload_n hx hb dX4_cycles_176 rfl (lv_at hl 8 rfl) ?_
                  refine g_iconst hx hb dX4_cycles_177 ?_
                  refine g_icmp_ne (tgt := 186) hx hb dX4_cycles_178 (by decide) (by omega) (by omega) (fun cq10 => ?_) (fun cq10 => ?_)
                  · refine lv_iload_n hx hb dX4_cycles_186 rfl (lv_at hl 8 rfl) ?_
                    refine g_iconst hx hb dX4_cycles_187 ?_
                    refine g_icmp_ne (tgt := 196) hx hb dX4_cycles_188 (by decide) (by omega) (by omega) (fun cq11 => ?_) (fun cq11 => ?_)
                    · refine lv_iload hx hb dX4_cycles_196 (lv_at hl 2 rfl) ?_
                      exact g_iret hx hb hr hlocks hQ hG hS (Nat.zero_le _) (Nat.zero_le _) ⟨_, rfl, V5, I5, hM5, hkp5, (⟨by rw [if_pos (by omega)]; unfold cycZ cycA; rw [← hO, show 1024 = (n9 - 1).toNat by omega]; first | (exfalso; omega) | (rw [if_neg (by omega), if_neg (by omega), if_neg (by omega), ht9]; unfold tlA; first | (by_cases hz : w9 - 50 < ((lnL O (n9 - 1).toNat).length : Int); (rw [if_pos (⟨by omega, hz⟩ : 0 ≤ w9 - 50 ∧ w9 - 50 < ((lnL O (n9 - 1).toNat).length : Int)), if_pos (show w9 < 50 by omega), if_pos (show w9 < 50 by omega), if_pos hz]); (rw [if_neg (fun h => hz h.2), if_pos (show w9 < 50 by omega), if_neg hz])) | (by_cases hz : w9 - 50 < ((lnL O (n9 - 1).toNat).length : Int); (rw [if_pos (⟨by omega, hz⟩ : 0 ≤ w9 - 50 ∧ w9 - 50 < ((lnL O (n9 - 1).toNat).length : Int)), if_neg (show ¬ w9 < 50 by omega), if_neg (show ¬ w9 < 50 by omega), if_pos hz]); (rw [if_neg (fun h => hz h.2), if_neg (show ¬ w9 < 50 by omega), if_neg hz]))), hrel5.1, hrel5.2.2⟩)⟩ dX4_cycles_198
                    · refine lv_iload hx hb dX4_cycles_191 (lv_at hl 3 rfl) ?_
                      refine lv_goto (tgt := 198) hx hb dX4_cycles_193 (by decide) ?_
                      exact g_iret hx hb hr hlocks hQ hG hS (Nat.zero_le _) (Nat.zero_le _) ⟨_, rfl, V5, I5, hM5, hkp5, (⟨by rw [if_pos (by omega)]; unfold cycZ cycA; rw [← hO, show 1024 = (n9 - 1).toNat by omega]; rw [if_neg (by omega), if_neg (by omega), if_pos (by omega)]; exact hl9, hrel5.1, hrel5.2.2⟩)⟩ dX4_cycles_198
                  · refine lv_iload hx hb dX4_cycles_181 (lv_at hl 4 rfl) ?_
                    refine lv_goto (tgt := 198) hx hb dX4_cycles_183 (by decide) ?_
                    exact g_iret hx hb hr hlocks hQ hG hS (Nat.zero_le _) (Nat.zero_le _) ⟨_, rfl, V5, I5, hM5, hkp5, (⟨by rw [if_pos (by omega)]; unfold cycZ cycA; rw [← hO, show 1024 = (n9 - 1).toNat by omega]; rw [if_neg (by omega), if_pos (by omega)]; exact hs9, hrel5.1, hrel5.2.2⟩)⟩ dX4_cycles_198
                · refine lv_iload_n hx hb dX4_cycles_172 rfl (lv_at hl 5 rfl) ?_
                  refine lv_goto (tgt := 198) hx hb dX4_cycles_173 (by decide) ?_
                  exact g_iret hx hb hr hlocks hQ hG hS (Nat.zero_le _) (Nat.zero_le _) ⟨_, rfl, V5, I5, hM5, hkp5, (⟨by rw [if_pos (by omega)]; unfold cycZ cycA; rw [← hO, show 1024 = (n9 - 1).toNat by omega]; rw [if_pos (by omega)]; exact hm9, hrel5.1, hrel5.2.2⟩)⟩ dX4_cycles_198
              · refine lv_aload_n hx hb dX4_cycles_92 rfl (lv_at hl 6 rfl) ?_
                refine g_get (C := RX4) (T := TX4) (N := 30) (v := .ref (a 7)) hx hb hts hown hK hG hM5.o rfl in_X4 7 (by decide) q1965 rfl rfl dX4_cycles_93 ?_
                refine lv_iload hx hb dX4_cycles_96 (lv_at hl 0 rfl) ?_
                refine g_iald hx hb hK hG hM5.a7 dX4_cycles_98 (by omega) ?_
                refine g_rw (b := (O n9)) (hO7 n9 (by omega) (by omega)) ?_
                have ho12 := hOr n9
                refine g_if_le (tgt := 162) hx hb dX4_cycles_99 (by decide) (by omega) (fun cq13 => ?_) (fun cq13 => ?_)
                · refine g_iinc (lv' := [(8, .int (iI (n9 + 1))), (7, .int (iI (w9 - 50))), (6, .int (iI t9)), (5, .int (iI l9)), (4, .int (iI s9)), (3, .int (iI m9)), (0, .ref o), (1, .int (iI k)), (2, .int (iI w9))]) hx hb dX4_cycles_162 hl (k := 0) rfl (by decide) rfl (fun ls hl => ?_)
                  refine lv_goto (tgt := 84) hx hb dX4_cycles_165 (by decide) ?_
                  exact ih_84 m9 s9 l9 t9 (n9 + 1) (by omega) (by omega) (by rw [show (n9 + 1 - 1).toNat = (n9 - 1).toNat + 1 by omega, lnL_n (O := O) (n := (n9 - 1).toNat) (x := n9) (by omega) (by omega)]; exact hm9) (by rw [show (n9 + 1 - 1).toNat = (n9 - 1).toNat + 1 by omega, lnL_n (O := O) (n := (n9 - 1).toNat) (x := n9) (by omega) (by omega)]; exact hs9) (by rw [show (n9 + 1 - 1).toNat = (n9 - 1).toNat + 1 by omega, lnL_n (O := O) (n := (n9 - 1).toNat) (x := n9) (by omega) (by omega)]; exact hl9) (by rw [show (n9 + 1 - 1).toNat = (n9 - 1).toNat + 1 by omega, lnL_n (O := O) (n := (n9 - 1).toNat) (x := n9) (by omega) (by omega)]; exact ht9)  _ _ _ hG hS (lv_sub hl [0, 1, 2, 3, 4, 5, 6, 7, 8] rfl)
                · refine lv_iload_n hx hb dX4_cycles_102 rfl (lv_at hl 5 rfl) ?_
                  refine lv_aload_n hx hb dX4_cycles_103 rfl (lv_at hl 6 rfl) ?_
                  refine g_get (C := RX4) (T := TX4) (N := 30) (v := .ref (a 7)) hx hb hts hown hK hG hM5.o rfl in_X4 7 (by decide) q1965 rfl rfl dX4_cycles_104 ?_
                  refine lv_iload hx hb dX4_cycles_107 (lv_at hl 0 rfl) ?_
                  refine g_iald hx hb hK hG hM5.a7 dX4_cycles_109 (by omega) ?_
                  refine g_rw (b := (O n9)) (hO7 n9 (by omega) (by omega)) ?_
                  have ho14 := hOr n9
                  refine g_iadd hx hb dX4_cycles_110 ?_
                  refine lv_istore_n (lv' := [(3, .int (iI (m9 + (O n9)))), (8, .int (iI n9)), (7, .int (iI (w9 - 50))), (6, .int (iI t9)), (5, .int (iI l9)), (4, .int (iI s9)), (0, .ref o), (1, .int (iI k)), (2, .int (iI w9))]) hx hb dX4_cycles_111 rfl hl (by decide) rfl (fun ls hl => ?_)
                  refine lv_iload hx hb dX4_cycles_112 (lv_at hl 5 rfl) ?_
                  refine lv_iload hx hb dX4_cycles_114 (lv_at hl 1 rfl) ?_
                  refine lv_aload_n hx hb dX4_cycles_116 rfl (lv_at hl 6 rfl) ?_
                  refine g_get (C := RX4) (T := TX4) (N := 30) (v := .ref (a 7)) hx hb hts hown hK hG hM5.o rfl in_X4 7 (by decide) q1965 rfl rfl dX4_cycles_117 ?_
                  refine lv_iload hx hb dX4_cycles_120 (lv_at hl 1 rfl) ?_
                  refine g_iald hx hb hK hG hM5.a7 dX4_cycles_122 (by omega) ?_
                  refine g_rw (b := (O n9)) (hO7 n9 (by omega) (by omega)) ?_
                  have ho15 := hOr n9
                  refine g_imul hx hb dX4_cycles_123 ?_
                  refine g_iadd hx hb dX4_cycles_124 ?_
                  refine lv_istore (lv' := [(4, .int (iI (s9 + (n9 * (O n9))))), (3, .int (iI (m9 + (O n9)))), (8, .int (iI n9)), (7, .int (iI (w9 - 50))), (6, .int (iI t9)), (5, .int (iI l9)), (0, .ref o), (1, .int (iI k)), (2, .int (iI w9))]) hx hb dX4_cycles_125 hl (by decide) rfl (fun ls hl => ?_)
                  refine lv_iload hx hb dX4_cycles_127 (lv_at hl 5 rfl) ?_
                  refine lv_iload hx hb dX4_cycles_129 (lv_at hl 3 rfl) ?_
                  refine g_icmp_ne (tgt := 155) hx hb dX4_cycles_131 (by decide) (by omega) (by omega) (fun cq16 => ?_) (fun cq16 => ?_)
                  · refine lv_iload hx hb dX4_cycles_155 (lv_at hl 4 rfl) ?_
                    refine lv_istore (lv' := [(6, .int (iI t9)), (4, .int (iI (s9 + (n9 * (O n9))))), (3, .int (iI (m9 + (O n9)))), (8, .int (iI n9)), (7, .int (iI (w9 - 50))), (5, .int (iI l9)), (0, .ref o), (1, .int (iI k)), (2, .int (iI w9))]) hx hb dX4_cycles_157 hl (by decide) rfl (fun ls hl => ?_)
                    refine g_iinc (lv' := [(5, .int (iI (l9 + 1))), (6, .int (iI t9)), (4, .int (iI (s9 + (n9 * (O n9))))), (3, .int (iI (m9 + (O n9)))), (8, .int (iI n9)), (7, .int (iI (w9 - 50))), (0, .ref o), (1, .int (iI k)), (2, .int (iI w9))]) hx hb dX4_cycles_159 hl (k := 5) rfl (by decide) rfl (fun ls hl => ?_)
                    refine g_iinc (lv' := [(8, .int (iI (n9 + 1))), (5, .int (iI (l9 + 1))), (6, .int (iI t9)), (4, .int (iI (s9 + (n9 * (O n9))))), (3, .int (iI (m9 + (O n9)))), (7, .int (iI (w9 - 50))), (0, .ref o), (1, .int (iI k)), (2, .int (iI w9))]) hx hb dX4_cycles_162 hl (k := 4) rfl (by decide) rfl (fun ls hl => ?_)
                    refine lv_goto (tgt := 84) hx hb dX4_cycles_165 (by decide) ?_
                    exact ih_84 (m9 + (O n9)) (s9 + (n9 * (O n9))) (l9 + 1) t9 (n9 + 1) (by omega) (by omega) (by rw [show (n9 + 1 - 1).toNat = (n9 - 1).toNat + 1 by omega, lnL_y (O := O) (n := (n9 - 1).toNat) (x := n9) (by omega) (by omega), smL_app, ← hm9]) (by rw [show (n9 + 1 - 1).toNat = (n9 - 1).toNat + 1 by omega, lnL_y (O := O) (n := (n9 - 1).toNat) (x := n9) (by omega) (by omega), smL_app, ← hs9]) (by rw [show (n9 + 1 - 1).toNat = (n9 - 1).toNat + 1 by omega, lnL_y (O := O) (n := (n9 - 1).toNat) (x := n9) (by omega) (by omega), List.length_append, hl9]; simp) (by first | (exfalso; omega) | (rw [show (n9 + 1 - 1).toNat = (n9 - 1).toNat + 1 by omega, lnL_y (O := O) (n := (n9 - 1).toNat) (x := n9) (by omega) (by omega), tlA_app, if_neg (by omega)]; exact ht9))  _ _ _ hG hS (lv_sub hl [0, 5, 2, 1, 3, 4, 6, 7, 8] rfl)
                  · refine lv_iload_n hx hb dX4_cycles_134 rfl (lv_at hl 8 rfl) ?_
                    refine g_bipush hx hb dX4_cycles_135 (by decide) ?_
                    refine g_icmp_ge (tgt := 145) hx hb dX4_cycles_137 (by decide) (by omega) (by omega) (fun cq17 => ?_) (fun cq17 => by omega)
                    refine lv_aload_n hx hb dX4_cycles_145 rfl (lv_at hl 6 rfl) ?_
                    refine g_get (C := RX4) (T := TX4) (N := 30) (v := .ref (a 7)) hx hb hts hown hK hG hM5.o rfl in_X4 7 (by decide) q1965 rfl rfl dX4_cycles_146 ?_
                    refine lv_iload hx hb dX4_cycles_149 (lv_at hl 2 rfl) ?_
                    refine g_iald hx hb hK hG hM5.a7 dX4_cycles_151 (by omega) ?_
                    refine g_rw (b := (O n9)) (hO7 n9 (by omega) (by omega)) ?_
                    have ho18 := hOr n9
                    refine lv_goto (tgt := 157) hx hb dX4_cycles_152 (by decide) ?_
                    refine lv_istore (lv' := [(6, .int (iI (O n9))), (4, .int (iI (s9 + (n9 * (O n9))))), (3, .int (iI (m9 + (O n9)))), (8, .int (iI n9)), (7, .int (iI (w9 - 50))), (5, .int (iI l9)), (0, .ref o), (1, .int (iI k)), (2, .int (iI w9))]) hx hb dX4_cycles_157 hl (by decide) rfl (fun ls hl => ?_)
                    refine g_iinc (lv' := [(5, .int (iI (l9 + 1))), (6, .int (iI (O n9))), (4, .int (iI (s9 + (n9 * (O n9))))), (3, .int (iI (m9 + (O n9)))), (8, .int (iI n9)), (7, .int (iI (w9 - 50))), (0, .ref o), (1, .int (iI k)), (2, .int (iI w9))]) hx hb dX4_cycles_159 hl (k := 5) rfl (by decide) rfl (fun ls hl => ?_)
                    refine g_iinc (lv' := [(8, .int (iI (n9 + 1))), (5, .int (iI (l9 + 1))), (6, .int (iI (O n9))), (4, .int (iI (s9 + (n9 * (O n9))))), (3, .int (iI (m9 + (O n9)))), (7, .int (iI (w9 - 50))), (0, .ref o), (1, .int (iI k)), (2, .int (iI w9))]) hx hb dX4_cycles_162 hl (k := 4) rfl (by decide) rfl (fun ls hl => ?_)
                    refine lv_goto (tgt := 84) hx hb dX4_cycles_165 (by decide) ?_
                    exact ih_84 (m9 + (O n9)) (s9 + (n9 * (O n9))) (l9 + 1) (O n9) (n9 + 1) (by omega) (by omega) (by rw [show (n9 + 1 - 1).toNat = (n9 - 1).toNat + 1 by omega, lnL_y (O := O) (n := (n9 - 1).toNat) (x := n9) (by omega) (by omega), smL_app, ← hm9]) (by rw [show (n9 + 1 - 1).toNat = (n9 - 1).toNat + 1 by omega, lnL_y (O := O) (n := (n9 - 1).toNat) (x := n9) (by omega) (by omega), smL_app, ← hs9]) (by rw [show (n9 + 1 - 1).toNat = (n9 - 1).toNat + 1 by omega, lnL_y (O := O) (n := (n9 - 1).toNat) (x := n9) (by omega) (by omega), List.length_append, hl9]; simp) (by first | (exfalso; omega) | (rw [show (n9 + 1 - 1).toNat = (n9 - 1).toNat + 1 by omega, lnL_y (O := O) (n := (n9 - 1).toNat) (x := n9) (by omega) (by omega), tlA_app, if_pos (by omega)]; first | rw [if_pos (by omega)] | rw [if_neg (by omega)]))  _ _ _ hG hS (lv_sub hl [0, 5, 2, 1, 3, 4, 6, 7, 8] rfl)
          exact loop_84 _ 0 0 0 (-5) 1 (Nat.lt_succ_self _) (by omega) (rfl) (rfl) (rfl) (by unfold tlA; rw [if_neg (by show ¬ (_ ∧ _ < ((0 : Nat) : Int)); omega)])  _ _ _ hG hS (lv_sub hl [0, 1, 2, 3, 4, 5, 6, 7, 8] rfl)
        · refine lv_iload_n hx hb dX4_cycles_68 rfl (lv_at hl 6 rfl) ?_
          refine g_bipush hx hb dX4_cycles_69 (by decide) ?_
          refine g_isub hx hb dX4_cycles_71 ?_
          refine lv_goto (tgt := 79) hx hb dX4_cycles_72 (by decide) ?_
          refine lv_istore (lv' := [(7, .int (iI (w9 - 10))), (6, .int (iI (-5))), (5, .int (iI 0)), (4, .int (iI 0)), (3, .int (iI 0)), (0, .ref o), (1, .int (iI k)), (2, .int (iI w9))]) hx hb dX4_cycles_79 hl (by decide) rfl (fun ls hl => ?_)
          refine g_iconst hx hb dX4_cycles_81 ?_
          refine lv_istore (lv' := [(8, .int (iI 1)), (7, .int (iI (w9 - 10))), (6, .int (iI (-5))), (5, .int (iI 0)), (4, .int (iI 0)), (3, .int (iI 0)), (0, .ref o), (1, .int (iI k)), (2, .int (iI w9))]) hx hb dX4_cycles_82 hl (by decide) rfl (fun ls hl => ?_)
          have loop_84 : ∀ (nF : Nat) (m9 : Int) (s9 : Int) (l9 : Int) (t9 : Int) (n9 : Int), ((1025 - n9).toNat : Nat) < nF → (1 ≤ n9 ∧ n9 ≤ 1025) → (m9 = smL O (lnL O (n9 - 1).toNat)) → (s9 = smL (fun j => j * O j) (lnL O (n9 - 1).toNat)) → (l9 = ((lnL O (n9 - 1).toNat).length : Int)) → (t9 = tlA O (lnL O (n9 - 1).toNat) w9 (w9 - 10)) → ∀ (H : Heap) (locs : List Loc) (ls : Array Slot), gSat X σr5 H → va_S (gA X) ss.heap H locs → lv_has ls 9 [(8, .int (iI n9)), (7, .int (iI (w9 - 10))), (6, .int (iI t9)), (5, .int (iI l9)), (4, .int (iI s9)), (3, .int (iI m9)), (0, .ref o), (1, .int (iI k)), (2, .int (iI w9))] → W pp l ee (gR 7 0 0 173) ss mm args below meth cd H locs 0 0 Q (F0 mm 84 ls []) := by
            intro nF
            induction nF with
            | zero => intro m9 s9 l9 t9 n9 hm; exact absurd hm (Nat.not_lt_zero _)
            | succ nF ih_84 =>
              intro m9 s9 l9 t9 n9 hm hi84_0 hm9 hs9 hl9 ht9 H locs ls hG hS hl
              have hlen := lnL_len O (n9 - 1).toNat
              refine lv_iload hx hb dX4_cycles_84 (lv_at hl 0 rfl) ?_
              refine g_sipush hx hb dX4_cycles_86 (by decide) ?_
              refine g_icmp_gt (tgt := 168) hx hb dX4_cycles_89 (by decide) (by omega) (by omega) (fun cq19 => ?_) (fun cq19 => ?_)
              · refine lv_iload_n hx hb dX4_cycles_168 rfl (lv_at hl 8 rfl) ?_
                refine g_if_ne (tgt := 176) hx hb dX4_cycles_169 (by decide) (by omega) (fun cq20 => ?_) (fun cq20 => ?_)
                · refine lv_iload_n hx hb dX4_cycles_176 rfl (lv_at hl 8 rfl) ?_
                  refine g_iconst hx hb dX4_cycles_177 ?_
                  refine g_icmp_ne (tgt := 186) hx hb dX4_cycles_178 (by decide) (by omega) (by omega) (fun cq21 => ?_) (fun cq21 => ?_)
                  · refine lv_iload_n hx hb dX4_cycles_186 rfl (lv_at hl 8 rfl) ?_
                    refine g_iconst hx hb dX4_cycles_187 ?_
                    refine g_icmp_ne (tgt := 196) hx hb dX4_cycles_188 (by decide) (by omega) (by omega) (fun cq22 => ?_) (fun cq22 => ?_)
                    · refine lv_iload hx hb dX4_cycles_196 (lv_at hl 2 rfl) ?_
                      exact g_iret hx hb hr hlocks hQ hG hS (Nat.zero_le _) (Nat.zero_le _) ⟨_, rfl, V5, I5, hM5, hkp5, (⟨by rw [if_pos (by omega)]; unfold cycZ cycA; rw [← hO, show 1024 = (n9 - 1).toNat by omega]; first | (exfalso; omega) | (rw [if_neg (by omega), if_neg (by omega), if_neg (by omega), ht9]; unfold tlA; first | (by_cases hz : w9 - 10 < ((lnL O (n9 - 1).toNat).length : Int); (rw [if_pos (⟨by omega, hz⟩ : 0 ≤ w9 - 10 ∧ w9 - 10 < ((lnL O (n9 - 1).toNat).length : Int)), if_pos (show w9 < 50 by omega), if_pos (show w9 < 50 by omega), if_pos hz]); (rw [if_neg (fun h => hz h.2), if_pos (show w9 < 50 by omega), if_neg hz])) | (by_cases hz : w9 - 10 < ((lnL O (n9 - 1).toNat).length : Int); (rw [if_pos (⟨by omega, hz⟩ : 0 ≤ w9 - 10 ∧ w9 - 10 < ((lnL O (n9 - 1).toNat).length : Int)), if_neg (show ¬ w9 < 50 by omega), if_neg (show ¬ w9 < 50 by omega), if_pos hz]); (rw [if_neg (fun h => hz h.2), if_neg (show ¬ w9 < 50 by omega), if_neg hz]))), hrel5.1, hrel5.2.2⟩)⟩ dX4_cycles_198
                    · refine lv_iload hx hb dX4_cycles_191 (lv_at hl 3 rfl) ?_
                      refine lv_goto (tgt := 198) hx hb dX4_cycles_193 (by decide) ?_
                      exact g_iret hx hb hr hlocks hQ hG hS (Nat.zero_le _) (Nat.zero_le _) ⟨_, rfl, V5, I5, hM5, hkp5, (⟨by rw [if_pos (by omega)]; unfold cycZ cycA; rw [← hO, show 1024 = (n9 - 1).toNat by omega]; rw [if_neg (by omega), if_neg (by omega), if_pos (by omega)]; exact hl9, hrel5.1, hrel5.2.2⟩)⟩ dX4_cycles_198
                  · refine lv_iload hx hb dX4_cycles_181 (lv_at hl 4 rfl) ?_
                    refine lv_goto (tgt := 198) hx hb dX4_cycles_183 (by decide) ?_
                    exact g_iret hx hb hr hlocks hQ hG hS (Nat.zero_le _) (Nat.zero_le _) ⟨_, rfl, V5, I5, hM5, hkp5, (⟨by rw [if_pos (by omega)]; unfold cycZ cycA; rw [← hO, show 1024 = (n9 - 1).toNat by omega]; rw [if_neg (by omega), if_pos (by omega)]; exact hs9, hrel5.1, hrel5.2.2⟩)⟩ dX4_cycles_198
                · refine lv_iload_n hx hb dX4_cycles_172 rfl (lv_at hl 5 rfl) ?_
                  refine lv_goto (tgt := 198) hx hb dX4_cycles_173 (by decide) ?_
                  exact g_iret hx hb hr hlocks hQ hG hS (Nat.zero_le _) (Nat.zero_le _) ⟨_, rfl, V5, I5, hM5, hkp5, (⟨by rw [if_pos (by omega)]; unfold cycZ cycA; rw [← hO, show 1024 = (n9 - 1).toNat by omega]; rw [if_pos (by omega)]; exact hm9, hrel5.1, hrel5.2.2⟩)⟩ dX4_cycles_198
              · refine lv_aload_n hx hb dX4_cycles_92 rfl (lv_at hl 6 rfl) ?_
                refine g_get (C := RX4) (T := TX4) (N := 30) (v := .ref (a 7)) hx hb hts hown hK hG hM5.o rfl in_X4 7 (by decide) q1965 rfl rfl dX4_cycles_93 ?_
                refine lv_iload hx hb dX4_cycles_96 (lv_at hl 0 rfl) ?_
                refine g_iald hx hb hK hG hM5.a7 dX4_cycles_98 (by omega) ?_
                refine g_rw (b := (O n9)) (hO7 n9 (by omega) (by omega)) ?_
                have ho23 := hOr n9
                refine g_if_le (tgt := 162) hx hb dX4_cycles_99 (by decide) (by omega) (fun cq24 => ?_) (fun cq24 => ?_)
                · refine g_iinc (lv' := [(8, .int (iI (n9 + 1))), (7, .int (iI (w9 - 10))), (6, .int (iI t9)), (5, .int (iI l9)), (4, .int (iI s9)), (3, .int (iI m9)), (0, .ref o), (1, .int (iI k)), (2, .int (iI w9))]) hx hb dX4_cycles_162 hl (k := 0) rfl (by decide) rfl (fun ls hl => ?_)
                  refine lv_goto (tgt := 84) hx hb dX4_cycles_165 (by decide) ?_
                  exact ih_84 m9 s9 l9 t9 (n9 + 1) (by omega) (by omega) (by rw [show (n9 + 1 - 1).toNat = (n9 - 1).toNat + 1 by omega, lnL_n (O := O) (n := (n9 - 1).toNat) (x := n9) (by omega) (by omega)]; exact hm9) (by rw [show (n9 + 1 - 1).toNat = (n9 - 1).toNat + 1 by omega, lnL_n (O := O) (n := (n9 - 1).toNat) (x := n9) (by omega) (by omega)]; exact hs9) (by rw [show (n9 + 1 - 1).toNat = (n9 - 1).toNat + 1 by omega, lnL_n (O := O) (n := (n9 - 1).toNat) (x := n9) (by omega) (by omega)]; exact hl9) (by rw [show (n9 + 1 - 1).toNat = (n9 - 1).toNat + 1 by omega, lnL_n (O := O) (n := (n9 - 1).toNat) (x := n9) (by omega) (by omega)]; exact ht9)  _ _ _ hG hS (lv_sub hl [0, 1, 2, 3, 4, 5, 6, 7, 8] rfl)
                · refine lv_iload_n hx hb dX4_cycles_102 rfl (lv_at hl 5 rfl) ?_
                  refine lv_aload_n hx hb dX4_cycles_103 rfl (lv_at hl 6 rfl) ?_
                  refine g_get (C := RX4) (T := TX4) (N := 30) (v := .ref (a 7)) hx hb hts hown hK hG hM5.o rfl in_X4 7 (by decide) q1965 rfl rfl dX4_cycles_104 ?_
                  refine lv_iload hx hb dX4_cycles_107 (lv_at hl 0 rfl) ?_
                  refine g_iald hx hb hK hG hM5.a7 dX4_cycles_109 (by omega) ?_
                  refine g_rw (b := (O n9)) (hO7 n9 (by omega) (by omega)) ?_
                  have ho25 := hOr n9
                  refine g_iadd hx hb dX4_cycles_110 ?_
                  refine lv_istore_n (lv' := [(3, .int (iI (m9 + (O n9)))), (8, .int (iI n9)), (7, .int (iI (w9 - 10))), (6, .int (iI t9)), (5, .int (iI l9)), (4, .int (iI s9)), (0, .ref o), (1, .int (iI k)), (2, .int (iI w9))]) hx hb dX4_cycles_111 rfl hl (by decide) rfl (fun ls hl => ?_)
                  refine lv_iload hx hb dX4_cycles_112 (lv_at hl 5 rfl) ?_
                  refine lv_iload hx hb dX4_cycles_114 (lv_at hl 1 rfl) ?_
                  refine lv_aload_n hx hb dX4_cycles_116 rfl (lv_at hl 6 rfl) ?_
                  refine g_get (C := RX4) (T := TX4) (N := 30) (v := .ref (a 7)) hx hb hts hown hK hG hM5.o rfl in_X4 7 (by decide) q1965 rfl rfl dX4_cycles_117 ?_
                  refine lv_iload hx hb dX4_cycles_120 (lv_at hl 1 rfl) ?_
                  refine g_iald hx hb hK hG hM5.a7 dX4_cycles_122 (by omega) ?_
                  refine g_rw (b := (O n9)) (hO7 n9 (by omega) (by omega)) ?_
                  have ho26 := hOr n9
                  refine g_imul hx hb dX4_cycles_123 ?_
                  refine g_iadd hx hb dX4_cycles_124 ?_
                  refine lv_istore (lv' := [(4, .int (iI (s9 + (n9 * (O n9))))), (3, .int (iI (m9 + (O n9)))), (8, .int (iI n9)), (7, .int (iI (w9 - 10))), (6, .int (iI t9)), (5, .int (iI l9)), (0, .ref o), (1, .int (iI k)), (2, .int (iI w9))]) hx hb dX4_cycles_125 hl (by decide) rfl (fun ls hl => ?_)
                  refine lv_iload hx hb dX4_cycles_127 (lv_at hl 5 rfl) ?_
                  refine lv_iload hx hb dX4_cycles_129 (lv_at hl 3 rfl) ?_
                  refine g_icmp_ne (tgt := 155) hx hb dX4_cycles_131 (by decide) (by omega) (by omega) (fun cq27 => ?_) (fun cq27 => ?_)
                  · refine lv_iload hx hb dX4_cycles_155 (lv_at hl 4 rfl) ?_
                    refine lv_istore (lv' := [(6, .int (iI t9)), (4, .int (iI (s9 + (n9 * (O n9))))), (3, .int (iI (m9 + (O n9)))), (8, .int (iI n9)), (7, .int (iI (w9 - 10))), (5, .int (iI l9)), (0, .ref o), (1, .int (iI k)), (2, .int (iI w9))]) hx hb dX4_cycles_157 hl (by decide) rfl (fun ls hl => ?_)
                    refine g_iinc (lv' := [(5, .int (iI (l9 + 1))), (6, .int (iI t9)), (4, .int (iI (s9 + (n9 * (O n9))))), (3, .int (iI (m9 + (O n9)))), (8, .int (iI n9)), (7, .int (iI (w9 - 10))), (0, .ref o), (1, .int (iI k)), (2, .int (iI w9))]) hx hb dX4_cycles_159 hl (k := 5) rfl (by decide) rfl (fun ls hl => ?_)
                    refine g_iinc (lv' := [(8, .int (iI (n9 + 1))), (5, .int (iI (l9 + 1))), (6, .int (iI t9)), (4, .int (iI (s9 + (n9 * (O n9))))), (3, .int (iI (m9 + (O n9)))), (7, .int (iI (w9 - 10))), (0, .ref o), (1, .int (iI k)), (2, .int (iI w9))]) hx hb dX4_cycles_162 hl (k := 4) rfl (by decide) rfl (fun ls hl => ?_)
                    refine lv_goto (tgt := 84) hx hb dX4_cycles_165 (by decide) ?_
                    exact ih_84 (m9 + (O n9)) (s9 + (n9 * (O n9))) (l9 + 1) t9 (n9 + 1) (by omega) (by omega) (by rw [show (n9 + 1 - 1).toNat = (n9 - 1).toNat + 1 by omega, lnL_y (O := O) (n := (n9 - 1).toNat) (x := n9) (by omega) (by omega), smL_app, ← hm9]) (by rw [show (n9 + 1 - 1).toNat = (n9 - 1).toNat + 1 by omega, lnL_y (O := O) (n := (n9 - 1).toNat) (x := n9) (by omega) (by omega), smL_app, ← hs9]) (by rw [show (n9 + 1 - 1).toNat = (n9 - 1).toNat + 1 by omega, lnL_y (O := O) (n := (n9 - 1).toNat) (x := n9) (by omega) (by omega), List.length_append, hl9]; simp) (by first | (exfalso; omega) | (rw [show (n9 + 1 - 1).toNat = (n9 - 1).toNat + 1 by omega, lnL_y (O := O) (n := (n9 - 1).toNat) (x := n9) (by omega) (by omega), tlA_app, if_neg (by omega)]; exact ht9))  _ _ _ hG hS (lv_sub hl [0, 5, 2, 1, 3, 4, 6, 7, 8] rfl)
                  · refine lv_iload_n hx hb dX4_cycles_134 rfl (lv_at hl 8 rfl) ?_
                    refine g_bipush hx hb dX4_cycles_135 (by decide) ?_
                    refine g_icmp_ge (tgt := 145) hx hb dX4_cycles_137 (by decide) (by omega) (by omega) (fun cq28 => by omega) (fun cq28 => ?_)
                    refine lv_iload hx hb dX4_cycles_140 (lv_at hl 2 rfl) ?_
                    refine lv_goto (tgt := 157) hx hb dX4_cycles_142 (by decide) ?_
                    refine lv_istore (lv' := [(6, .int (iI n9)), (4, .int (iI (s9 + (n9 * (O n9))))), (3, .int (iI (m9 + (O n9)))), (8, .int (iI n9)), (7, .int (iI (w9 - 10))), (5, .int (iI l9)), (0, .ref o), (1, .int (iI k)), (2, .int (iI w9))]) hx hb dX4_cycles_157 hl (by decide) rfl (fun ls hl => ?_)
                    refine g_iinc (lv' := [(5, .int (iI (l9 + 1))), (6, .int (iI n9)), (4, .int (iI (s9 + (n9 * (O n9))))), (3, .int (iI (m9 + (O n9)))), (8, .int (iI n9)), (7, .int (iI (w9 - 10))), (0, .ref o), (1, .int (iI k)), (2, .int (iI w9))]) hx hb dX4_cycles_159 hl (k := 5) rfl (by decide) rfl (fun ls hl => ?_)
                    refine g_iinc (lv' := [(8, .int (iI (n9 + 1))), (5, .int (iI (l9 + 1))), (6, .int (iI n9)), (4, .int (iI (s9 + (n9 * (O n9))))), (3, .int (iI (m9 + (O n9)))), (7, .int (iI (w9 - 10))), (0, .ref o), (1, .int (iI k)), (2, .int (iI w9))]) hx hb dX4_cycles_162 hl (k := 4) rfl (by decide) rfl (fun ls hl => ?_)
                    refine lv_goto (tgt := 84) hx hb dX4_cycles_165 (by decide) ?_
                    exact ih_84 (m9 + (O n9)) (s9 + (n9 * (O n9))) (l9 + 1) n9 (n9 + 1) (by omega) (by omega) (by rw [show (n9 + 1 - 1).toNat = (n9 - 1).toNat + 1 by omega, lnL_y (O := O) (n := (n9 - 1).toNat) (x := n9) (by omega) (by omega), smL_app, ← hm9]) (by rw [show (n9 + 1 - 1).toNat = (n9 - 1).toNat + 1 by omega, lnL_y (O := O) (n := (n9 - 1).toNat) (x := n9) (by omega) (by omega), smL_app, ← hs9]) (by rw [show (n9 + 1 - 1).toNat = (n9 - 1).toNat + 1 by omega, lnL_y (O := O) (n := (n9 - 1).toNat) (x := n9) (by omega) (by omega), List.length_append, hl9]; simp) (by first | (exfalso; omega) | (rw [show (n9 + 1 - 1).toNat = (n9 - 1).toNat + 1 by omega, lnL_y (O := O) (n := (n9 - 1).toNat) (x := n9) (by omega) (by omega), tlA_app, if_pos (by omega)]; first | rw [if_pos (by omega)] | rw [if_neg (by omega)]))  _ _ _ hG hS (lv_sub hl [0, 5, 2, 1, 3, 4, 6, 7, 8] rfl)
          exact loop_84 _ 0 0 0 (-5) 1 (Nat.lt_succ_self _) (by omega) (rfl) (rfl) (rfl) (by unfold tlA; rw [if_neg (by show ¬ (_ ∧ _ < ((0 : Nat) : Int)); omega)])  _ _ _ hG hS (lv_sub hl [0, 1, 2, 3, 4, 5, 6, 7, 8] rfl)
      · refine g_iconst hx hb dX4_cycles_58 ?_
        refine lv_goto (tgt := 79) hx hb dX4_cycles_59 (by decide) ?_
        refine lv_istore (lv' := [(7, .int (iI (-1))), (6, .int (iI (-5))), (5, .int (iI 0)), (4, .int (iI 0)), (3, .int (iI 0)), (0, .ref o), (1, .int (iI k)), (2, .int (iI w9))]) hx hb dX4_cycles_79 hl (by decide) rfl (fun ls hl => ?_)
        refine g_iconst hx hb dX4_cycles_81 ?_
        refine lv_istore (lv' := [(8, .int (iI 1)), (7, .int (iI (-1))), (6, .int (iI (-5))), (5, .int (iI 0)), (4, .int (iI 0)), (3, .int (iI 0)), (0, .ref o), (1, .int (iI k)), (2, .int (iI w9))]) hx hb dX4_cycles_82 hl (by decide) rfl (fun ls hl => ?_)
        have loop_84 : ∀ (nF : Nat) (m9 : Int) (s9 : Int) (l9 : Int) (t9 : Int) (n9 : Int), ((1025 - n9).toNat : Nat) < nF → (1 ≤ n9 ∧ n9 ≤ 1025) → (m9 = smL O (lnL O (n9 - 1).toNat)) → (s9 = smL (fun j => j * O j) (lnL O (n9 - 1).toNat)) → (l9 = ((lnL O (n9 - 1).toNat).length : Int)) → (t9 = tlA O (lnL O (n9 - 1).toNat) w9 (-1)) → ∀ (H : Heap) (locs : List Loc) (ls : Array Slot), gSat X σr5 H → va_S (gA X) ss.heap H locs → lv_has ls 9 [(8, .int (iI n9)), (7, .int (iI (-1))), (6, .int (iI t9)), (5, .int (iI l9)), (4, .int (iI s9)), (3, .int (iI m9)), (0, .ref o), (1, .int (iI k)), (2, .int (iI w9))] → W pp l ee (gR 7 0 0 173) ss mm args below meth cd H locs 0 0 Q (F0 mm 84 ls []) := by
          intro nF
          induction nF with
          | zero => intro m9 s9 l9 t9 n9 hm; exact absurd hm (Nat.not_lt_zero _)
          | succ nF ih_84 =>
            intro m9 s9 l9 t9 n9 hm hi84_0 hm9 hs9 hl9 ht9 H locs ls hG hS hl
            have hlen := lnL_len O (n9 - 1).toNat
            refine lv_iload hx hb dX4_cycles_84 (lv_at hl 0 rfl) ?_
            refine g_sipush hx hb dX4_cycles_86 (by decide) ?_
            refine g_icmp_gt (tgt := 168) hx hb dX4_cycles_89 (by decide) (by omega) (by omega) (fun cq29 => ?_) (fun cq29 => ?_)
            · refine lv_iload_n hx hb dX4_cycles_168 rfl (lv_at hl 8 rfl) ?_
              refine g_if_ne (tgt := 176) hx hb dX4_cycles_169 (by decide) (by omega) (fun cq30 => ?_) (fun cq30 => ?_)
              · refine lv_iload_n hx hb dX4_cycles_176 rfl (lv_at hl 8 rfl) ?_
                refine g_iconst hx hb dX4_cycles_177 ?_
                refine g_icmp_ne (tgt := 186) hx hb dX4_cycles_178 (by decide) (by omega) (by omega) (fun cq31 => ?_) (fun cq31 => ?_)
                · refine lv_iload_n hx hb dX4_cycles_186 rfl (lv_at hl 8 rfl) ?_
                  refine g_iconst hx hb dX4_cycles_187 ?_
                  refine g_icmp_ne (tgt := 196) hx hb dX4_cycles_188 (by decide) (by omega) (by omega) (fun cq32 => ?_) (fun cq32 => ?_)
                  · refine lv_iload hx hb dX4_cycles_196 (lv_at hl 2 rfl) ?_
                    exact g_iret hx hb hr hlocks hQ hG hS (Nat.zero_le _) (Nat.zero_le _) ⟨_, rfl, V5, I5, hM5, hkp5, (⟨by rw [if_pos (by omega)]; unfold cycZ cycA; rw [← hO, show 1024 = (n9 - 1).toNat by omega]; first | (exfalso; omega) | (rw [if_neg (by omega), if_neg (by omega), if_neg (by omega), ht9]; unfold tlA; first | (by_cases hz : -1 < ((lnL O (n9 - 1).toNat).length : Int); (rw [if_pos (⟨by omega, hz⟩ : 0 ≤ -1 ∧ -1 < ((lnL O (n9 - 1).toNat).length : Int)), if_pos (show w9 < 50 by omega), if_pos (show w9 < 50 by omega), if_pos hz]); (rw [if_neg (fun h => hz h.2), if_pos (show w9 < 50 by omega), if_neg hz])) | (by_cases hz : -1 < ((lnL O (n9 - 1).toNat).length : Int); (rw [if_pos (⟨by omega, hz⟩ : 0 ≤ -1 ∧ -1 < ((lnL O (n9 - 1).toNat).length : Int)), if_neg (show ¬ w9 < 50 by omega), if_neg (show ¬ w9 < 50 by omega), if_pos hz]); (rw [if_neg (fun h => hz h.2), if_neg (show ¬ w9 < 50 by omega), if_neg hz]))), hrel5.1, hrel5.2.2⟩)⟩ dX4_cycles_198
                  · refine lv_iload hx hb dX4_cycles_191 (lv_at hl 3 rfl) ?_
                    refine lv_goto (tgt := 198) hx hb dX4_cycles_193 (by decide) ?_
                    exact g_iret hx hb hr hlocks hQ hG hS (Nat.zero_le _) (Nat.zero_le _) ⟨_, rfl, V5, I5, hM5, hkp5, (⟨by rw [if_pos (by omega)]; unfold cycZ cycA; rw [← hO, show 1024 = (n9 - 1).toNat by omega]; rw [if_neg (by omega), if_neg (by omega), if_pos (by omega)]; exact hl9, hrel5.1, hrel5.2.2⟩)⟩ dX4_cycles_198
                · refine lv_iload hx hb dX4_cycles_181 (lv_at hl 4 rfl) ?_
                  refine lv_goto (tgt := 198) hx hb dX4_cycles_183 (by decide) ?_
                  exact g_iret hx hb hr hlocks hQ hG hS (Nat.zero_le _) (Nat.zero_le _) ⟨_, rfl, V5, I5, hM5, hkp5, (⟨by rw [if_pos (by omega)]; unfold cycZ cycA; rw [← hO, show 1024 = (n9 - 1).toNat by omega]; rw [if_neg (by omega), if_pos (by omega)]; exact hs9, hrel5.1, hrel5.2.2⟩)⟩ dX4_cycles_198
              · refine lv_iload_n hx hb dX4_cycles_172 rfl (lv_at hl 5 rfl) ?_
                refine lv_goto (tgt := 198) hx hb dX4_cycles_173 (by decide) ?_
                exact g_iret hx hb hr hlocks hQ hG hS (Nat.zero_le _) (Nat.zero_le _) ⟨_, rfl, V5, I5, hM5, hkp5, (⟨by rw [if_pos (by omega)]; unfold cycZ cycA; rw [← hO, show 1024 = (n9 - 1).toNat by omega]; rw [if_pos (by omega)]; exact hm9, hrel5.1, hrel5.2.2⟩)⟩ dX4_cycles_198
            · refine lv_aload_n hx hb dX4_cycles_92 rfl (lv_at hl 6 rfl) ?_
              refine g_get (C := RX4) (T := TX4) (N := 30) (v := .ref (a 7)) hx hb hts hown hK hG hM5.o rfl in_X4 7 (by decide) q1965 rfl rfl dX4_cycles_93 ?_
              refine lv_iload hx hb dX4_cycles_96 (lv_at hl 0 rfl) ?_
              refine g_iald hx hb hK hG hM5.a7 dX4_cycles_98 (by omega) ?_
              refine g_rw (b := (O n9)) (hO7 n9 (by omega) (by omega)) ?_
              have ho33 := hOr n9
              refine g_if_le (tgt := 162) hx hb dX4_cycles_99 (by decide) (by omega) (fun cq34 => ?_) (fun cq34 => ?_)
              · refine g_iinc (lv' := [(8, .int (iI (n9 + 1))), (7, .int (iI (-1))), (6, .int (iI t9)), (5, .int (iI l9)), (4, .int (iI s9)), (3, .int (iI m9)), (0, .ref o), (1, .int (iI k)), (2, .int (iI w9))]) hx hb dX4_cycles_162 hl (k := 0) rfl (by decide) rfl (fun ls hl => ?_)
                refine lv_goto (tgt := 84) hx hb dX4_cycles_165 (by decide) ?_
                exact ih_84 m9 s9 l9 t9 (n9 + 1) (by omega) (by omega) (by rw [show (n9 + 1 - 1).toNat = (n9 - 1).toNat + 1 by omega, lnL_n (O := O) (n := (n9 - 1).toNat) (x := n9) (by omega) (by omega)]; exact hm9) (by rw [show (n9 + 1 - 1).toNat = (n9 - 1).toNat + 1 by omega, lnL_n (O := O) (n := (n9 - 1).toNat) (x := n9) (by omega) (by omega)]; exact hs9) (by rw [show (n9 + 1 - 1).toNat = (n9 - 1).toNat + 1 by omega, lnL_n (O := O) (n := (n9 - 1).toNat) (x := n9) (by omega) (by omega)]; exact hl9) (by rw [show (n9 + 1 - 1).toNat = (n9 - 1).toNat + 1 by omega, lnL_n (O := O) (n := (n9 - 1).toNat) (x := n9) (by omega) (by omega)]; exact ht9)  _ _ _ hG hS (lv_sub hl [0, 1, 2, 3, 4, 5, 6, 7, 8] rfl)
              · refine lv_iload_n hx hb dX4_cycles_102 rfl (lv_at hl 5 rfl) ?_
                refine lv_aload_n hx hb dX4_cycles_103 rfl (lv_at hl 6 rfl) ?_
                refine g_get (C := RX4) (T := TX4) (N := 30) (v := .ref (a 7)) hx hb hts hown hK hG hM5.o rfl in_X4 7 (by decide) q1965 rfl rfl dX4_cycles_104 ?_
                refine lv_iload hx hb dX4_cycles_107 (lv_at hl 0 rfl) ?_
                refine g_iald hx hb hK hG hM5.a7 dX4_cycles_109 (by omega) ?_
                refine g_rw (b := (O n9)) (hO7 n9 (by omega) (by omega)) ?_
                have ho35 := hOr n9
                refine g_iadd hx hb dX4_cycles_110 ?_
                refine lv_istore_n (lv' := [(3, .int (iI (m9 + (O n9)))), (8, .int (iI n9)), (7, .int (iI (-1))), (6, .int (iI t9)), (5, .int (iI l9)), (4, .int (iI s9)), (0, .ref o), (1, .int (iI k)), (2, .int (iI w9))]) hx hb dX4_cycles_111 rfl hl (by decide) rfl (fun ls hl => ?_)
                refine lv_iload hx hb dX4_cycles_112 (lv_at hl 5 rfl) ?_
                refine lv_iload hx hb dX4_cycles_114 (lv_at hl 1 rfl) ?_
                refine lv_aload_n hx hb dX4_cycles_116 rfl (lv_at hl 6 rfl) ?_
                refine g_get (C := RX4) (T := TX4) (N := 30) (v := .ref (a 7)) hx hb hts hown hK hG hM5.o rfl in_X4 7 (by decide) q1965 rfl rfl dX4_cycles_117 ?_
                refine lv_iload hx hb dX4_cycles_120 (lv_at hl 1 rfl) ?_
                refine g_iald hx hb hK hG hM5.a7 dX4_cycles_122 (by omega) ?_
                refine g_rw (b := (O n9)) (hO7 n9 (by omega) (by omega)) ?_
                have ho36 := hOr n9
                refine g_imul hx hb dX4_cycles_123 ?_
                refine g_iadd hx hb dX4_cycles_124 ?_
                refine lv_istore (lv' := [(4, .int (iI (s9 + (n9 * (O n9))))), (3, .int (iI (m9 + (O n9)))), (8, .int (iI n9)), (7, .int (iI (-1))), (6, .int (iI t9)), (5, .int (iI l9)), (0, .ref o), (1, .int (iI k)), (2, .int (iI w9))]) hx hb dX4_cycles_125 hl (by decide) rfl (fun ls hl => ?_)
                refine lv_iload hx hb dX4_cycles_127 (lv_at hl 5 rfl) ?_
                refine lv_iload hx hb dX4_cycles_129 (lv_at hl 3 rfl) ?_
                refine g_icmp_ne (tgt := 155) hx hb dX4_cycles_131 (by decide) (by omega) (by omega) (fun cq37 => ?_) (fun cq37 => ?_)
                · refine lv_iload hx hb dX4_cycles_155 (lv_at hl 4 rfl) ?_
                  refine lv_istore (lv' := [(6, .int (iI t9)), (4, .int (iI (s9 + (n9 * (O n9))))), (3, .int (iI (m9 + (O n9)))), (8, .int (iI n9)), (7, .int (iI (-1))), (5, .int (iI l9)), (0, .ref o), (1, .int (iI k)), (2, .int (iI w9))]) hx hb dX4_cycles_157 hl (by decide) rfl (fun ls hl => ?_)
                  refine g_iinc (lv' := [(5, .int (iI (l9 + 1))), (6, .int (iI t9)), (4, .int (iI (s9 + (n9 * (O n9))))), (3, .int (iI (m9 + (O n9)))), (8, .int (iI n9)), (7, .int (iI (-1))), (0, .ref o), (1, .int (iI k)), (2, .int (iI w9))]) hx hb dX4_cycles_159 hl (k := 5) rfl (by decide) rfl (fun ls hl => ?_)
                  refine g_iinc (lv' := [(8, .int (iI (n9 + 1))), (5, .int (iI (l9 + 1))), (6, .int (iI t9)), (4, .int (iI (s9 + (n9 * (O n9))))), (3, .int (iI (m9 + (O n9)))), (7, .int (iI (-1))), (0, .ref o), (1, .int (iI k)), (2, .int (iI w9))]) hx hb dX4_cycles_162 hl (k := 4) rfl (by decide) rfl (fun ls hl => ?_)
                  refine lv_goto (tgt := 84) hx hb dX4_cycles_165 (by decide) ?_
                  exact ih_84 (m9 + (O n9)) (s9 + (n9 * (O n9))) (l9 + 1) t9 (n9 + 1) (by omega) (by omega) (by rw [show (n9 + 1 - 1).toNat = (n9 - 1).toNat + 1 by omega, lnL_y (O := O) (n := (n9 - 1).toNat) (x := n9) (by omega) (by omega), smL_app, ← hm9]) (by rw [show (n9 + 1 - 1).toNat = (n9 - 1).toNat + 1 by omega, lnL_y (O := O) (n := (n9 - 1).toNat) (x := n9) (by omega) (by omega), smL_app, ← hs9]) (by rw [show (n9 + 1 - 1).toNat = (n9 - 1).toNat + 1 by omega, lnL_y (O := O) (n := (n9 - 1).toNat) (x := n9) (by omega) (by omega), List.length_append, hl9]; simp) (by first | (exfalso; omega) | (rw [show (n9 + 1 - 1).toNat = (n9 - 1).toNat + 1 by omega, lnL_y (O := O) (n := (n9 - 1).toNat) (x := n9) (by omega) (by omega), tlA_app, if_neg (by omega)]; exact ht9))  _ _ _ hG hS (lv_sub hl [0, 5, 2, 1, 3, 4, 6, 7, 8] rfl)
                · refine lv_iload_n hx hb dX4_cycles_134 rfl (lv_at hl 8 rfl) ?_
                  refine g_bipush hx hb dX4_cycles_135 (by decide) ?_
                  refine g_icmp_ge (tgt := 145) hx hb dX4_cycles_137 (by decide) (by omega) (by omega) (fun cq38 => ?_) (fun cq38 => ?_)
                  · refine lv_aload_n hx hb dX4_cycles_145 rfl (lv_at hl 6 rfl) ?_
                    refine g_get (C := RX4) (T := TX4) (N := 30) (v := .ref (a 7)) hx hb hts hown hK hG hM5.o rfl in_X4 7 (by decide) q1965 rfl rfl dX4_cycles_146 ?_
                    refine lv_iload hx hb dX4_cycles_149 (lv_at hl 2 rfl) ?_
                    refine g_iald hx hb hK hG hM5.a7 dX4_cycles_151 (by omega) ?_
                    refine g_rw (b := (O n9)) (hO7 n9 (by omega) (by omega)) ?_
                    have ho39 := hOr n9
                    refine lv_goto (tgt := 157) hx hb dX4_cycles_152 (by decide) ?_
                    refine lv_istore (lv' := [(6, .int (iI (O n9))), (4, .int (iI (s9 + (n9 * (O n9))))), (3, .int (iI (m9 + (O n9)))), (8, .int (iI n9)), (7, .int (iI (-1))), (5, .int (iI l9)), (0, .ref o), (1, .int (iI k)), (2, .int (iI w9))]) hx hb dX4_cycles_157 hl (by decide) rfl (fun ls hl => ?_)
                    refine g_iinc (lv' := [(5, .int (iI (l9 + 1))), (6, .int (iI (O n9))), (4, .int (iI (s9 + (n9 * (O n9))))), (3, .int (iI (m9 + (O n9)))), (8, .int (iI n9)), (7, .int (iI (-1))), (0, .ref o), (1, .int (iI k)), (2, .int (iI w9))]) hx hb dX4_cycles_159 hl (k := 5) rfl (by decide) rfl (fun ls hl => ?_)
                    refine g_iinc (lv' := [(8, .int (iI (n9 + 1))), (5, .int (iI (l9 + 1))), (6, .int (iI (O n9))), (4, .int (iI (s9 + (n9 * (O n9))))), (3, .int (iI (m9 + (O n9)))), (7, .int (iI (-1))), (0, .ref o), (1, .int (iI k)), (2, .int (iI w9))]) hx hb dX4_cycles_162 hl (k := 4) rfl (by decide) rfl (fun ls hl => ?_)
                    refine lv_goto (tgt := 84) hx hb dX4_cycles_165 (by decide) ?_
                    exact ih_84 (m9 + (O n9)) (s9 + (n9 * (O n9))) (l9 + 1) (O n9) (n9 + 1) (by omega) (by omega) (by rw [show (n9 + 1 - 1).toNat = (n9 - 1).toNat + 1 by omega, lnL_y (O := O) (n := (n9 - 1).toNat) (x := n9) (by omega) (by omega), smL_app, ← hm9]) (by rw [show (n9 + 1 - 1).toNat = (n9 - 1).toNat + 1 by omega, lnL_y (O := O) (n := (n9 - 1).toNat) (x := n9) (by omega) (by omega), smL_app, ← hs9]) (by rw [show (n9 + 1 - 1).toNat = (n9 - 1).toNat + 1 by omega, lnL_y (O := O) (n := (n9 - 1).toNat) (x := n9) (by omega) (by omega), List.length_append, hl9]; simp) (by first | (exfalso; omega) | (rw [show (n9 + 1 - 1).toNat = (n9 - 1).toNat + 1 by omega, lnL_y (O := O) (n := (n9 - 1).toNat) (x := n9) (by omega) (by omega), tlA_app, if_pos (by omega)]; first | rw [if_pos (by omega)] | rw [if_neg (by omega)]))  _ _ _ hG hS (lv_sub hl [0, 5, 2, 1, 3, 4, 6, 7, 8] rfl)
                  · refine lv_iload hx hb dX4_cycles_140 (lv_at hl 2 rfl) ?_
                    refine lv_goto (tgt := 157) hx hb dX4_cycles_142 (by decide) ?_
                    refine lv_istore (lv' := [(6, .int (iI n9)), (4, .int (iI (s9 + (n9 * (O n9))))), (3, .int (iI (m9 + (O n9)))), (8, .int (iI n9)), (7, .int (iI (-1))), (5, .int (iI l9)), (0, .ref o), (1, .int (iI k)), (2, .int (iI w9))]) hx hb dX4_cycles_157 hl (by decide) rfl (fun ls hl => ?_)
                    refine g_iinc (lv' := [(5, .int (iI (l9 + 1))), (6, .int (iI n9)), (4, .int (iI (s9 + (n9 * (O n9))))), (3, .int (iI (m9 + (O n9)))), (8, .int (iI n9)), (7, .int (iI (-1))), (0, .ref o), (1, .int (iI k)), (2, .int (iI w9))]) hx hb dX4_cycles_159 hl (k := 5) rfl (by decide) rfl (fun ls hl => ?_)
                    refine g_iinc (lv' := [(8, .int (iI (n9 + 1))), (5, .int (iI (l9 + 1))), (6, .int (iI n9)), (4, .int (iI (s9 + (n9 * (O n9))))), (3, .int (iI (m9 + (O n9)))), (7, .int (iI (-1))), (0, .ref o), (1, .int (iI k)), (2, .int (iI w9))]) hx hb dX4_cycles_162 hl (k := 4) rfl (by decide) rfl (fun ls hl => ?_)
                    refine lv_goto (tgt := 84) hx hb dX4_cycles_165 (by decide) ?_
                    exact ih_84 (m9 + (O n9)) (s9 + (n9 * (O n9))) (l9 + 1) n9 (n9 + 1) (by omega) (by omega) (by rw [show (n9 + 1 - 1).toNat = (n9 - 1).toNat + 1 by omega, lnL_y (O := O) (n := (n9 - 1).toNat) (x := n9) (by omega) (by omega), smL_app, ← hm9]) (by rw [show (n9 + 1 - 1).toNat = (n9 - 1).toNat + 1 by omega, lnL_y (O := O) (n := (n9 - 1).toNat) (x := n9) (by omega) (by omega), smL_app, ← hs9]) (by rw [show (n9 + 1 - 1).toNat = (n9 - 1).toNat + 1 by omega, lnL_y (O := O) (n := (n9 - 1).toNat) (x := n9) (by omega) (by omega), List.length_append, hl9]; simp) (by first | (exfalso; omega) | (rw [show (n9 + 1 - 1).toNat = (n9 - 1).toNat + 1 by omega, lnL_y (O := O) (n := (n9 - 1).toNat) (x := n9) (by omega) (by omega), tlA_app, if_pos (by omega)]; first | rw [if_pos (by omega)] | rw [if_neg (by omega)]))  _ _ _ hG hS (lv_sub hl [0, 5, 2, 1, 3, 4, 6, 7, 8] rfl)
        exact loop_84 _ 0 0 0 (-5) 1 (Nat.lt_succ_self _) (by omega) (rfl) (rfl) (rfl) (by unfold tlA; rw [if_neg (by show ¬ (_ ∧ _ < ((0 : Nat) : Int)); omega)])  _ _ _ hG hS (lv_sub hl [0, 1, 2, 3, 4, 5, 6, 7, 8] rfl)
    · refine lv_iload_n hx hb dX4_cycles_19 rfl (lv_at hl 2 rfl) ?_
      refine g_i2l hx hb dX4_cycles_20 (by omega) ?_
      refine g_ldc2 hx hb (10) hown (hts _ q2170) (by decide) dX4_cycles_21 ?_
      refine g_ldc2 hx hb (89) hown (hts _ q2171) (by decide) dX4_cycles_24 ?_
      refine g_callS (As := [.long (lI w9), .long (lI (10)), .long (lI (89))]) (rest := []) 3 hx hb hml hown hts hK hG hS hl.1 (mX4_in l X σ  w9 (10) (89) (by omega) (by omega) (by omega)) q2056 q2057 q86 q2058 (by decide +kernel) rfl ⟨Nat.le_of_ble_eq_true rfl, Nat.le_of_ble_eq_true rfl⟩ ⟨Nat.le_of_ble_eq_true rfl, Nat.le_of_ble_eq_true rfl⟩ (Nat.le_of_ble_eq_true rfl) dX4_cycles_27 (kI (fun r40 σr40 H locs hp hG hS => ?_))
      obtain ⟨hr40, rfl⟩ := hp
      refine g_if_ne (tgt := 35) hx hb dX4_cycles_30 (by decide) (by omega) (fun cq41 => ?_) (fun cq41 => ?_)
      · refine lv_aload_n hx hb dX4_cycles_35 rfl (lv_at hl 0 rfl) ?_
        refine lv_iload_n hx hb dX4_cycles_36 rfl (lv_at hl 1 rfl) ?_
        refine g_callV (As := [.int (iI k)]) (rest := []) 1 hx hb hml hown hts hK hG hS hl.1 (mX4_findsCycles l X σ o a V Iv hM hT k (by omega)) hM.o rfl q2172 q2174 qs55 q86 q2175 (by decide +kernel) rfl ⟨Nat.le_of_ble_eq_true rfl, Nat.le_of_ble_eq_true rfl⟩ ⟨Nat.le_of_ble_eq_true rfl, Nat.le_of_ble_eq_true rfl⟩ (Nat.le_of_ble_eq_true rfl) dX4_cycles_37 (kV (fun σr42 H locs hp hG hS => ?_))
        obtain ⟨V42, I42, hM42, kp42, hrel42⟩ := hp
        have hkp42 := hkp.tr kp42
        obtain ⟨O, hO⟩ : ∃ z, z = (cyA (V 0) k 1024).2 := ⟨_, rfl⟩
        have hO7 := hrel42.2.1
        rw [← hO] at hO7
        have hOr : ∀ j, 0 ≤ O j ∧ O j ≤ 1024 := fun j => by rw [hO]; exact cyA_r (V 0) k 1024 j
        refine g_iconst hx hb dX4_cycles_40 ?_
        refine lv_istore_n (lv' := [(3, .int (iI 0)), (0, .ref o), (1, .int (iI k)), (2, .int (iI w9))]) hx hb dX4_cycles_41 rfl hl (by decide) rfl (fun ls hl => ?_)
        refine g_iconst hx hb dX4_cycles_42 ?_
        refine lv_istore (lv' := [(4, .int (iI 0)), (3, .int (iI 0)), (0, .ref o), (1, .int (iI k)), (2, .int (iI w9))]) hx hb dX4_cycles_43 hl (by decide) rfl (fun ls hl => ?_)
        refine g_iconst hx hb dX4_cycles_45 ?_
        refine lv_istore (lv' := [(5, .int (iI 0)), (4, .int (iI 0)), (3, .int (iI 0)), (0, .ref o), (1, .int (iI k)), (2, .int (iI w9))]) hx hb dX4_cycles_46 hl (by decide) rfl (fun ls hl => ?_)
        refine g_bipush hx hb dX4_cycles_48 (by decide) ?_
        refine lv_istore (lv' := [(6, .int (iI (-5))), (5, .int (iI 0)), (4, .int (iI 0)), (3, .int (iI 0)), (0, .ref o), (1, .int (iI k)), (2, .int (iI w9))]) hx hb dX4_cycles_50 hl (by decide) rfl (fun ls hl => ?_)
        refine lv_iload_n hx hb dX4_cycles_52 rfl (lv_at hl 6 rfl) ?_
        refine g_bipush hx hb dX4_cycles_53 (by decide) ?_
        refine g_icmp_ge (tgt := 62) hx hb dX4_cycles_55 (by decide) (by omega) (by omega) (fun cq43 => ?_) (fun cq43 => ?_)
        · refine lv_iload_n hx hb dX4_cycles_62 rfl (lv_at hl 6 rfl) ?_
          refine g_bipush hx hb dX4_cycles_63 (by decide) ?_
          refine g_icmp_ge (tgt := 75) hx hb dX4_cycles_65 (by decide) (by omega) (by omega) (fun cq44 => ?_) (fun cq44 => ?_)
          · refine lv_iload_n hx hb dX4_cycles_75 rfl (lv_at hl 6 rfl) ?_
            refine g_bipush hx hb dX4_cycles_76 (by decide) ?_
            refine g_isub hx hb dX4_cycles_78 ?_
            refine lv_istore (lv' := [(7, .int (iI (w9 - 50))), (6, .int (iI (-5))), (5, .int (iI 0)), (4, .int (iI 0)), (3, .int (iI 0)), (0, .ref o), (1, .int (iI k)), (2, .int (iI w9))]) hx hb dX4_cycles_79 hl (by decide) rfl (fun ls hl => ?_)
            refine g_iconst hx hb dX4_cycles_81 ?_
            refine lv_istore (lv' := [(8, .int (iI 1)), (7, .int (iI (w9 - 50))), (6, .int (iI (-5))), (5, .int (iI 0)), (4, .int (iI 0)), (3, .int (iI 0)), (0, .ref o), (1, .int (iI k)), (2, .int (iI w9))]) hx hb dX4_cycles_82 hl (by decide) rfl (fun ls hl => ?_)
            have loop_84 : ∀ (nF : Nat) (m9 : Int) (s9 : Int) (l9 : Int) (t9 : Int) (n9 : Int), ((1025 - n9).toNat : Nat) < nF → (1 ≤ n9 ∧ n9 ≤ 1025) → (m9 = smL O (lnL O (n9 - 1).toNat)) → (s9 = smL (fun j => j * O j) (lnL O (n9 - 1).toNat)) → (l9 = ((lnL O (n9 - 1).toNat).length : Int)) → (t9 = tlA O (lnL O (n9 - 1).toNat) w9 (w9 - 50)) → ∀ (H : Heap) (locs : List Loc) (ls : Array Slot), gSat X σr42 H → va_S (gA X) ss.heap H locs → lv_has ls 9 [(8, .int (iI n9)), (7, .int (iI (w9 - 50))), (6, .int (iI t9)), (5, .int (iI l9)), (4, .int (iI s9)), (3, .int (iI m9)), (0, .ref o), (1, .int (iI k)), (2, .int (iI w9))] → W pp l ee (gR 7 0 0 173) ss mm args below meth cd H locs 0 0 Q (F0 mm 84 ls []) := by
              intro nF
              induction nF with
              | zero => intro m9 s9 l9 t9 n9 hm; exact absurd hm (Nat.not_lt_zero _)
              | succ nF ih_84 =>
                intro m9 s9 l9 t9 n9 hm hi84_0 hm9 hs9 hl9 ht9 H locs ls hG hS hl
                have hlen := lnL_len O (n9 - 1).toNat
                refine lv_iload hx hb dX4_cycles_84 (lv_at hl 0 rfl) ?_
                refine g_sipush hx hb dX4_cycles_86 (by decide) ?_
                refine g_icmp_gt (tgt := 168) hx hb dX4_cycles_89 (by decide) (by omega) (by omega) (fun cq45 => ?_) (fun cq45 => ?_)
                · refine lv_iload_n hx hb dX4_cycles_168 rfl (lv_at hl 8 rfl) ?_
                  refine g_if_ne (tgt := 176) hx hb dX4_cycles_169 (by decide) (by omega) (fun cq46 => ?_) (fun cq46 => ?_)
                  · refine lv_iload_n hx hb dX4_cycles_176 rfl (lv_at hl 8 rfl) ?_
                    refine g_iconst hx hb dX4_cycles_177 ?_
                    refine g_icmp_ne (tgt := 186) hx hb dX4_cycles_178 (by decide) (by omega) (by omega) (fun cq47 => ?_) (fun cq47 => ?_)
                    · refine lv_iload_n hx hb dX4_cycles_186 rfl (lv_at hl 8 rfl) ?_
                      refine g_iconst hx hb dX4_cycles_187 ?_
                      refine g_icmp_ne (tgt := 196) hx hb dX4_cycles_188 (by decide) (by omega) (by omega) (fun cq48 => ?_) (fun cq48 => ?_)
                      · refine lv_iload hx hb dX4_cycles_196 (lv_at hl 2 rfl) ?_
                        exact g_iret hx hb hr hlocks hQ hG hS (Nat.zero_le _) (Nat.zero_le _) ⟨_, rfl, V42, I42, hM42, hkp42, (⟨by rw [if_pos (by omega)]; unfold cycZ cycA; rw [← hO, show 1024 = (n9 - 1).toNat by omega]; first | (exfalso; omega) | (rw [if_neg (by omega), if_neg (by omega), if_neg (by omega), ht9]; unfold tlA; first | (by_cases hz : w9 - 50 < ((lnL O (n9 - 1).toNat).length : Int); (rw [if_pos (⟨by omega, hz⟩ : 0 ≤ w9 - 50 ∧ w9 - 50 < ((lnL O (n9 - 1).toNat).length : Int)), if_pos (show w9 < 50 by omega), if_pos (show w9 < 50 by omega), if_pos hz]); (rw [if_neg (fun h => hz h.2), if_pos (show w9 < 50 by omega), if_neg hz])) | (by_cases hz : w9 - 50 < ((lnL O (n9 - 1).toNat).length : Int); (rw [if_pos (⟨by omega, hz⟩ : 0 ≤ w9 - 50 ∧ w9 - 50 < ((lnL O (n9 - 1).toNat).length : Int)), if_neg (show ¬ w9 < 50 by omega), if_neg (show ¬ w9 < 50 by omega), if_pos hz]); (rw [if_neg (fun h => hz h.2), if_neg (show ¬ w9 < 50 by omega), if_neg hz]))), hrel42.1, hrel42.2.2⟩)⟩ dX4_cycles_198
                      · refine lv_iload hx hb dX4_cycles_191 (lv_at hl 3 rfl) ?_
                        refine lv_goto (tgt := 198) hx hb dX4_cycles_193 (by decide) ?_
                        exact g_iret hx hb hr hlocks hQ hG hS (Nat.zero_le _) (Nat.zero_le _) ⟨_, rfl, V42, I42, hM42, hkp42, (⟨by rw [if_pos (by omega)]; unfold cycZ cycA; rw [← hO, show 1024 = (n9 - 1).toNat by omega]; rw [if_neg (by omega), if_neg (by omega), if_pos (by omega)]; exact hl9, hrel42.1, hrel42.2.2⟩)⟩ dX4_cycles_198
                    · refine lv_iload hx hb dX4_cycles_181 (lv_at hl 4 rfl) ?_
                      refine lv_goto (tgt := 198) hx hb dX4_cycles_183 (by decide) ?_
                      exact g_iret hx hb hr hlocks hQ hG hS (Nat.zero_le _) (Nat.zero_le _) ⟨_, rfl, V42, I42, hM42, hkp42, (⟨by rw [if_pos (by omega)]; unfold cycZ cycA; rw [← hO, show 1024 = (n9 - 1).toNat by omega]; rw [if_neg (by omega), if_pos (by omega)]; exact hs9, hrel42.1, hrel42.2.2⟩)⟩ dX4_cycles_198
                  · refine lv_iload_n hx hb dX4_cycles_172 rfl (lv_at hl 5 rfl) ?_
                    refine lv_goto (tgt := 198) hx hb dX4_cycles_173 (by decide) ?_
                    exact g_iret hx hb hr hlocks hQ hG hS (Nat.zero_le _) (Nat.zero_le _) ⟨_, rfl, V42, I42, hM42, hkp42, (⟨by rw [if_pos (by omega)]; unfold cycZ cycA; rw [← hO, show 1024 = (n9 - 1).toNat by omega]; rw [if_pos (by omega)]; exact hm9, hrel42.1, hrel42.2.2⟩)⟩ dX4_cycles_198
                · refine lv_aload_n hx hb dX4_cycles_92 rfl (lv_at hl 6 rfl) ?_
                  refine g_get (C := RX4) (T := TX4) (N := 30) (v := .ref (a 7)) hx hb hts hown hK hG hM42.o rfl in_X4 7 (by decide) q1965 rfl rfl dX4_cycles_93 ?_
                  refine lv_iload hx hb dX4_cycles_96 (lv_at hl 0 rfl) ?_
                  refine g_iald hx hb hK hG hM42.a7 dX4_cycles_98 (by omega) ?_
                  refine g_rw (b := (O n9)) (hO7 n9 (by omega) (by omega)) ?_
                  have ho49 := hOr n9
                  refine g_if_le (tgt := 162) hx hb dX4_cycles_99 (by decide) (by omega) (fun cq50 => ?_) (fun cq50 => ?_)
                  · refine g_iinc (lv' := [(8, .int (iI (n9 + 1))), (7, .int (iI (w9 - 50))), (6, .int (iI t9)), (5, .int (iI l9)), (4, .int (iI s9)), (3, .int (iI m9)), (0, .ref o), (1, .int (iI k)), (2, .int (iI w9))]) hx hb dX4_cycles_162 hl (k := 0) rfl (by decide) rfl (fun ls hl => ?_)
                    refine lv_goto (tgt := 84) hx hb dX4_cycles_165 (by decide) ?_
                    exact ih_84 m9 s9 l9 t9 (n9 + 1) (by omega) (by omega) (by rw [show (n9 + 1 - 1).toNat = (n9 - 1).toNat + 1 by omega, lnL_n (O := O) (n := (n9 - 1).toNat) (x := n9) (by omega) (by omega)]; exact hm9) (by rw [show (n9 + 1 - 1).toNat = (n9 - 1).toNat + 1 by omega, lnL_n (O := O) (n := (n9 - 1).toNat) (x := n9) (by omega) (by omega)]; exact hs9) (by rw [show (n9 + 1 - 1).toNat = (n9 - 1).toNat + 1 by omega, lnL_n (O := O) (n := (n9 - 1).toNat) (x := n9) (by omega) (by omega)]; exact hl9) (by rw [show (n9 + 1 - 1).toNat = (n9 - 1).toNat + 1 by omega, lnL_n (O := O) (n := (n9 - 1).toNat) (x := n9) (by omega) (by omega)]; exact ht9)  _ _ _ hG hS (lv_sub hl [0, 1, 2, 3, 4, 5, 6, 7, 8] rfl)
                  · refine lv_iload_n hx hb dX4_cycles_102 rfl (lv_at hl 5 rfl) ?_
                    refine lv_aload_n hx hb dX4_cycles_103 rfl (lv_at hl 6 rfl) ?_
                    refine g_get (C := RX4) (T := TX4) (N := 30) (v := .ref (a 7)) hx hb hts hown hK hG hM42.o rfl in_X4 7 (by decide) q1965 rfl rfl dX4_cycles_104 ?_
                    refine lv_iload hx hb dX4_cycles_107 (lv_at hl 0 rfl) ?_
                    refine g_iald hx hb hK hG hM42.a7 dX4_cycles_109 (by omega) ?_
                    refine g_rw (b := (O n9)) (hO7 n9 (by omega) (by omega)) ?_
                    have ho51 := hOr n9
                    refine g_iadd hx hb dX4_cycles_110 ?_
                    refine lv_istore_n (lv' := [(3, .int (iI (m9 + (O n9)))), (8, .int (iI n9)), (7, .int (iI (w9 - 50))), (6, .int (iI t9)), (5, .int (iI l9)), (4, .int (iI s9)), (0, .ref o), (1, .int (iI k)), (2, .int (iI w9))]) hx hb dX4_cycles_111 rfl hl (by decide) rfl (fun ls hl => ?_)
                    refine lv_iload hx hb dX4_cycles_112 (lv_at hl 5 rfl) ?_
                    refine lv_iload hx hb dX4_cycles_114 (lv_at hl 1 rfl) ?_
                    refine lv_aload_n hx hb dX4_cycles_116 rfl (lv_at hl 6 rfl) ?_
                    refine g_get (C := RX4) (T := TX4) (N := 30) (v := .ref (a 7)) hx hb hts hown hK hG hM42.o rfl in_X4 7 (by decide) q1965 rfl rfl dX4_cycles_117 ?_
                    refine lv_iload hx hb dX4_cycles_120 (lv_at hl 1 rfl) ?_
                    refine g_iald hx hb hK hG hM42.a7 dX4_cycles_122 (by omega) ?_
                    refine g_rw (b := (O n9)) (hO7 n9 (by omega) (by omega)) ?_
                    have ho52 := hOr n9
                    refine g_imul hx hb dX4_cycles_123 ?_
                    refine g_iadd hx hb dX4_cycles_124 ?_
                    refine lv_istore (lv' := [(4, .int (iI (s9 + (n9 * (O n9))))), (3, .int (iI (m9 + (O n9)))), (8, .int (iI n9)), (7, .int (iI (w9 - 50))), (6, .int (iI t9)), (5, .int (iI l9)), (0, .ref o), (1, .int (iI k)), (2, .int (iI w9))]) hx hb dX4_cycles_125 hl (by decide) rfl (fun ls hl => ?_)
                    refine lv_iload hx hb dX4_cycles_127 (lv_at hl 5 rfl) ?_
                    refine lv_iload hx hb dX4_cycles_129 (lv_at hl 3 rfl) ?_
                    refine g_icmp_ne (tgt := 155) hx hb dX4_cycles_131 (by decide) (by omega) (by omega) (fun cq53 => ?_) (fun cq53 => ?_)
                    · refine lv_iload hx hb dX4_cycles_155 (lv_at hl 4 rfl) ?_
                      refine lv_istore (lv' := [(6, .int (iI t9)), (4, .int (iI (s9 + (n9 * (O n9))))), (3, .int (iI (m9 + (O n9)))), (8, .int (iI n9)), (7, .int (iI (w9 - 50))), (5, .int (iI l9)), (0, .ref o), (1, .int (iI k)), (2, .int (iI w9))]) hx hb dX4_cycles_157 hl (by decide) rfl (fun ls hl => ?_)
                      refine g_iinc (lv' := [(5, .int (iI (l9 + 1))), (6, .int (iI t9)), (4, .int (iI (s9 + (n9 * (O n9))))), (3, .int (iI (m9 + (O n9)))), (8, .int (iI n9)), (7, .int (iI (w9 - 50))), (0, .ref o), (1, .int (iI k)), (2, .int (iI w9))]) hx hb dX4_cycles_159 hl (k := 5) rfl (by decide) rfl (fun ls hl => ?_)
                      refine g_iinc (lv' := [(8, .int (iI (n9 + 1))), (5, .int (iI (l9 + 1))), (6, .int (iI t9)), (4, .int (iI (s9 + (n9 * (O n9))))), (3, .int (iI (m9 + (O n9)))), (7, .int (iI (w9 - 50))), (0, .ref o), (1, .int (iI k)), (2, .int (iI w9))]) hx hb dX4_cycles_162 hl (k := 4) rfl (by decide) rfl (fun ls hl => ?_)
                      refine lv_goto (tgt := 84) hx hb dX4_cycles_165 (by decide) ?_
                      exact ih_84 (m9 + (O n9)) (s9 + (n9 * (O n9))) (l9 + 1) t9 (n9 + 1) (by omega) (by omega) (by rw [show (n9 + 1 - 1).toNat = (n9 - 1).toNat + 1 by omega, lnL_y (O := O) (n := (n9 - 1).toNat) (x := n9) (by omega) (by omega), smL_app, ← hm9]) (by rw [show (n9 + 1 - 1).toNat = (n9 - 1).toNat + 1 by omega, lnL_y (O := O) (n := (n9 - 1).toNat) (x := n9) (by omega) (by omega), smL_app, ← hs9]) (by rw [show (n9 + 1 - 1).toNat = (n9 - 1).toNat + 1 by omega, lnL_y (O := O) (n := (n9 - 1).toNat) (x := n9) (by omega) (by omega), List.length_append, hl9]; simp) (by first | (exfalso; omega) | (rw [show (n9 + 1 - 1).toNat = (n9 - 1).toNat + 1 by omega, lnL_y (O := O) (n := (n9 - 1).toNat) (x := n9) (by omega) (by omega), tlA_app, if_neg (by omega)]; exact ht9))  _ _ _ hG hS (lv_sub hl [0, 5, 2, 1, 3, 4, 6, 7, 8] rfl)
                    · refine lv_iload_n hx hb dX4_cycles_134 rfl (lv_at hl 8 rfl) ?_
                      refine g_bipush hx hb dX4_cycles_135 (by decide) ?_
                      refine g_icmp_ge (tgt := 145) hx hb dX4_cycles_137 (by decide) (by omega) (by omega) (fun cq54 => ?_) (fun cq54 => by omega)
                      refine lv_aload_n hx hb dX4_cycles_145 rfl (lv_at hl 6 rfl) ?_
                      refine g_get (C := RX4) (T := TX4) (N := 30) (v := .ref (a 7)) hx hb hts hown hK hG hM42.o rfl in_X4 7 (by decide) q1965 rfl rfl dX4_cycles_146 ?_
                      refine lv_iload hx hb dX4_cycles_149 (lv_at hl 2 rfl) ?_
                      refine g_iald hx hb hK hG hM42.a7 dX4_cycles_151 (by omega) ?_
                      refine g_rw (b := (O n9)) (hO7 n9 (by omega) (by omega)) ?_
                      have ho55 := hOr n9
                      refine lv_goto (tgt := 157) hx hb dX4_cycles_152 (by decide) ?_
                      refine lv_istore (lv' := [(6, .int (iI (O n9))), (4, .int (iI (s9 + (n9 * (O n9))))), (3, .int (iI (m9 + (O n9)))), (8, .int (iI n9)), (7, .int (iI (w9 - 50))), (5, .int (iI l9)), (0, .ref o), (1, .int (iI k)), (2, .int (iI w9))]) hx hb dX4_cycles_157 hl (by decide) rfl (fun ls hl => ?_)
                      refine g_iinc (lv' := [(5, .int (iI (l9 + 1))), (6, .int (iI (O n9))), (4, .int (iI (s9 + (n9 * (O n9))))), (3, .int (iI (m9 + (O n9)))), (8, .int (iI n9)), (7, .int (iI (w9 - 50))), (0, .ref o), (1, .int (iI k)), (2, .int (iI w9))]) hx hb dX4_cycles_159 hl (k := 5) rfl (by decide) rfl (fun ls hl => ?_)
                      refine g_iinc (lv' := [(8, .int (iI (n9 + 1))), (5, .int (iI (l9 + 1))), (6, .int (iI (O n9))), (4, .int (iI (s9 + (n9 * (O n9))))), (3, .int (iI (m9 + (O n9)))), (7, .int (iI (w9 - 50))), (0, .ref o), (1, .int (iI k)), (2, .int (iI w9))]) hx hb dX4_cycles_162 hl (k := 4) rfl (by decide) rfl (fun ls hl => ?_)
                      refine lv_goto (tgt := 84) hx hb dX4_cycles_165 (by decide) ?_
                      exact ih_84 (m9 + (O n9)) (s9 + (n9 * (O n9))) (l9 + 1) (O n9) (n9 + 1) (by omega) (by omega) (by rw [show (n9 + 1 - 1).toNat = (n9 - 1).toNat + 1 by omega, lnL_y (O := O) (n := (n9 - 1).toNat) (x := n9) (by omega) (by omega), smL_app, ← hm9]) (by rw [show (n9 + 1 - 1).toNat = (n9 - 1).toNat + 1 by omega, lnL_y (O := O) (n := (n9 - 1).toNat) (x := n9) (by omega) (by omega), smL_app, ← hs9]) (by rw [show (n9 + 1 - 1).toNat = (n9 - 1).toNat + 1 by omega, lnL_y (O := O) (n := (n9 - 1).toNat) (x := n9) (by omega) (by omega), List.length_append, hl9]; simp) (by first | (exfalso; omega) | (rw [show (n9 + 1 - 1).toNat = (n9 - 1).toNat + 1 by omega, lnL_y (O := O) (n := (n9 - 1).toNat) (x := n9) (by omega) (by omega), tlA_app, if_pos (by omega)]; first | rw [if_pos (by omega)] | rw [if_neg (by omega)]))  _ _ _ hG hS (lv_sub hl [0, 5, 2, 1, 3, 4, 6, 7, 8] rfl)
            exact loop_84 _ 0 0 0 (-5) 1 (Nat.lt_succ_self _) (by omega) (rfl) (rfl) (rfl) (by unfold tlA; rw [if_neg (by show ¬ (_ ∧ _ < ((0 : Nat) : Int)); omega)])  _ _ _ hG hS (lv_sub hl [0, 1, 2, 3, 4, 5, 6, 7, 8] rfl)
          · refine lv_iload_n hx hb dX4_cycles_68 rfl (lv_at hl 6 rfl) ?_
            refine g_bipush hx hb dX4_cycles_69 (by decide) ?_
            refine g_isub hx hb dX4_cycles_71 ?_
            refine lv_goto (tgt := 79) hx hb dX4_cycles_72 (by decide) ?_
            refine lv_istore (lv' := [(7, .int (iI (w9 - 10))), (6, .int (iI (-5))), (5, .int (iI 0)), (4, .int (iI 0)), (3, .int (iI 0)), (0, .ref o), (1, .int (iI k)), (2, .int (iI w9))]) hx hb dX4_cycles_79 hl (by decide) rfl (fun ls hl => ?_)
            refine g_iconst hx hb dX4_cycles_81 ?_
            refine lv_istore (lv' := [(8, .int (iI 1)), (7, .int (iI (w9 - 10))), (6, .int (iI (-5))), (5, .int (iI 0)), (4, .int (iI 0)), (3, .int (iI 0)), (0, .ref o), (1, .int (iI k)), (2, .int (iI w9))]) hx hb dX4_cycles_82 hl (by decide) rfl (fun ls hl => ?_)
            have loop_84 : ∀ (nF : Nat) (m9 : Int) (s9 : Int) (l9 : Int) (t9 : Int) (n9 : Int), ((1025 - n9).toNat : Nat) < nF → (1 ≤ n9 ∧ n9 ≤ 1025) → (m9 = smL O (lnL O (n9 - 1).toNat)) → (s9 = smL (fun j => j * O j) (lnL O (n9 - 1).toNat)) → (l9 = ((lnL O (n9 - 1).toNat).length : Int)) → (t9 = tlA O (lnL O (n9 - 1).toNat) w9 (w9 - 10)) → ∀ (H : Heap) (locs : List Loc) (ls : Array Slot), gSat X σr42 H → va_S (gA X) ss.heap H locs → lv_has ls 9 [(8, .int (iI n9)), (7, .int (iI (w9 - 10))), (6, .int (iI t9)), (5, .int (iI l9)), (4, .int (iI s9)), (3, .int (iI m9)), (0, .ref o), (1, .int (iI k)), (2, .int (iI w9))] → W pp l ee (gR 7 0 0 173) ss mm args below meth cd H locs 0 0 Q (F0 mm 84 ls []) := by
              intro nF
              induction nF with
              | zero => intro m9 s9 l9 t9 n9 hm; exact absurd hm (Nat.not_lt_zero _)
              | succ nF ih_84 =>
                intro m9 s9 l9 t9 n9 hm hi84_0 hm9 hs9 hl9 ht9 H locs ls hG hS hl
                have hlen := lnL_len O (n9 - 1).toNat
                refine lv_iload hx hb dX4_cycles_84 (lv_at hl 0 rfl) ?_
                refine g_sipush hx hb dX4_cycles_86 (by decide) ?_
                refine g_icmp_gt (tgt := 168) hx hb dX4_cycles_89 (by decide) (by omega) (by omega) (fun cq56 => ?_) (fun cq56 => ?_)
                · refine lv_iload_n hx hb dX4_cycles_168 rfl (lv_at hl 8 rfl) ?_
                  refine g_if_ne (tgt := 176) hx hb dX4_cycles_169 (by decide) (by omega) (fun cq57 => ?_) (fun cq57 => ?_)
                  · refine lv_iload_n hx hb dX4_cycles_176 rfl (lv_at hl 8 rfl) ?_
                    refine g_iconst hx hb dX4_cycles_177 ?_
                    refine g_icmp_ne (tgt := 186) hx hb dX4_cycles_178 (by decide) (by omega) (by omega) (fun cq58 => ?_) (fun cq58 => ?_)
                    · refine lv_iload_n hx hb dX4_cycles_186 rfl (lv_at hl 8 rfl) ?_
                      refine g_iconst hx hb dX4_cycles_187 ?_
                      refine g_icmp_ne (tgt := 196) hx hb dX4_cycles_188 (by decide) (by omega) (by omega) (fun cq59 => ?_) (fun cq59 => ?_)
                      · refine lv_iload hx hb dX4_cycles_196 (lv_at hl 2 rfl) ?_
                        exact g_iret hx hb hr hlocks hQ hG hS (Nat.zero_le _) (Nat.zero_le _) ⟨_, rfl, V42, I42, hM42, hkp42, (⟨by rw [if_pos (by omega)]; unfold cycZ cycA; rw [← hO, show 1024 = (n9 - 1).toNat by omega]; first | (exfalso; omega) | (rw [if_neg (by omega), if_neg (by omega), if_neg (by omega), ht9]; unfold tlA; first | (by_cases hz : w9 - 10 < ((lnL O (n9 - 1).toNat).length : Int); (rw [if_pos (⟨by omega, hz⟩ : 0 ≤ w9 - 10 ∧ w9 - 10 < ((lnL O (n9 - 1).toNat).length : Int)), if_pos (show w9 < 50 by omega), if_pos (show w9 < 50 by omega), if_pos hz]); (rw [if_neg (fun h => hz h.2), if_pos (show w9 < 50 by omega), if_neg hz])) | (by_cases hz : w9 - 10 < ((lnL O (n9 - 1).toNat).length : Int); (rw [if_pos (⟨by omega, hz⟩ : 0 ≤ w9 - 10 ∧ w9 - 10 < ((lnL O (n9 - 1).toNat).length : Int)), if_neg (show ¬ w9 < 50 by omega), if_neg (show ¬ w9 < 50 by omega), if_pos hz]); (rw [if_neg (fun h => hz h.2), if_neg (show ¬ w9 < 50 by omega), if_neg hz]))), hrel42.1, hrel42.2.2⟩)⟩ dX4_cycles_198
                      · refine lv_iload hx hb dX4_cycles_191 (lv_at hl 3 rfl) ?_
                        refine lv_goto (tgt := 198) hx hb dX4_cycles_193 (by decide) ?_
                        exact g_iret hx hb hr hlocks hQ hG hS (Nat.zero_le _) (Nat.zero_le _) ⟨_, rfl, V42, I42, hM42, hkp42, (⟨by rw [if_pos (by omega)]; unfold cycZ cycA; rw [← hO, show 1024 = (n9 - 1).toNat by omega]; rw [if_neg (by omega), if_neg (by omega), if_pos (by omega)]; exact hl9, hrel42.1, hrel42.2.2⟩)⟩ dX4_cycles_198
                    · refine lv_iload hx hb dX4_cycles_181 (lv_at hl 4 rfl) ?_
                      refine lv_goto (tgt := 198) hx hb dX4_cycles_183 (by decide) ?_
                      exact g_iret hx hb hr hlocks hQ hG hS (Nat.zero_le _) (Nat.zero_le _) ⟨_, rfl, V42, I42, hM42, hkp42, (⟨by rw [if_pos (by omega)]; unfold cycZ cycA; rw [← hO, show 1024 = (n9 - 1).toNat by omega]; rw [if_neg (by omega), if_pos (by omega)]; exact hs9, hrel42.1, hrel42.2.2⟩)⟩ dX4_cycles_198
                  · refine lv_iload_n hx hb dX4_cycles_172 rfl (lv_at hl 5 rfl) ?_
                    refine lv_goto (tgt := 198) hx hb dX4_cycles_173 (by decide) ?_
                    exact g_iret hx hb hr hlocks hQ hG hS (Nat.zero_le _) (Nat.zero_le _) ⟨_, rfl, V42, I42, hM42, hkp42, (⟨by rw [if_pos (by omega)]; unfold cycZ cycA; rw [← hO, show 1024 = (n9 - 1).toNat by omega]; rw [if_pos (by omega)]; exact hm9, hrel42.1, hrel42.2.2⟩)⟩ dX4_cycles_198
                · refine lv_aload_n hx hb dX4_cycles_92 rfl (lv_at hl 6 rfl) ?_
                  refine g_get (C := RX4) (T := TX4) (N := 30) (v := .ref (a 7)) hx hb hts hown hK hG hM42.o rfl in_X4 7 (by decide) q1965 rfl rfl dX4_cycles_93 ?_
                  refine lv_iload hx hb dX4_cycles_96 (lv_at hl 0 rfl) ?_
                  refine g_iald hx hb hK hG hM42.a7 dX4_cycles_98 (by omega) ?_
                  refine g_rw (b := (O n9)) (hO7 n9 (by omega) (by omega)) ?_
                  have ho60 := hOr n9
                  refine g_if_le (tgt := 162) hx hb dX4_cycles_99 (by decide) (by omega) (fun cq61 => ?_) (fun cq61 => ?_)
                  · refine g_iinc (lv' := [(8, .int (iI (n9 + 1))), (7, .int (iI (w9 - 10))), (6, .int (iI t9)), (5, .int (iI l9)), (4, .int (iI s9)), (3, .int (iI m9)), (0, .ref o), (1, .int (iI k)), (2, .int (iI w9))]) hx hb dX4_cycles_162 hl (k := 0) rfl (by decide) rfl (fun ls hl => ?_)
                    refine lv_goto (tgt := 84) hx hb dX4_cycles_165 (by decide) ?_
                    exact ih_84 m9 s9 l9 t9 (n9 + 1) (by omega) (by omega) (by rw [show (n9 + 1 - 1).toNat = (n9 - 1).toNat + 1 by omega, lnL_n (O := O) (n := (n9 - 1).toNat) (x := n9) (by omega) (by omega)]; exact hm9) (by rw [show (n9 + 1 - 1).toNat = (n9 - 1).toNat + 1 by omega, lnL_n (O := O) (n := (n9 - 1).toNat) (x := n9) (by omega) (by omega)]; exact hs9) (by rw [show (n9 + 1 - 1).toNat = (n9 - 1).toNat + 1 by omega, lnL_n (O := O) (n := (n9 - 1).toNat) (x := n9) (by omega) (by omega)]; exact hl9) (by rw [show (n9 + 1 - 1).toNat = (n9 - 1).toNat + 1 by omega, lnL_n (O := O) (n := (n9 - 1).toNat) (x := n9) (by omega) (by omega)]; exact ht9)  _ _ _ hG hS (lv_sub hl [0, 1, 2, 3, 4, 5, 6, 7, 8] rfl)
                  · refine lv_iload_n hx hb dX4_cycles_102 rfl (lv_at hl 5 rfl) ?_
                    refine lv_aload_n hx hb dX4_cycles_103 rfl (lv_at hl 6 rfl) ?_
                    refine g_get (C := RX4) (T := TX4) (N := 30) (v := .ref (a 7)) hx hb hts hown hK hG hM42.o rfl in_X4 7 (by decide) q1965 rfl rfl dX4_cycles_104 ?_
                    refine lv_iload hx hb dX4_cycles_107 (lv_at hl 0 rfl) ?_
                    refine g_iald hx hb hK hG hM42.a7 dX4_cycles_109 (by omega) ?_
                    refine g_rw (b := (O n9)) (hO7 n9 (by omega) (by omega)) ?_
                    have ho62 := hOr n9
                    refine g_iadd hx hb dX4_cycles_110 ?_
                    refine lv_istore_n (lv' := [(3, .int (iI (m9 + (O n9)))), (8, .int (iI n9)), (7, .int (iI (w9 - 10))), (6, .int (iI t9)), (5, .int (iI l9)), (4, .int (iI s9)), (0, .ref o), (1, .int (iI k)), (2, .int (iI w9))]) hx hb dX4_cycles_111 rfl hl (by decide) rfl (fun ls hl => ?_)
                    refine lv_iload hx hb dX4_cycles_112 (lv_at hl 5 rfl) ?_
                    refine lv_iload hx hb dX4_cycles_114 (lv_at hl 1 rfl) ?_
                    refine lv_aload_n hx hb dX4_cycles_116 rfl (lv_at hl 6 rfl) ?_
                    refine g_get (C := RX4) (T := TX4) (N := 30) (v := .ref (a 7)) hx hb hts hown hK hG hM42.o rfl in_X4 7 (by decide) q1965 rfl rfl dX4_cycles_117 ?_
                    refine lv_iload hx hb dX4_cycles_120 (lv_at hl 1 rfl) ?_
                    refine g_iald hx hb hK hG hM42.a7 dX4_cycles_122 (by omega) ?_
                    refine g_rw (b := (O n9)) (hO7 n9 (by omega) (by omega)) ?_
                    have ho63 := hOr n9
                    refine g_imul hx hb dX4_cycles_123 ?_
                    refine g_iadd hx hb dX4_cycles_124 ?_
                    refine lv_istore (lv' := [(4, .int (iI (s9 + (n9 * (O n9))))), (3, .int (iI (m9 + (O n9)))), (8, .int (iI n9)), (7, .int (iI (w9 - 10))), (6, .int (iI t9)), (5, .int (iI l9)), (0, .ref o), (1, .int (iI k)), (2, .int (iI w9))]) hx hb dX4_cycles_125 hl (by decide) rfl (fun ls hl => ?_)
                    refine lv_iload hx hb dX4_cycles_127 (lv_at hl 5 rfl) ?_
                    refine lv_iload hx hb dX4_cycles_129 (lv_at hl 3 rfl) ?_
                    refine g_icmp_ne (tgt := 155) hx hb dX4_cycles_131 (by decide) (by omega) (by omega) (fun cq64 => ?_) (fun cq64 => ?_)
                    · refine lv_iload hx hb dX4_cycles_155 (lv_at hl 4 rfl) ?_
                      refine lv_istore (lv' := [(6, .int (iI t9)), (4, .int (iI (s9 + (n9 * (O n9))))), (3, .int (iI (m9 + (O n9)))), (8, .int (iI n9)), (7, .int (iI (w9 - 10))), (5, .int (iI l9)), (0, .ref o), (1, .int (iI k)), (2, .int (iI w9))]) hx hb dX4_cycles_157 hl (by decide) rfl (fun ls hl => ?_)
                      refine g_iinc (lv' := [(5, .int (iI (l9 + 1))), (6, .int (iI t9)), (4, .int (iI (s9 + (n9 * (O n9))))), (3, .int (iI (m9 + (O n9)))), (8, .int (iI n9)), (7, .int (iI (w9 - 10))), (0, .ref o), (1, .int (iI k)), (2, .int (iI w9))]) hx hb dX4_cycles_159 hl (k := 5) rfl (by decide) rfl (fun ls hl => ?_)
                      refine g_iinc (lv' := [(8, .int (iI (n9 + 1))), (5, .int (iI (l9 + 1))), (6, .int (iI t9)), (4, .int (iI (s9 + (n9 * (O n9))))), (3, .int (iI (m9 + (O n9)))), (7, .int (iI (w9 - 10))), (0, .ref o), (1, .int (iI k)), (2, .int (iI w9))]) hx hb dX4_cycles_162 hl (k := 4) rfl (by decide) rfl (fun ls hl => ?_)
                      refine lv_goto (tgt := 84) hx hb dX4_cycles_165 (by decide) ?_
                      exact ih_84 (m9 + (O n9)) (s9 + (n9 * (O n9))) (l9 + 1) t9 (n9 + 1) (by omega) (by omega) (by rw [show (n9 + 1 - 1).toNat = (n9 - 1).toNat + 1 by omega, lnL_y (O := O) (n := (n9 - 1).toNat) (x := n9) (by omega) (by omega), smL_app, ← hm9]) (by rw [show (n9 + 1 - 1).toNat = (n9 - 1).toNat + 1 by omega, lnL_y (O := O) (n := (n9 - 1).toNat) (x := n9) (by omega) (by omega), smL_app, ← hs9]) (by rw [show (n9 + 1 - 1).toNat = (n9 - 1).toNat + 1 by omega, lnL_y (O := O) (n := (n9 - 1).toNat) (x := n9) (by omega) (by omega), List.length_append, hl9]; simp) (by first | (exfalso; omega) | (rw [show (n9 + 1 - 1).toNat = (n9 - 1).toNat + 1 by omega, lnL_y (O := O) (n := (n9 - 1).toNat) (x := n9) (by omega) (by omega), tlA_app, if_neg (by omega)]; exact ht9))  _ _ _ hG hS (lv_sub hl [0, 5, 2, 1, 3, 4, 6, 7, 8] rfl)
                    · refine lv_iload_n hx hb dX4_cycles_134 rfl (lv_at hl 8 rfl) ?_
                      refine g_bipush hx hb dX4_cycles_135 (by decide) ?_
                      refine g_icmp_ge (tgt := 145) hx hb dX4_cycles_137 (by decide) (by omega) (by omega) (fun cq65 => by omega) (fun cq65 => ?_)
                      refine lv_iload hx hb dX4_cycles_140 (lv_at hl 2 rfl) ?_
                      refine lv_goto (tgt := 157) hx hb dX4_cycles_142 (by decide) ?_
                      refine lv_istore (lv' := [(6, .int (iI n9)), (4, .int (iI (s9 + (n9 * (O n9))))), (3, .int (iI (m9 + (O n9)))), (8, .int (iI n9)), (7, .int (iI (w9 - 10))), (5, .int (iI l9)), (0, .ref o), (1, .int (iI k)), (2, .int (iI w9))]) hx hb dX4_cycles_157 hl (by decide) rfl (fun ls hl => ?_)
                      refine g_iinc (lv' := [(5, .int (iI (l9 + 1))), (6, .int (iI n9)), (4, .int (iI (s9 + (n9 * (O n9))))), (3, .int (iI (m9 + (O n9)))), (8, .int (iI n9)), (7, .int (iI (w9 - 10))), (0, .ref o), (1, .int (iI k)), (2, .int (iI w9))]) hx hb dX4_cycles_159 hl (k := 5) rfl (by decide) rfl (fun ls hl => ?_)
                      refine g_iinc (lv' := [(8, .int (iI (n9 + 1))), (5, .int (iI (l9 + 1))), (6, .int (iI n9)), (4, .int (iI (s9 + (n9 * (O n9))))), (3, .int (iI (m9 + (O n9)))), (7, .int (iI (w9 - 10))), (0, .ref o), (1, .int (iI k)), (2, .int (iI w9))]) hx hb dX4_cycles_162 hl (k := 4) rfl (by decide) rfl (fun ls hl => ?_)
                      refine lv_goto (tgt := 84) hx hb dX4_cycles_165 (by decide) ?_
                      exact ih_84 (m9 + (O n9)) (s9 + (n9 * (O n9))) (l9 + 1) n9 (n9 + 1) (by omega) (by omega) (by rw [show (n9 + 1 - 1).toNat = (n9 - 1).toNat + 1 by omega, lnL_y (O := O) (n := (n9 - 1).toNat) (x := n9) (by omega) (by omega), smL_app, ← hm9]) (by rw [show (n9 + 1 - 1).toNat = (n9 - 1).toNat + 1 by omega, lnL_y (O := O) (n := (n9 - 1).toNat) (x := n9) (by omega) (by omega), smL_app, ← hs9]) (by rw [show (n9 + 1 - 1).toNat = (n9 - 1).toNat + 1 by omega, lnL_y (O := O) (n := (n9 - 1).toNat) (x := n9) (by omega) (by omega), List.length_append, hl9]; simp) (by first | (exfalso; omega) | (rw [show (n9 + 1 - 1).toNat = (n9 - 1).toNat + 1 by omega, lnL_y (O := O) (n := (n9 - 1).toNat) (x := n9) (by omega) (by omega), tlA_app, if_pos (by omega)]; first | rw [if_pos (by omega)] | rw [if_neg (by omega)]))  _ _ _ hG hS (lv_sub hl [0, 5, 2, 1, 3, 4, 6, 7, 8] rfl)
            exact loop_84 _ 0 0 0 (-5) 1 (Nat.lt_succ_self _) (by omega) (rfl) (rfl) (rfl) (by unfold tlA; rw [if_neg (by show ¬ (_ ∧ _ < ((0 : Nat) : Int)); omega)])  _ _ _ hG hS (lv_sub hl [0, 1, 2, 3, 4, 5, 6, 7, 8] rfl)
        · refine g_iconst hx hb dX4_cycles_58 ?_
          refine lv_goto (tgt := 79) hx hb dX4_cycles_59 (by decide) ?_
          refine lv_istore (lv' := [(7, .int (iI (-1))), (6, .int (iI (-5))), (5, .int (iI 0)), (4, .int (iI 0)), (3, .int (iI 0)), (0, .ref o), (1, .int (iI k)), (2, .int (iI w9))]) hx hb dX4_cycles_79 hl (by decide) rfl (fun ls hl => ?_)
          refine g_iconst hx hb dX4_cycles_81 ?_
          refine lv_istore (lv' := [(8, .int (iI 1)), (7, .int (iI (-1))), (6, .int (iI (-5))), (5, .int (iI 0)), (4, .int (iI 0)), (3, .int (iI 0)), (0, .ref o), (1, .int (iI k)), (2, .int (iI w9))]) hx hb dX4_cycles_82 hl (by decide) rfl (fun ls hl => ?_)
          have loop_84 : ∀ (nF : Nat) (m9 : Int) (s9 : Int) (l9 : Int) (t9 : Int) (n9 : Int), ((1025 - n9).toNat : Nat) < nF → (1 ≤ n9 ∧ n9 ≤ 1025) → (m9 = smL O (lnL O (n9 - 1).toNat)) → (s9 = smL (fun j => j * O j) (lnL O (n9 - 1).toNat)) → (l9 = ((lnL O (n9 - 1).toNat).length : Int)) → (t9 = tlA O (lnL O (n9 - 1).toNat) w9 (-1)) → ∀ (H : Heap) (locs : List Loc) (ls : Array Slot), gSat X σr42 H → va_S (gA X) ss.heap H locs → lv_has ls 9 [(8, .int (iI n9)), (7, .int (iI (-1))), (6, .int (iI t9)), (5, .int (iI l9)), (4, .int (iI s9)), (3, .int (iI m9)), (0, .ref o), (1, .int (iI k)), (2, .int (iI w9))] → W pp l ee (gR 7 0 0 173) ss mm args below meth cd H locs 0 0 Q (F0 mm 84 ls []) := by
            intro nF
            induction nF with
            | zero => intro m9 s9 l9 t9 n9 hm; exact absurd hm (Nat.not_lt_zero _)
            | succ nF ih_84 =>
              intro m9 s9 l9 t9 n9 hm hi84_0 hm9 hs9 hl9 ht9 H locs ls hG hS hl
              have hlen := lnL_len O (n9 - 1).toNat
              refine lv_iload hx hb dX4_cycles_84 (lv_at hl 0 rfl) ?_
              refine g_sipush hx hb dX4_cycles_86 (by decide) ?_
              refine g_icmp_gt (tgt := 168) hx hb dX4_cycles_89 (by decide) (by omega) (by omega) (fun cq66 => ?_) (fun cq66 => ?_)
              · refine lv_iload_n hx hb dX4_cycles_168 rfl (lv_at hl 8 rfl) ?_
                refine g_if_ne (tgt := 176) hx hb dX4_cycles_169 (by decide) (by omega) (fun cq67 => ?_) (fun cq67 => ?_)
                · refine lv_iload_n hx hb dX4_cycles_176 rfl (lv_at hl 8 rfl) ?_
                  refine g_iconst hx hb dX4_cycles_177 ?_
                  refine g_icmp_ne (tgt := 186) hx hb dX4_cycles_178 (by decide) (by omega) (by omega) (fun cq68 => ?_) (fun cq68 => ?_)
                  · refine lv_iload_n hx hb dX4_cycles_186 rfl (lv_at hl 8 rfl) ?_
                    refine g_iconst hx hb dX4_cycles_187 ?_
                    refine g_icmp_ne (tgt := 196) hx hb dX4_cycles_188 (by decide) (by omega) (by omega) (fun cq69 => ?_) (fun cq69 => ?_)
                    · refine lv_iload hx hb dX4_cycles_196 (lv_at hl 2 rfl) ?_
                      exact g_iret hx hb hr hlocks hQ hG hS (Nat.zero_le _) (Nat.zero_le _) ⟨_, rfl, V42, I42, hM42, hkp42, (⟨by rw [if_pos (by omega)]; unfold cycZ cycA; rw [← hO, show 1024 = (n9 - 1).toNat by omega]; first | (exfalso; omega) | (rw [if_neg (by omega), if_neg (by omega), if_neg (by omega), ht9]; unfold tlA; first | (by_cases hz : -1 < ((lnL O (n9 - 1).toNat).length : Int); (rw [if_pos (⟨by omega, hz⟩ : 0 ≤ -1 ∧ -1 < ((lnL O (n9 - 1).toNat).length : Int)), if_pos (show w9 < 50 by omega), if_pos (show w9 < 50 by omega), if_pos hz]); (rw [if_neg (fun h => hz h.2), if_pos (show w9 < 50 by omega), if_neg hz])) | (by_cases hz : -1 < ((lnL O (n9 - 1).toNat).length : Int); (rw [if_pos (⟨by omega, hz⟩ : 0 ≤ -1 ∧ -1 < ((lnL O (n9 - 1).toNat).length : Int)), if_neg (show ¬ w9 < 50 by omega), if_neg (show ¬ w9 < 50 by omega), if_pos hz]); (rw [if_neg (fun h => hz h.2), if_neg (show ¬ w9 < 50 by omega), if_neg hz]))), hrel42.1, hrel42.2.2⟩)⟩ dX4_cycles_198
                    · refine lv_iload hx hb dX4_cycles_191 (lv_at hl 3 rfl) ?_
                      refine lv_goto (tgt := 198) hx hb dX4_cycles_193 (by decide) ?_
                      exact g_iret hx hb hr hlocks hQ hG hS (Nat.zero_le _) (Nat.zero_le _) ⟨_, rfl, V42, I42, hM42, hkp42, (⟨by rw [if_pos (by omega)]; unfold cycZ cycA; rw [← hO, show 1024 = (n9 - 1).toNat by omega]; rw [if_neg (by omega), if_neg (by omega), if_pos (by omega)]; exact hl9, hrel42.1, hrel42.2.2⟩)⟩ dX4_cycles_198
                  · refine lv_iload hx hb dX4_cycles_181 (lv_at hl 4 rfl) ?_
                    refine lv_goto (tgt := 198) hx hb dX4_cycles_183 (by decide) ?_
                    exact g_iret hx hb hr hlocks hQ hG hS (Nat.zero_le _) (Nat.zero_le _) ⟨_, rfl, V42, I42, hM42, hkp42, (⟨by rw [if_pos (by omega)]; unfold cycZ cycA; rw [← hO, show 1024 = (n9 - 1).toNat by omega]; rw [if_neg (by omega), if_pos (by omega)]; exact hs9, hrel42.1, hrel42.2.2⟩)⟩ dX4_cycles_198
                · refine lv_iload_n hx hb dX4_cycles_172 rfl (lv_at hl 5 rfl) ?_
                  refine lv_goto (tgt := 198) hx hb dX4_cycles_173 (by decide) ?_
                  exact g_iret hx hb hr hlocks hQ hG hS (Nat.zero_le _) (Nat.zero_le _) ⟨_, rfl, V42, I42, hM42, hkp42, (⟨by rw [if_pos (by omega)]; unfold cycZ cycA; rw [← hO, show 1024 = (n9 - 1).toNat by omega]; rw [if_pos (by omega)]; exact hm9, hrel42.1, hrel42.2.2⟩)⟩ dX4_cycles_198
              · refine lv_aload_n hx hb dX4_cycles_92 rfl (lv_at hl 6 rfl) ?_
                refine g_get (C := RX4) (T := TX4) (N := 30) (v := .ref (a 7)) hx hb hts hown hK hG hM42.o rfl in_X4 7 (by decide) q1965 rfl rfl dX4_cycles_93 ?_
                refine lv_iload hx hb dX4_cycles_96 (lv_at hl 0 rfl) ?_
                refine g_iald hx hb hK hG hM42.a7 dX4_cycles_98 (by omega) ?_
                refine g_rw (b := (O n9)) (hO7 n9 (by omega) (by omega)) ?_
                have ho70 := hOr n9
                refine g_if_le (tgt := 162) hx hb dX4_cycles_99 (by decide) (by omega) (fun cq71 => ?_) (fun cq71 => ?_)
                · refine g_iinc (lv' := [(8, .int (iI (n9 + 1))), (7, .int (iI (-1))), (6, .int (iI t9)), (5, .int (iI l9)), (4, .int (iI s9)), (3, .int (iI m9)), (0, .ref o), (1, .int (iI k)), (2, .int (iI w9))]) hx hb dX4_cycles_162 hl (k := 0) rfl (by decide) rfl (fun ls hl => ?_)
                  refine lv_goto (tgt := 84) hx hb dX4_cycles_165 (by decide) ?_
                  exact ih_84 m9 s9 l9 t9 (n9 + 1) (by omega) (by omega) (by rw [show (n9 + 1 - 1).toNat = (n9 - 1).toNat + 1 by omega, lnL_n (O := O) (n := (n9 - 1).toNat) (x := n9) (by omega) (by omega)]; exact hm9) (by rw [show (n9 + 1 - 1).toNat = (n9 - 1).toNat + 1 by omega, lnL_n (O := O) (n := (n9 - 1).toNat) (x := n9) (by omega) (by omega)]; exact hs9) (by rw [show (n9 + 1 - 1).toNat = (n9 - 1).toNat + 1 by omega, lnL_n (O := O) (n := (n9 - 1).toNat) (x := n9) (by omega) (by omega)]; exact hl9) (by rw [show (n9 + 1 - 1).toNat = (n9 - 1).toNat + 1 by omega, lnL_n (O := O) (n := (n9 - 1).toNat) (x := n9) (by omega) (by omega)]; exact ht9)  _ _ _ hG hS (lv_sub hl [0, 1, 2, 3, 4, 5, 6, 7, 8] rfl)
                · refine lv_iload_n hx hb dX4_cycles_102 rfl (lv_at hl 5 rfl) ?_
                  refine lv_aload_n hx hb dX4_cycles_103 rfl (lv_at hl 6 rfl) ?_
                  refine g_get (C := RX4) (T := TX4) (N := 30) (v := .ref (a 7)) hx hb hts hown hK hG hM42.o rfl in_X4 7 (by decide) q1965 rfl rfl dX4_cycles_104 ?_
                  refine lv_iload hx hb dX4_cycles_107 (lv_at hl 0 rfl) ?_
                  refine g_iald hx hb hK hG hM42.a7 dX4_cycles_109 (by omega) ?_
                  refine g_rw (b := (O n9)) (hO7 n9 (by omega) (by omega)) ?_
                  have ho72 := hOr n9
                  refine g_iadd hx hb dX4_cycles_110 ?_
                  refine lv_istore_n (lv' := [(3, .int (iI (m9 + (O n9)))), (8, .int (iI n9)), (7, .int (iI (-1))), (6, .int (iI t9)), (5, .int (iI l9)), (4, .int (iI s9)), (0, .ref o), (1, .int (iI k)), (2, .int (iI w9))]) hx hb dX4_cycles_111 rfl hl (by decide) rfl (fun ls hl => ?_)
                  refine lv_iload hx hb dX4_cycles_112 (lv_at hl 5 rfl) ?_
                  refine lv_iload hx hb dX4_cycles_114 (lv_at hl 1 rfl) ?_
                  refine lv_aload_n hx hb dX4_cycles_116 rfl (lv_at hl 6 rfl) ?_
                  refine g_get (C := RX4) (T := TX4) (N := 30) (v := .ref (a 7)) hx hb hts hown hK hG hM42.o rfl in_X4 7 (by decide) q1965 rfl rfl dX4_cycles_117 ?_
                  refine lv_iload hx hb dX4_cycles_120 (lv_at hl 1 rfl) ?_
                  refine g_iald hx hb hK hG hM42.a7 dX4_cycles_122 (by omega) ?_
                  refine g_rw (b := (O n9)) (hO7 n9 (by omega) (by omega)) ?_
                  have ho73 := hOr n9
                  refine g_imul hx hb dX4_cycles_123 ?_
                  refine g_iadd hx hb dX4_cycles_124 ?_
                  refine lv_istore (lv' := [(4, .int (iI (s9 + (n9 * (O n9))))), (3, .int (iI (m9 + (O n9)))), (8, .int (iI n9)), (7, .int (iI (-1))), (6, .int (iI t9)), (5, .int (iI l9)), (0, .ref o), (1, .int (iI k)), (2, .int (iI w9))]) hx hb dX4_cycles_125 hl (by decide) rfl (fun ls hl => ?_)
                  refine lv_iload hx hb dX4_cycles_127 (lv_at hl 5 rfl) ?_
                  refine lv_iload hx hb dX4_cycles_129 (lv_at hl 3 rfl) ?_
                  refine g_icmp_ne (tgt := 155) hx hb dX4_cycles_131 (by decide) (by omega) (by omega) (fun cq74 => ?_) (fun cq74 => ?_)
                  · refine lv_iload hx hb dX4_cycles_155 (lv_at hl 4 rfl) ?_
                    refine lv_istore (lv' := [(6, .int (iI t9)), (4, .int (iI (s9 + (n9 * (O n9))))), (3, .int (iI (m9 + (O n9)))), (8, .int (iI n9)), (7, .int (iI (-1))), (5, .int (iI l9)), (0, .ref o), (1, .int (iI k)), (2, .int (iI w9))]) hx hb dX4_cycles_157 hl (by decide) rfl (fun ls hl => ?_)
                    refine g_iinc (lv' := [(5, .int (iI (l9 + 1))), (6, .int (iI t9)), (4, .int (iI (s9 + (n9 * (O n9))))), (3, .int (iI (m9 + (O n9)))), (8, .int (iI n9)), (7, .int (iI (-1))), (0, .ref o), (1, .int (iI k)), (2, .int (iI w9))]) hx hb dX4_cycles_159 hl (k := 5) rfl (by decide) rfl (fun ls hl => ?_)
                    refine g_iinc (lv' := [(8, .int (iI (n9 + 1))), (5, .int (iI (l9 + 1))), (6, .int (iI t9)), (4, .int (iI (s9 + (n9 * (O n9))))), (3, .int (iI (m9 + (O n9)))), (7, .int (iI (-1))), (0, .ref o), (1, .int (iI k)), (2, .int (iI w9))]) hx hb dX4_cycles_162 hl (k := 4) rfl (by decide) rfl (fun ls hl => ?_)
                    refine lv_goto (tgt := 84) hx hb dX4_cycles_165 (by decide) ?_
                    exact ih_84 (m9 + (O n9)) (s9 + (n9 * (O n9))) (l9 + 1) t9 (n9 + 1) (by omega) (by omega) (by rw [show (n9 + 1 - 1).toNat = (n9 - 1).toNat + 1 by omega, lnL_y (O := O) (n := (n9 - 1).toNat) (x := n9) (by omega) (by omega), smL_app, ← hm9]) (by rw [show (n9 + 1 - 1).toNat = (n9 - 1).toNat + 1 by omega, lnL_y (O := O) (n := (n9 - 1).toNat) (x := n9) (by omega) (by omega), smL_app, ← hs9]) (by rw [show (n9 + 1 - 1).toNat = (n9 - 1).toNat + 1 by omega, lnL_y (O := O) (n := (n9 - 1).toNat) (x := n9) (by omega) (by omega), List.length_append, hl9]; simp) (by first | (exfalso; omega) | (rw [show (n9 + 1 - 1).toNat = (n9 - 1).toNat + 1 by omega, lnL_y (O := O) (n := (n9 - 1).toNat) (x := n9) (by omega) (by omega), tlA_app, if_neg (by omega)]; exact ht9))  _ _ _ hG hS (lv_sub hl [0, 5, 2, 1, 3, 4, 6, 7, 8] rfl)
                  · refine lv_iload_n hx hb dX4_cycles_134 rfl (lv_at hl 8 rfl) ?_
                    refine g_bipush hx hb dX4_cycles_135 (by decide) ?_
                    refine g_icmp_ge (tgt := 145) hx hb dX4_cycles_137 (by decide) (by omega) (by omega) (fun cq75 => ?_) (fun cq75 => ?_)
                    · refine lv_aload_n hx hb dX4_cycles_145 rfl (lv_at hl 6 rfl) ?_
                      refine g_get (C := RX4) (T := TX4) (N := 30) (v := .ref (a 7)) hx hb hts hown hK hG hM42.o rfl in_X4 7 (by decide) q1965 rfl rfl dX4_cycles_146 ?_
                      refine lv_iload hx hb dX4_cycles_149 (lv_at hl 2 rfl) ?_
                      refine g_iald hx hb hK hG hM42.a7 dX4_cycles_151 (by omega) ?_
                      refine g_rw (b := (O n9)) (hO7 n9 (by omega) (by omega)) ?_
                      have ho76 := hOr n9
                      refine lv_goto (tgt := 157) hx hb dX4_cycles_152 (by decide) ?_
                      refine lv_istore (lv' := [(6, .int (iI (O n9))), (4, .int (iI (s9 + (n9 * (O n9))))), (3, .int (iI (m9 + (O n9)))), (8, .int (iI n9)), (7, .int (iI (-1))), (5, .int (iI l9)), (0, .ref o), (1, .int (iI k)), (2, .int (iI w9))]) hx hb dX4_cycles_157 hl (by decide) rfl (fun ls hl => ?_)
                      refine g_iinc (lv' := [(5, .int (iI (l9 + 1))), (6, .int (iI (O n9))), (4, .int (iI (s9 + (n9 * (O n9))))), (3, .int (iI (m9 + (O n9)))), (8, .int (iI n9)), (7, .int (iI (-1))), (0, .ref o), (1, .int (iI k)), (2, .int (iI w9))]) hx hb dX4_cycles_159 hl (k := 5) rfl (by decide) rfl (fun ls hl => ?_)
                      refine g_iinc (lv' := [(8, .int (iI (n9 + 1))), (5, .int (iI (l9 + 1))), (6, .int (iI (O n9))), (4, .int (iI (s9 + (n9 * (O n9))))), (3, .int (iI (m9 + (O n9)))), (7, .int (iI (-1))), (0, .ref o), (1, .int (iI k)), (2, .int (iI w9))]) hx hb dX4_cycles_162 hl (k := 4) rfl (by decide) rfl (fun ls hl => ?_)
                      refine lv_goto (tgt := 84) hx hb dX4_cycles_165 (by decide) ?_
                      exact ih_84 (m9 + (O n9)) (s9 + (n9 * (O n9))) (l9 + 1) (O n9) (n9 + 1) (by omega) (by omega) (by rw [show (n9 + 1 - 1).toNat = (n9 - 1).toNat + 1 by omega, lnL_y (O := O) (n := (n9 - 1).toNat) (x := n9) (by omega) (by omega), smL_app, ← hm9]) (by rw [show (n9 + 1 - 1).toNat = (n9 - 1).toNat + 1 by omega, lnL_y (O := O) (n := (n9 - 1).toNat) (x := n9) (by omega) (by omega), smL_app, ← hs9]) (by rw [show (n9 + 1 - 1).toNat = (n9 - 1).toNat + 1 by omega, lnL_y (O := O) (n := (n9 - 1).toNat) (x := n9) (by omega) (by omega), List.length_append, hl9]; simp) (by first | (exfalso; omega) | (rw [show (n9 + 1 - 1).toNat = (n9 - 1).toNat + 1 by omega, lnL_y (O := O) (n := (n9 - 1).toNat) (x := n9) (by omega) (by omega), tlA_app, if_pos (by omega)]; first | rw [if_pos (by omega)] | rw [if_neg (by omega)]))  _ _ _ hG hS (lv_sub hl [0, 5, 2, 1, 3, 4, 6, 7, 8] rfl)
                    · refine lv_iload hx hb dX4_cycles_140 (lv_at hl 2 rfl) ?_
                      refine lv_goto (tgt := 157) hx hb dX4_cycles_142 (by decide) ?_
                      refine lv_istore (lv' := [(6, .int (iI n9)), (4, .int (iI (s9 + (n9 * (O n9))))), (3, .int (iI (m9 + (O n9)))), (8, .int (iI n9)), (7, .int (iI (-1))), (5, .int (iI l9)), (0, .ref o), (1, .int (iI k)), (2, .int (iI w9))]) hx hb dX4_cycles_157 hl (by decide) rfl (fun ls hl => ?_)
                      refine g_iinc (lv' := [(5, .int (iI (l9 + 1))), (6, .int (iI n9)), (4, .int (iI (s9 + (n9 * (O n9))))), (3, .int (iI (m9 + (O n9)))), (8, .int (iI n9)), (7, .int (iI (-1))), (0, .ref o), (1, .int (iI k)), (2, .int (iI w9))]) hx hb dX4_cycles_159 hl (k := 5) rfl (by decide) rfl (fun ls hl => ?_)
                      refine g_iinc (lv' := [(8, .int (iI (n9 + 1))), (5, .int (iI (l9 + 1))), (6, .int (iI n9)), (4, .int (iI (s9 + (n9 * (O n9))))), (3, .int (iI (m9 + (O n9)))), (7, .int (iI (-1))), (0, .ref o), (1, .int (iI k)), (2, .int (iI w9))]) hx hb dX4_cycles_162 hl (k := 4) rfl (by decide) rfl (fun ls hl => ?_)
                      refine lv_goto (tgt := 84) hx hb dX4_cycles_165 (by decide) ?_
                      exact ih_84 (m9 + (O n9)) (s9 + (n9 * (O n9))) (l9 + 1) n9 (n9 + 1) (by omega) (by omega) (by rw [show (n9 + 1 - 1).toNat = (n9 - 1).toNat + 1 by omega, lnL_y (O := O) (n := (n9 - 1).toNat) (x := n9) (by omega) (by omega), smL_app, ← hm9]) (by rw [show (n9 + 1 - 1).toNat = (n9 - 1).toNat + 1 by omega, lnL_y (O := O) (n := (n9 - 1).toNat) (x := n9) (by omega) (by omega), smL_app, ← hs9]) (by rw [show (n9 + 1 - 1).toNat = (n9 - 1).toNat + 1 by omega, lnL_y (O := O) (n := (n9 - 1).toNat) (x := n9) (by omega) (by omega), List.length_append, hl9]; simp) (by first | (exfalso; omega) | (rw [show (n9 + 1 - 1).toNat = (n9 - 1).toNat + 1 by omega, lnL_y (O := O) (n := (n9 - 1).toNat) (x := n9) (by omega) (by omega), tlA_app, if_pos (by omega)]; first | rw [if_pos (by omega)] | rw [if_neg (by omega)]))  _ _ _ hG hS (lv_sub hl [0, 5, 2, 1, 3, 4, 6, 7, 8] rfl)
          exact loop_84 _ 0 0 0 (-5) 1 (Nat.lt_succ_self _) (by omega) (rfl) (rfl) (rfl) (by unfold tlA; rw [if_neg (by show ¬ (_ ∧ _ < ((0 : Nat) : Int)); omega)])  _ _ _ hG hS (lv_sub hl [0, 1, 2, 3, 4, 5, 6, 7, 8] rfl)
      · refine g_iconst hx hb dX4_cycles_33 ?_
        exact g_iret hx hb hr hlocks hQ hG hS (Nat.zero_le _) (Nat.zero_le _) ⟨_, rfl, V, Iv, hM, hkp, (⟨by rw [if_neg (by omega)], fun q h1 h2 h3 h4 => rfl, rfl⟩)⟩ dX4_cycles_34
