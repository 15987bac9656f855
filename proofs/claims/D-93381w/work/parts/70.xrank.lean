abbrev wsX80 : List Cond := u_ws RX8 TX8 0
def tyX8 : Nat → FieldType := fun _ => .int
theorem tyX8_ok : ∀ k, k < 0 → parseFieldDescriptor (TX8 k).2.2.1 = some (tyX8 k) := fun k h => absurd h (Nat.not_lt_zero _)
theorem in_X8 : ∀ w ∈ wsX80, w ∈ lw_all := lw_in wsX80 [] (by decide +kernel) (by decide +kernel)

set_option maxHeartbeats 8000000 in
theorem mX0_rank (l : Launch) (X : gX) (σ : gS) (b : Nat → Nat) (U : Nat → Int → Int) (J : Nat → Int) (R : Int → Option Nat) (hX : XW X σ b U J R) (hT : okT (U 20)) (i : Int)  (h0 : -2147483648 ≤ i ∧ i ≤ 2147483647) : gMet l X yX0_rank cX0_rank 8 (some .int) 7 40 140 3100 σ [.ref (b 0), .int (iI i)] (oI (fun r σ' => gKeep (fun t => t = 9 ∨ t = 20 ∨ t = 21 ∨ t = 22 ∨ t = 23 ∨ t = 24) σ σ' ∧ ((¬ (0 ≤ i ∧ i ≤ 31) ∧ r = -1) ∨ (0 ≤ i ∧ i ≤ 31) ∧ (0 ≤ r ∧ r ≤ 31) ∧ ahA (szZ (U 20)) r 32 = i))) := by
  refine gMet.ofN (by decide) (Nat.le_of_ble_eq_true rfl) ?_
  intro pp ee ss mm args below meth cd Q H locs ls hargs hx hb hr hlocks hml hown hnm hts hK hG hS hQ hl hnd
  have hown : ss.vm.findClass RX0 = some mm.cls := hown
  have hl : lv_has ls 8 [(0, .ref (b 0)), (1, .int (iI i))] := hl
  have hkp : gKeep (fun t => t = 9 ∨ t = 20 ∨ t = 21 ∨ t = 22 ∨ t = 23 ∨ t = 24) σ σ := gKeep.rf
  refine lv_iload_n hx hb dX0_rank_0 rfl (lv_at hl 1 rfl) ?_
  refine g_callS (As := [.int (iI i)]) (rest := []) 1 hx hb hml hown hts hK hG hS hl.1 (mX0_isCoordinate l X σ  i (by omega)) q594 q595 q69 q596 (by decide +kernel) rfl ⟨Nat.le_of_ble_eq_true rfl, Nat.le_of_ble_eq_true rfl⟩ ⟨Nat.le_of_ble_eq_true rfl, Nat.le_of_ble_eq_true rfl⟩ (Nat.le_of_ble_eq_true rfl) dX0_rank_1 (kI (fun r1 σr1 H locs hp hG hS => ?_))
  obtain ⟨hr1, rfl⟩ := hp
  refine g_if_ne (tgt := 9) hx hb dX0_rank_4 (by decide) (by omega) (fun cq2 => ?_) (fun cq2 => ?_)
  · refine g_bipush hx hb dX0_rank_9 (by decide) ?_
    refine g_anew 24 8 32 hx hb hown hts hK hG hS q679 q680 rfl rfl (by decide) (Nat.le_of_ble_eq_true rfl) (Nat.le_of_ble_eq_true rfl) dX0_rank_11 (fun aa H hzaa hG hS => ?_)
    have hX_3 : XW X (gup σ aa (24, gV (X.2.1 8) 32 (fun _ => none))) b U J R := hX.keep (gKeep.new hzaa : gKeep (fun _ => False) σ (gup σ aa (24, gV (X.2.1 8) 32 (fun _ => none)))) (by first | decide | omega | (intro q9; dsimp only at q9; omega))
    have hAA_3 : (gup σ aa (24, gV (X.2.1 8) 32 (fun _ => none))) aa = some (24, gV (X.2.1 8) 32 (fun _ => none)) := gup_s
    have hkp3 : gKeep (fun t => t = 9 ∨ t = 20 ∨ t = 21 ∨ t = 22 ∨ t = 23 ∨ t = 24) σ (gup σ aa (24, gV (X.2.1 8) 32 (fun _ => none))) := hkp.tr ((gKeep.new hzaa : gKeep (fun _ => False) σ (gup σ aa (24, gV (X.2.1 8) 32 (fun _ => none)))).mono (fun t h => h.elim))
    generalize (gup σ aa (24, gV (X.2.1 8) 32 (fun _ => none))) = σ3 at hG hX_3 hAA_3 hkp3
    refine lv_astore_n (lv' := [(2, .ref aa), (0, .ref (b 0)), (1, .int (iI i))]) hx hb dX0_rank_14 rfl hl (by decide) rfl (fun ls hl => ?_)
    have hln1 : [Value.ref aa].length = 1 := rfl
    have hFP0 : FPW σ3 0 (fun _ => 0) := fun a h0 h1 => absurd h1 (by omega)
    refine g_iconst hx hb dX0_rank_15 ?_
    refine lv_istore_n (lv' := [(3, .int (iI 0)), (2, .ref aa), (0, .ref (b 0)), (1, .int (iI i))]) hx hb dX0_rank_16 rfl hl (by decide) rfl (fun ls hl => ?_)
    have loop_17 : ∀ (nF : Nat) (σL : gS) (i9 : Int) (fa : Int → Nat) (gr9 : Int → Option Nat) (cN : Nat) (sN : Nat), ((32 - i9).toNat : Nat) < nF → (gKeep (fun t => t = 9 ∨ t = 20 ∨ t = 21 ∨ t = 22 ∨ t = 23 ∨ t = 24) σ σL) → (XW X σL b U J R) → (σL aa = some (24, gV (X.2.1 8) 32 gr9)) → (FPW σL i9 fa) → (0 ≤ i9 ∧ i9 ≤ 32) → (∀ a : Int, 0 ≤ a → a < i9 → gr9 a = some (fa a)) → (cN ≤ 1 + i9.toNat ∧ sN ≤ 32 + 2 * i9.toNat) → ∀ (H : Heap) (locs : List Loc) (ls : Array Slot), gSat X σL H → va_S (gA X) ss.heap H locs → lv_has ls 8 [(3, .int (iI i9)), (2, .ref aa), (0, .ref (b 0)), (1, .int (iI i))] → W pp l ee (gR 7 40 140 3100) ss mm args below meth cd H locs cN sN Q (F0 mm 17 ls []) := by
      intro nF
      induction nF with
      | zero => intro σL i9 fa gr9 cN sN hm; exact absurd hm (Nat.not_lt_zero _)
      | succ nF ih_17 =>
        intro σL i9 fa gr9 cN sN hm hkL hXL hAAL hFPL hi17_4 hga hcs H locs ls hG hS hl
        refine lv_iload_n hx hb dX0_rank_17 rfl (lv_at hl 0 rfl) ?_
        refine g_bipush hx hb dX0_rank_18 (by decide) ?_
        refine g_icmp_ge (tgt := 40) hx hb dX0_rank_20 (by decide) (by omega) (by omega) (fun cq4 => ?_) (fun cq4 => ?_)
        · have hG0 := hFPL.W (by omega) (U 20)
          have hgA : ∀ a : Int, 0 ≤ a → a < 32 → gr9 a = some (fa a) := fun a h0 h1 => hga a h0 (by omega)
          refine lv_aload_n hx hb dX0_rank_40 rfl (lv_at hl 2 rfl) ?_
          refine lv_aload_n hx hb dX0_rank_41 rfl (lv_at hl 1 rfl) ?_
          refine g_lmk (k := 9) (vs := [.ref aa]) (rest := [.ref (b 0)]) 9 hx hb hml hts hK hG hS hl.1 (by decide) hnd rfl rfl lfi_9 lse_9 lla_9 lco_9 lfl_9 (by decide) lty_9 rfl rfl (fun i t v h1 h2 => by
                        match i, h1, h2 with
                        | 0, h1, h2 => cases h1; cases h2; rfl
                        | n + 1, h1, _ => cases h1) (Nat.le_of_ble_eq_true rfl) (by first | exact Nat.le_of_ble_eq_true rfl | omega | (show _ ≤ 40; omega)) (by first | exact Nat.le_of_ble_eq_true rfl | (show _ + 1 ≤ _; omega) | (show _ + 1 ≤ 140; omega)) (Nat.le_of_ble_eq_true rfl) dX0_rank_42 (fun lq5 H hqlq5 hG hS => ?_)
          have hLlq5 : (gup σL lq5 (9, gL 9 [.ref aa])) lq5 = some (9, gL 9 [.ref aa]) := gup_s
          have hX_6 : XW X (gup σL lq5 (9, gL 9 [.ref aa])) b U J R := hXL.keep (gKeep.new hqlq5 : gKeep (fun _ => False) σL (gup σL lq5 (9, gL 9 [.ref aa]))) (by first | decide | omega | (intro q9; dsimp only at q9; omega))
          have hAA_6 : (gup σL lq5 (9, gL 9 [.ref aa])) aa = some (24, gV (X.2.1 8) 32 gr9) := (gKeep.new hqlq5 : gKeep (fun _ => False) σL (gup σL lq5 (9, gL 9 [.ref aa]))) _ _ _ hAAL (by first | decide | omega | (intro q9; dsimp only at q9; omega))
          have hG_6 : FW (gup σL lq5 (9, gL 9 [.ref aa])) (fcZ (U 20) 0) fa := hG0.keep (gKeep.new hqlq5 : gKeep (fun _ => False) σL (gup σL lq5 (9, gL 9 [.ref aa]))) (by first | decide | omega | (intro q9; dsimp only at q9; omega))
          have hkp6 : gKeep (fun t => t = 9 ∨ t = 20 ∨ t = 21 ∨ t = 22 ∨ t = 23 ∨ t = 24) σ (gup σL lq5 (9, gL 9 [.ref aa])) := hkL.tr (gKeep.new hqlq5)
          generalize (gup σL lq5 (9, gL 9 [.ref aa])) = σ6 at hG hLlq5 hX_6 hAA_6 hG_6 hkp6
          refine g_callV (As := [.ref lq5]) (rest := []) 1 hx hb hml hown hts hK hG hS hl.1 (mX0_goesThrough_9 l X σ6 b U J R hX_6 hT aa gr9 hAA_6 fa hG_6 lq5 hgA hLlq5) hX_6.c0 rfl q659 q661 qs23 q69 q662 (by decide +kernel) rfl ⟨Nat.le_of_ble_eq_true rfl, Nat.le_of_ble_eq_true rfl⟩ ⟨by show _ ≤ 40; omega, by show _ ≤ 140; omega⟩ (Nat.le_of_ble_eq_true rfl) dX0_rank_47 (kV (fun σr7 H locs hp hG hS => ?_))
          obtain ⟨kq8, hG_8⟩ := hp
          have hX_9 : XW X σr7 b U J R := hX_6.keep kq8 (by first | decide | omega | (intro q9; dsimp only at q9; omega))
          have hAA_9 : σr7 aa = some (24, gV (X.2.1 8) 32 gr9) := kq8 _ _ _ hAA_6 (by first | decide | omega | (intro q9; dsimp only at q9; omega))
          have hLc9_0 := kq8 _ _ _ hLlq5 (by first | decide | omega | (intro q9; dsimp only at q9; omega))
          have hkp9 : gKeep (fun t => t = 9 ∨ t = 20 ∨ t = 21 ∨ t = 22 ∨ t = 23 ∨ t = 24) σ σr7 := hkp6.tr (kq8.mono (fun t (h : t = 22) => (by show t = 9 ∨ t = 20 ∨ t = 21 ∨ t = 22 ∨ t = 23 ∨ t = 24; omega)))
          refine g_new (ci := 16) (C := RJ14) (T := TJ14) (N := 4) (ty := tyJ14) (fs := [.null, .int (iI 0), .null, .int (iI 0)]) hx hb 20 hts hown hK hG hS rfl in_J14 tyJ14_ok q698 q699 q92 (fun j hj => match j, hj with | 0, _ => rfl | 1, _ => rfl | 2, _ => rfl | 3, _ => rfl | k9 + 4, h => absurd h (by omega)) (by show _ ≤ 40; omega) (by show _ ≤ 140; omega) dX0_rank_50 (fun pq H hzpq hG hS => ?_)
          have hLpq : (gup σr7 pq (20, gO 16 [.null, .int (iI 0), .null, .int (iI 0)])) pq = some (20, gO 16 [.null, .int (iI 0), .null, .int (iI 0)]) := gup_s
          have hLf10_0 := (gKeep.new hzpq : gKeep (fun _ => False) σr7 (gup σr7 pq (20, gO 16 [.null, .int (iI 0), .null, .int (iI 0)]))) _ _ _ hLc9_0 (fun h => h)
          have hX_n10 : XW X (gup σr7 pq (20, gO 16 [.null, .int (iI 0), .null, .int (iI 0)])) b U J R := hX_9.keep (gKeep.new hzpq : gKeep (fun _ => False) σr7 (gup σr7 pq (20, gO 16 [.null, .int (iI 0), .null, .int (iI 0)]))) (by first | decide | omega | (intro q9; dsimp only at q9; omega))
          have hAA_n10 : (gup σr7 pq (20, gO 16 [.null, .int (iI 0), .null, .int (iI 0)])) aa = some (24, gV (X.2.1 8) 32 gr9) := (gKeep.new hzpq : gKeep (fun _ => False) σr7 (gup σr7 pq (20, gO 16 [.null, .int (iI 0), .null, .int (iI 0)]))) _ _ _ hAA_9 (by first | decide | omega | (intro q9; dsimp only at q9; omega))
          have hG_n10 : FW (gup σr7 pq (20, gO 16 [.null, .int (iI 0), .null, .int (iI 0)])) (fcZ (U 20) 1024) fa := hG_8.keep (gKeep.new hzpq : gKeep (fun _ => False) σr7 (gup σr7 pq (20, gO 16 [.null, .int (iI 0), .null, .int (iI 0)]))) (by first | decide | omega | (intro q9; dsimp only at q9; omega))
          have hkp_n10 : gKeep (fun t => t = 9 ∨ t = 20 ∨ t = 21 ∨ t = 22 ∨ t = 23 ∨ t = 24) σ (gup σr7 pq (20, gO 16 [.null, .int (iI 0), .null, .int (iI 0)])) := hkp9.tr (gKeep.new hzpq)
          generalize hgen10 : (gup σr7 pq (20, gO 16 [.null, .int (iI 0), .null, .int (iI 0)])) = σ10 at hG hLpq hLf10_0 hX_n10 hAA_n10 hG_n10 hkp_n10
          refine lv_dup hx hb dX0_rank_53 rfl ?_
          refine g_bipush hx hb dX0_rank_54 (by decide) ?_
          refine g_new (ci := 8) (C := RX8) (T := TX8) (N := 0) (ty := tyX8) (fs := []) hx hb 23 hts hown hK hG hS rfl in_X8 tyX8_ok q700 q701 q93 (fun j hj => match j, hj with  | k9 + 0, h => absurd h (by omega)) (by show _ ≤ 40; omega) (by show _ ≤ 140; omega) dX0_rank_56 (fun cp H hzcp hG hS => ?_)
          have hLcp : (gup σ10 cp (23, gO 8 [])) cp = some (23, gO 8 []) := gup_s
          have hLf11_0 := (gKeep.new hzcp : gKeep (fun _ => False) σ10 (gup σ10 cp (23, gO 8 []))) _ _ _ hLf10_0 (fun h => h)
          have hLf11_1 := (gKeep.new hzcp : gKeep (fun _ => False) σ10 (gup σ10 cp (23, gO 8 []))) _ _ _ hLpq (fun h => h)
          have hX_n11 : XW X (gup σ10 cp (23, gO 8 [])) b U J R := hX_n10.keep (gKeep.new hzcp : gKeep (fun _ => False) σ10 (gup σ10 cp (23, gO 8 []))) (by first | decide | omega | (intro q9; dsimp only at q9; omega))
          have hAA_n11 : (gup σ10 cp (23, gO 8 [])) aa = some (24, gV (X.2.1 8) 32 gr9) := (gKeep.new hzcp : gKeep (fun _ => False) σ10 (gup σ10 cp (23, gO 8 []))) _ _ _ hAA_n10 (by first | decide | omega | (intro q9; dsimp only at q9; omega))
          have hG_n11 : FW (gup σ10 cp (23, gO 8 [])) (fcZ (U 20) 1024) fa := hG_n10.keep (gKeep.new hzcp : gKeep (fun _ => False) σ10 (gup σ10 cp (23, gO 8 []))) (by first | decide | omega | (intro q9; dsimp only at q9; omega))
          have hkp_n11 : gKeep (fun t => t = 9 ∨ t = 20 ∨ t = 21 ∨ t = 22 ∨ t = 23 ∨ t = 24) σ (gup σ10 cp (23, gO 8 [])) := hkp_n10.tr (gKeep.new hzcp)
          generalize hgen11 : (gup σ10 cp (23, gO 8 [])) = σ11 at hG hLcp hLf11_0 hLf11_1 hX_n11 hAA_n11 hG_n11 hkp_n11
          refine lv_dup hx hb dX0_rank_59 rfl ?_
          refine g_callIN (As := []) (rest := [.ref cp, .int (iI 32), .ref pq, .ref pq]) 0 hx hb hml hown hts hK hG hS hl.1 (mX8_init l X σ11 cp _ hLcp) q702 q703 q93 q704 rfl (by decide +kernel) rfl ⟨Nat.le_of_ble_eq_true rfl, Nat.le_of_ble_eq_true rfl⟩ ⟨by show _ ≤ 40; omega, by show _ ≤ 140; omega⟩ (Nat.le_of_ble_eq_true rfl) dX0_rank_60 (kV (fun σr12 H locs hp hG hS => ?_))
          have hp : σr12 = (gup σ11 cp (23, gO 8 [])) := hp
          have hL13 : σr12 cp = some (23, gO 8 []) := by rw [hp]; exact gup_s
          have hp13 : σr12 = (gup σ10 cp (23, gO 8 [])) := by rw [hp, ← hgen11, gup_gup]
          have hLg13_0 := (gKeep.new hzcp : gKeep (fun _ => False) σ10 (gup σ10 cp (23, gO 8 []))) _ _ _ hLf10_0 (fun h => h)
          rw [← hp13] at hLg13_0
          have hLg13_1 := (gKeep.new hzcp : gKeep (fun _ => False) σ10 (gup σ10 cp (23, gO 8 []))) _ _ _ hLpq (fun h => h)
          rw [← hp13] at hLg13_1
          have hX_f13 : XW X σr12 b U J R := by rw [hp13]; exact hX_n10.keep (gKeep.new hzcp : gKeep (fun _ => False) _ _) (fun h => h)
          have hAA_f13 : σr12 aa = some (24, gV (X.2.1 8) 32 gr9) := by rw [hp13]; exact (gKeep.new hzcp : gKeep (fun _ => False) _ _) _ _ _ hAA_n10 (fun h => h)
          have hG_f13 : FW σr12 (fcZ (U 20) 1024) fa := by rw [hp13]; exact hG_n10.keep (gKeep.new hzcp : gKeep (fun _ => False) _ _) (fun h => h)
          have hkp_f13 : gKeep (fun t => t = 9 ∨ t = 20 ∨ t = 21 ∨ t = 22 ∨ t = 23 ∨ t = 24) σ σr12 := by rw [hp13]; exact hkp_n10.tr (gKeep.new hzcp)
          refine g_callI (As := [.int (iI 32), .ref cp]) (rest := [.ref pq]) 2 hx hb hml hown hts hK hG hS hl.1 (mJ14_init l X σr12 cp hL13 pq hLg13_1) q707 q708 q92 q709 rfl (by decide +kernel) rfl ⟨Nat.le_of_ble_eq_true rfl, Nat.le_of_ble_eq_true rfl⟩ ⟨by show _ ≤ 40; omega, by show _ ≤ 140; omega⟩ (Nat.le_of_ble_eq_true rfl) dX0_rank_63 (kV (fun σr14 H locs hp hG hS => ?_))
          obtain ⟨kq15, qa, hP_15, hQ_15⟩ := hp
          have hX_16 : XW X σr14 b U J R := hX_f13.keep kq15 (by first | decide | omega | (intro q9; dsimp only at q9; omega))
          have hAA_16 : σr14 aa = some (24, gV (X.2.1 8) 32 gr9) := kq15 _ _ _ hAA_f13 (by first | decide | omega | (intro q9; dsimp only at q9; omega))
          have hG_16 : FW σr14 (fcZ (U 20) 1024) fa := hG_f13.keep kq15 (by first | decide | omega | (intro q9; dsimp only at q9; omega))
          have hLc16_0 := kq15 _ _ _ hLg13_0 (by first | decide | omega | (intro q9; dsimp only at q9; omega))
          have hLc16_1 := kq15 _ _ _ hL13 (by first | decide | omega | (intro q9; dsimp only at q9; omega))
          have hkp16 : gKeep (fun t => t = 9 ∨ t = 20 ∨ t = 21 ∨ t = 22 ∨ t = 23 ∨ t = 24) σ σr14 := hkp_f13.tr (kq15.mono (fun t (h : t = 20 ∨ t = 21) => (by show t = 9 ∨ t = 20 ∨ t = 21 ∨ t = 22 ∨ t = 23 ∨ t = 24; omega)))
          refine lv_astore_n (lv' := [(3, .ref pq), (2, .ref aa), (0, .ref (b 0)), (1, .int (iI i))]) hx hb dX0_rank_66 rfl hl (by decide) rfl (fun ls hl => ?_)
          obtain ⟨S, hS9d⟩ : ∃ z : Int → Int, z = fcZ (U 20) 1024 := ⟨_, rfl⟩
          have hFs : FW σr14 S fa := by rw [hS9d]; exact hG_16
          have hS9 : ∀ a, 0 ≤ S a ∧ S a ≤ 1024 := fun a => by have := fcZ_r (U 20) 1024 a; rw [hS9d]; omega
          refine lv_aload_n hx hb dX0_rank_67 rfl (lv_at hl 1 rfl) ?_
          refine lv_astore (lv' := [(4, .ref aa), (3, .ref pq), (2, .ref aa), (0, .ref (b 0)), (1, .int (iI i))]) hx hb dX0_rank_68 hl (by decide) rfl (fun ls hl => ?_)
          refine lv_aload hx hb dX0_rank_70 (lv_at hl 0 rfl) ?_
          refine g_alen (n := 32) hx hb 8 hK hG hAA_16 rfl rfl dX0_rank_72 ?_
          refine g_rw (b := 32) rfl ?_
          refine lv_istore (lv' := [(5, .int (iI 32)), (4, .ref aa), (3, .ref pq), (2, .ref aa), (0, .ref (b 0)), (1, .int (iI i))]) hx hb dX0_rank_73 hl (by decide) rfl (fun ls hl => ?_)
          refine g_iconst hx hb dX0_rank_75 ?_
          refine lv_istore (lv' := [(6, .int (iI 0)), (5, .int (iI 32)), (4, .ref aa), (3, .ref pq), (2, .ref aa), (0, .ref (b 0)), (1, .int (iI i))]) hx hb dX0_rank_76 hl (by decide) rfl (fun ls hl => ?_)
          have loop_78 : ∀ (nF : Nat) (σB : gS) (n9 : Nat) (f9 : Nat → Int) (g9 : Int → Option Nat), (32 - n9 : Nat) < nF → (gKeep (fun t => t = 9 ∨ t = 20 ∨ t = 21 ∨ t = 22 ∨ t = 23 ∨ t = 24) σ σB) → (XW X σB b U J R) → (σB aa = some (24, gV (X.2.1 8) 32 gr9)) → (FW σB S fa) → (σB cp = some (23, gO 8 [])) → (σB pq = some (20, gO 16 [.ref qa, .int (iI (n9 : Int)), .ref cp, .int (iI (n9 : Int))])) → (σB qa = some (21, gV (X.2.1 9) 32 g9)) → (n9 ≤ 32) → (∀ i : Nat, i < n9 → g9 (i : Int) = some (fa (f9 i))) → (hOk S n9 f9) → (hInj n9 f9) → (∀ v, inQ n9 f9 v ↔ 0 ≤ v ∧ v < (n9 : Int)) → ∀ (H : Heap) (locs : List Loc) (ls : Array Slot), gSat X σB H → va_S (gA X) ss.heap H locs → lv_has ls 8 [(6, .int (iI (n9 : Int))), (5, .int (iI 32)), (4, .ref aa), (3, .ref pq), (2, .ref aa), (0, .ref (b 0)), (1, .int (iI i))] → W pp l ee (gR 7 40 140 3100) ss mm args below meth cd H locs (cN + 1 + 1 + 1 + 1) (sN + 1 + 4 + 32) Q (F0 mm 78 ls []) := by
            intro nF
            induction nF with
            | zero => intro σB n9 f9 g9 hm; exact absurd hm (Nat.not_lt_zero _)
            | succ nF ih_78 =>
              intro σB n9 f9 g9 hm hkB hXB hAAB hFB hKB hPB hQB hn9 hg9 hO9 hI9 hin9 H locs ls hG hS hl
              refine lv_iload hx hb dX0_rank_78 (lv_at hl 0 rfl) ?_
              refine lv_iload hx hb dX0_rank_80 (lv_at hl 1 rfl) ?_
              refine g_icmp_ge (tgt := 105) hx hb dX0_rank_82 (by decide) (by omega) (by omega) (fun cq17 => ?_) (fun cq17 => ?_)
              · have hn32 : n9 = 32 := by omega
                have hQ0 : rkQ S n9 f9 := by subst hn32; exact rkQ.first hO9 hI9 hin9
                refine g_iconst hx hb dX0_rank_105 ?_
                refine lv_istore (lv' := [(4, .int (iI 0)), (6, .int (iI (n9 : Int))), (5, .int (iI 32)), (3, .ref pq), (2, .ref aa), (0, .ref (b 0)), (1, .int (iI i))]) hx hb dX0_rank_106 hl (by decide) rfl (fun ls hl => ?_)
                have loop_108 : ∀ (nF : Nat) (σC : gS) (j9 : Int) (m9 : Nat) (q9 : Int) (f8 : Nat → Int) (g8 : Int → Option Nat), ((i - j9).toNat : Nat) < nF → (gKeep (fun t => t = 9 ∨ t = 20 ∨ t = 21 ∨ t = 22 ∨ t = 23 ∨ t = 24) σ σC) → (XW X σC b U J R) → (σC aa = some (24, gV (X.2.1 8) 32 gr9)) → (FW σC S fa) → (σC cp = some (23, gO 8 [])) → (σC pq = some (20, gO 16 [.ref qa, .int (iI (m9 : Int)), .ref cp, .int (iI q9)])) → (σC qa = some (21, gV (X.2.1 9) 32 g8)) → (0 ≤ j9 ∧ j9 ≤ i) → ((m9 : Int) = 32 - j9) → (q9 = 32 + j9) → (∀ i : Nat, i < m9 → g8 (i : Int) = some (fa (f8 i))) → (rkQ S m9 f8) → ∀ (H : Heap) (locs : List Loc) (ls : Array Slot), gSat X σC H → va_S (gA X) ss.heap H locs → lv_has ls 8 [(4, .int (iI j9)), (6, .int (iI (n9 : Int))), (5, .int (iI 32)), (3, .ref pq), (2, .ref aa), (0, .ref (b 0)), (1, .int (iI i))] → W pp l ee (gR 7 40 140 3100) ss mm args below meth cd H locs (cN + 1 + 1 + 1 + 1) (sN + 1 + 4 + 32) Q (F0 mm 108 ls []) := by
                  intro nF
                  induction nF with
                  | zero => intro σC j9 m9 q9 f8 g8 hm; exact absurd hm (Nat.not_lt_zero _)
                  | succ nF ih_108 =>
                    intro σC j9 m9 q9 f8 g8 hm hkC hXC hAAC hFC hKC hPC hQC hi108_7 hi108_8 hi108_9 hg8 hQ8 H locs ls hG hS hl
                    refine lv_iload hx hb dX0_rank_108 (lv_at hl 0 rfl) ?_
                    refine lv_iload_n hx hb dX0_rank_110 rfl (lv_at hl 6 rfl) ?_
                    refine g_icmp_ge (tgt := 125) hx hb dX0_rank_111 (by decide) (by omega) (by omega) (fun cq18 => ?_) (fun cq18 => ?_)
                    · obtain ⟨m, rfl⟩ : ∃ m, m9 = m + 1 := ⟨m9 - 1, by omega⟩
                      have hr00 := hQ8.rng (f8 0) ⟨0, by omega, rfl⟩
                      refine lv_aload_n hx hb dX0_rank_125 rfl (lv_at hl 3 rfl) ?_
                      refine g_callU (As := []) (rest := []) 0 hx hb hml hown hts hK hG hS hl.1 (mJ13_remove l X σC S fa hS9 hFC qa g8 hQC cp hKC pq ((m + 1 : Nat) : Int) q9 hPC m f8 (by omega) (by omega) (by omega) hQ8.inj hQ8.rng hg8 hQ8.ok) hPC rfl q1075 q1076 q1078 q1079 q91 q1079 q1080 rfl (by decide +kernel) rfl ⟨Nat.le_of_ble_eq_true rfl, Nat.le_of_ble_eq_true rfl⟩ ⟨by show _ ≤ 40; omega, by show _ ≤ 140; omega⟩ (Nat.le_of_ble_eq_true rfl) dX0_rank_126 (kA (fun r19 σr19 H locs hp hG hS => ?_))
                      obtain ⟨kq20, rfl, f20, g20, hP_20, hQ_20, hg20, hO20, hI20, hin20⟩ := hp
                      have hX_21 : XW X σr19 b U J R := hXC.keep kq20 (by first | decide | omega | (intro q9; dsimp only at q9; omega))
                      have hAA_21 : σr19 aa = some (24, gV (X.2.1 8) 32 gr9) := kq20 _ _ _ hAAC (by first | decide | omega | (intro q9; dsimp only at q9; omega))
                      have hK_21 : σr19 cp = some (23, gO 8 []) := kq20 _ _ _ hKC (by first | decide | omega | (intro q9; dsimp only at q9; omega))
                      have hF_21 : FW σr19 S fa := hFC.keep kq20 (by first | decide | omega | (intro q9; dsimp only at q9; omega))
                      have hkp21 : gKeep (fun t => t = 9 ∨ t = 20 ∨ t = 21 ∨ t = 22 ∨ t = 23 ∨ t = 24) σ σr19 := hkC.tr (kq20.mono (fun t (h : t = 20 ∨ t = 21) => (by show t = 9 ∨ t = 20 ∨ t = 21 ∨ t = 22 ∨ t = 23 ∨ t = 24; omega)))
                      refine g_castS hx hb hts hown hK hG (hF_21 (f8 0) (by omega) (by omega)) rfl q679 dX0_rank_129 ?_
                      refine g_getN (C := RX7) (T := TX7) (N := 2) (v := .int (iI (f8 0))) hx hb hts hown hK hG (hF_21 (f8 0) (by omega) (by omega)) rfl in_X7 0 (by decide) q688 rfl rfl dX0_rank_132 ?_
                      exact g_iret hx hb hr hlocks hQ hG hS (by show _ ≤ 40; omega) (by show _ ≤ 140; omega) ⟨_, rfl, hkp21, (Or.inr ⟨by omega, by omega, by have e := hQ8.rank; rw [hS9d] at e; show ahA (fcZ (U 20) 1024) _ _ = _; rw [e]; omega⟩)⟩ dX0_rank_135
                    · obtain ⟨m, rfl⟩ : ∃ m, m9 = m + 1 := ⟨m9 - 1, by omega⟩
                      have hr00 := hQ8.rng (f8 0) ⟨0, by omega, rfl⟩
                      refine lv_aload_n hx hb dX0_rank_114 rfl (lv_at hl 3 rfl) ?_
                      refine g_callU (As := []) (rest := []) 0 hx hb hml hown hts hK hG hS hl.1 (mJ13_remove l X σC S fa hS9 hFC qa g8 hQC cp hKC pq ((m + 1 : Nat) : Int) q9 hPC m f8 (by omega) (by omega) (by omega) hQ8.inj hQ8.rng hg8 hQ8.ok) hPC rfl q1075 q1076 q1078 q1079 q91 q1079 q1080 rfl (by decide +kernel) rfl ⟨Nat.le_of_ble_eq_true rfl, Nat.le_of_ble_eq_true rfl⟩ ⟨by show _ ≤ 40; omega, by show _ ≤ 140; omega⟩ (Nat.le_of_ble_eq_true rfl) dX0_rank_115 (kA (fun r22 σr22 H locs hp hG hS => ?_))
                      obtain ⟨kq23, rfl, f23, g23, hP_23, hQ_23, hg23, hO23, hI23, hin23⟩ := hp
                      have hX_24 : XW X σr22 b U J R := hXC.keep kq23 (by first | decide | omega | (intro q9; dsimp only at q9; omega))
                      have hAA_24 : σr22 aa = some (24, gV (X.2.1 8) 32 gr9) := kq23 _ _ _ hAAC (by first | decide | omega | (intro q9; dsimp only at q9; omega))
                      have hK_24 : σr22 cp = some (23, gO 8 []) := kq23 _ _ _ hKC (by first | decide | omega | (intro q9; dsimp only at q9; omega))
                      have hF_24 : FW σr22 S fa := hFC.keep kq23 (by first | decide | omega | (intro q9; dsimp only at q9; omega))
                      have hkp24 : gKeep (fun t => t = 9 ∨ t = 20 ∨ t = 21 ∨ t = 22 ∨ t = 23 ∨ t = 24) σ σr22 := hkC.tr (kq23.mono (fun t (h : t = 20 ∨ t = 21) => (by show t = 9 ∨ t = 20 ∨ t = 21 ∨ t = 22 ∨ t = 23 ∨ t = 24; omega)))
                      refine lv_pop hx hb dX0_rank_118 rfl ?_
                      refine g_iinc (lv' := [(4, .int (iI (j9 + 1))), (6, .int (iI (n9 : Int))), (5, .int (iI 32)), (3, .ref pq), (2, .ref aa), (0, .ref (b 0)), (1, .int (iI i))]) hx hb dX0_rank_119 hl (k := 0) rfl (by decide) rfl (fun ls hl => ?_)
                      refine lv_goto (tgt := 108) hx hb dX0_rank_122 (by decide) ?_
                      exact ih_108 σr22 (j9 + 1) m (q9 + 1) f23 g23 (by omega) (hkp24) (hX_24) (hAA_24) (hF_24) (hK_24) (hP_23) (hQ_23) (by omega) (by omega) (by omega) (hg23) (hQ8.next hO23 hI23 hin23)  _ _ _ hG hS (lv_sub hl [0, 1, 2, 3, 4, 5, 6] rfl)
                exact loop_108 _ σB 0 n9 (n9 : Int) f9 g9 (Nat.lt_succ_self _) (hkB) (hXB) (hAAB) (hFB) (hKB) (hPB) (hQB) (by omega) (by omega) (by omega) (hg9) (hQ0)  _ _ _ hG hS (lv_sub hl [0, 1, 2, 3, 4, 5, 6] rfl)
              · refine lv_aload hx hb dX0_rank_85 (lv_at hl 2 rfl) ?_
                refine lv_iload hx hb dX0_rank_87 (lv_at hl 0 rfl) ?_
                refine g_aald (v := .ref (fa (n9 : Int))) hx hb 8 hK hG hAAB rfl dX0_rank_89 (by omega) (by rw [hgA (n9 : Int) (by omega) (by omega)]; rfl) ?_
                refine lv_astore (lv' := [(7, .ref (fa (n9 : Int))), (6, .int (iI (n9 : Int))), (5, .int (iI 32)), (4, .ref aa), (3, .ref pq), (2, .ref aa), (0, .ref (b 0)), (1, .int (iI i))]) hx hb dX0_rank_90 hl (by decide) rfl (fun ls hl => ?_)
                refine lv_aload_n hx hb dX0_rank_92 rfl (lv_at hl 4 rfl) ?_
                refine lv_aload hx hb dX0_rank_93 (lv_at hl 0 rfl) ?_
                refine g_callV (As := [.ref (fa (n9 : Int))]) (rest := []) 1 hx hb hml hown hts hK hG hS hl.1 (mJ14_add l X σB S fa hS9 hFB qa g9 hQB cp hKB pq (n9 : Int) (n9 : Int) hPB n9 f9 (n9 : Int) (by omega) rfl (by omega) (by omega) hI9 (fun q => by have := (hin9 _).mp q; omega) (fun v q => by have := (hin9 v).mp q; omega) hg9 hO9) hPB rfl q729 q730 q731 q92 q732 (by decide +kernel) rfl ⟨Nat.le_of_ble_eq_true rfl, Nat.le_of_ble_eq_true rfl⟩ ⟨by show _ ≤ 40; omega, by show _ ≤ 140; omega⟩ (Nat.le_of_ble_eq_true rfl) dX0_rank_95 (kI (fun r25 σr25 H locs hp hG hS => ?_))
                obtain ⟨kq26, rfl, f26, g26, hP_26, hQ_26, hg26, hO26, hI26, hin26⟩ := hp
                have hX_27 : XW X σr25 b U J R := hXB.keep kq26 (by first | decide | omega | (intro q9; dsimp only at q9; omega))
                have hAA_27 : σr25 aa = some (24, gV (X.2.1 8) 32 gr9) := kq26 _ _ _ hAAB (by first | decide | omega | (intro q9; dsimp only at q9; omega))
                have hK_27 : σr25 cp = some (23, gO 8 []) := kq26 _ _ _ hKB (by first | decide | omega | (intro q9; dsimp only at q9; omega))
                have hF_27 : FW σr25 S fa := hFB.keep kq26 (by first | decide | omega | (intro q9; dsimp only at q9; omega))
                have hkp27 : gKeep (fun t => t = 9 ∨ t = 20 ∨ t = 21 ∨ t = 22 ∨ t = 23 ∨ t = 24) σ σr25 := hkB.tr (kq26.mono (fun t (h : t = 20 ∨ t = 21) => (by show t = 9 ∨ t = 20 ∨ t = 21 ∨ t = 22 ∨ t = 23 ∨ t = 24; omega)))
                refine lv_pop hx hb dX0_rank_98 rfl ?_
                refine g_iinc (lv' := [(6, .int (iI ((n9 : Int) + 1))), (7, .ref (fa (n9 : Int))), (5, .int (iI 32)), (4, .ref aa), (3, .ref pq), (2, .ref aa), (0, .ref (b 0)), (1, .int (iI i))]) hx hb dX0_rank_99 hl (k := 1) rfl (by decide) rfl (fun ls hl => ?_)
                refine lv_goto (tgt := 78) hx hb dX0_rank_102 (by decide) ?_
                exact ih_78 σr25 (n9 + 1) f26 g26 (by omega) (hkp27) (hX_27) (hAA_27) (hF_27) (hK_27) (hP_26) (hQ_26) (by omega) (hg26) (hO26) (hI26) (fun v => (hin26 v).trans (by rw [hin9 v]; omega))  _ _ _ hG hS (lv_sub hl [0, 2, 3, 4, 5, 6, 7] rfl)
          exact loop_78 _ σr14 0 (fun _ => 0) (fun _ => none) (Nat.lt_succ_self _) (hkp16) (hX_16) (hAA_16) (hFs) (hLc16_1) (hP_15) (hQ_15) (by omega) (fun i h => absurd h (Nat.not_lt_zero _)) (fun i h0 h => absurd h (Nat.not_lt_zero _)) (fun i j h => absurd h (Nat.not_lt_zero _)) (fun v => ⟨fun ⟨i, h, _⟩ => absurd h (Nat.not_lt_zero _), fun h => absurd h (by omega)⟩)  _ _ _ hG hS (lv_sub hl [0, 1, 2, 3, 4, 5, 6] rfl)
        · refine lv_aload_n hx hb dX0_rank_23 rfl (lv_at hl 1 rfl) ?_
          refine lv_iload_n hx hb dX0_rank_24 rfl (lv_at hl 0 rfl) ?_
          refine g_new (ci := 7) (C := RX7) (T := TX7) (N := 2) (ty := tyX7) (fs := [.int (iI 0), .int (iI 0)]) hx hb 22 hts hown hK hG hS rfl in_X7 tyX7_ok q679 q681 q90 (fun j hj => match j, hj with | 0, _ => rfl | 1, _ => rfl | k9 + 2, h => absurd h (by omega)) (by show _ ≤ 40; omega) (by show _ ≤ 140; omega) dX0_rank_25 (fun fz H hzfz hG hS => ?_)
          have hLfz : (gup σL fz (22, gO 7 [.int (iI 0), .int (iI 0)])) fz = some (22, gO 7 [.int (iI 0), .int (iI 0)]) := gup_s
          have hX_n28 : XW X (gup σL fz (22, gO 7 [.int (iI 0), .int (iI 0)])) b U J R := hXL.keep (gKeep.new hzfz : gKeep (fun _ => False) σL (gup σL fz (22, gO 7 [.int (iI 0), .int (iI 0)]))) (by first | decide | omega | (intro q9; dsimp only at q9; omega))
          have hAA_n28 : (gup σL fz (22, gO 7 [.int (iI 0), .int (iI 0)])) aa = some (24, gV (X.2.1 8) 32 gr9) := (gKeep.new hzfz : gKeep (fun _ => False) σL (gup σL fz (22, gO 7 [.int (iI 0), .int (iI 0)]))) _ _ _ hAAL (by first | decide | omega | (intro q9; dsimp only at q9; omega))
          have hFP_n28 : FPW (gup σL fz (22, gO 7 [.int (iI 0), .int (iI 0)])) i9 fa := hFPL.keep (gKeep.new hzfz : gKeep (fun _ => False) σL (gup σL fz (22, gO 7 [.int (iI 0), .int (iI 0)]))) (by first | decide | omega | (intro q9; dsimp only at q9; omega))
          have hkp_n28 : gKeep (fun t => t = 9 ∨ t = 20 ∨ t = 21 ∨ t = 22 ∨ t = 23 ∨ t = 24) σ (gup σL fz (22, gO 7 [.int (iI 0), .int (iI 0)])) := hkL.tr (gKeep.new hzfz)
          generalize hgen28 : (gup σL fz (22, gO 7 [.int (iI 0), .int (iI 0)])) = σ28 at hG hLfz hX_n28 hAA_n28 hFP_n28 hkp_n28
          refine lv_dup hx hb dX0_rank_28 rfl ?_
          refine lv_iload_n hx hb dX0_rank_29 rfl (lv_at hl 0 rfl) ?_
          refine g_callI (As := [.int (iI i9)]) (rest := [.ref fz, .int (iI i9), .ref aa]) 1 hx hb hml hown hts hK hG hS hl.1 (mX7_init l X σ28 fz _ i9 hLfz) q682 q683 q90 q684 rfl (by decide +kernel) rfl ⟨Nat.le_of_ble_eq_true rfl, Nat.le_of_ble_eq_true rfl⟩ ⟨by show _ ≤ 40; omega, by show _ ≤ 140; omega⟩ (Nat.le_of_ble_eq_true rfl) dX0_rank_30 (kV (fun σr29 H locs hp hG hS => ?_))
          have hp : σr29 = (gup σ28 fz (22, gO 7 [.int (iI i9), .int (iI 0)])) := hp
          have hL30 : σr29 fz = some (22, gO 7 [.int (iI i9), .int (iI 0)]) := by rw [hp]; exact gup_s
          have hp30 : σr29 = (gup σL fz (22, gO 7 [.int (iI i9), .int (iI 0)])) := by rw [hp, ← hgen28, gup_gup]
          have hX_f30 : XW X σr29 b U J R := by rw [hp30]; exact hXL.keep (gKeep.new hzfz : gKeep (fun _ => False) _ _) (fun h => h)
          have hAA_f30 : σr29 aa = some (24, gV (X.2.1 8) 32 gr9) := by rw [hp30]; exact (gKeep.new hzfz : gKeep (fun _ => False) _ _) _ _ _ hAAL (fun h => h)
          have hFP_f30 : FPW σr29 i9 fa := by rw [hp30]; exact hFPL.keep (gKeep.new hzfz : gKeep (fun _ => False) _ _) (fun h => h)
          have hkp_f30 : gKeep (fun t => t = 9 ∨ t = 20 ∨ t = 21 ∨ t = 22 ∨ t = 23 ∨ t = 24) σ σr29 := by rw [hp30]; exact hkL.tr (gKeep.new hzfz)
          refine g_aastO hx hb hK hG hS hAA_f30 rfl hL30 rfl (Or.inr rfl) dX0_rank_33 (by omega) (fun H locs hG hS => ?_)
          have hX_31 : XW X (gup σr29 aa (24, gV (X.2.1 8) 32 (iup gr9 i9 (some fz)))) b U J R := hX_f30.keep (gKeep.up hAA_f30 rfl : gKeep (fun t => t = 24) σr29 (gup σr29 aa (24, gV (X.2.1 8) 32 (iup gr9 i9 (some fz))))) (by first | decide | omega | (intro q9; dsimp only at q9; omega))
          have hFP_31 : FPW (gup σr29 aa (24, gV (X.2.1 8) 32 (iup gr9 i9 (some fz)))) i9 fa := hFP_f30.keep (gKeep.up hAA_f30 rfl : gKeep (fun t => t = 24) σr29 (gup σr29 aa (24, gV (X.2.1 8) 32 (iup gr9 i9 (some fz))))) (by first | decide | omega | (intro q9; dsimp only at q9; omega))
          have hLc31_0 := (gKeep.up hAA_f30 rfl : gKeep (fun t => t = 24) σr29 (gup σr29 aa (24, gV (X.2.1 8) 32 (iup gr9 i9 (some fz))))) _ _ _ hL30 (by first | decide | omega | (intro q9; dsimp only at q9; omega))
          have hAA_31 : (gup σr29 aa (24, gV (X.2.1 8) 32 (iup gr9 i9 (some fz)))) aa = some (24, gV (X.2.1 8) 32 (iup gr9 i9 (some fz))) := gup_s
          have hkp31 : gKeep (fun t => t = 9 ∨ t = 20 ∨ t = 21 ∨ t = 22 ∨ t = 23 ∨ t = 24) σ (gup σr29 aa (24, gV (X.2.1 8) 32 (iup gr9 i9 (some fz)))) := hkp_f30.tr ((gKeep.up hAA_f30 rfl : gKeep (fun t => t = 24) σr29 (gup σr29 aa (24, gV (X.2.1 8) 32 (iup gr9 i9 (some fz))))).mono (fun t (h : t = 24) => (by show t = 9 ∨ t = 20 ∨ t = 21 ∨ t = 22 ∨ t = 23 ∨ t = 24; omega)))
          generalize (gup σr29 aa (24, gV (X.2.1 8) 32 (iup gr9 i9 (some fz)))) = σ31 at hG hX_31 hFP_31 hLc31_0 hAA_31 hkp31
          have hFPa := hFP_31.add hLc31_0
          refine g_iinc (lv' := [(3, .int (iI (i9 + 1))), (2, .ref aa), (0, .ref (b 0)), (1, .int (iI i))]) hx hb dX0_rank_34 hl (k := 0) rfl (by decide) rfl (fun ls hl => ?_)
          refine lv_goto (tgt := 17) hx hb dX0_rank_37 (by decide) ?_
          exact ih_17 σ31 (i9 + 1) (iup fa i9 fz) (iup gr9 i9 (some fz)) (cN + 1) (sN + 2) (by omega) (hkp31) (hX_31) (hAA_31) (hFPa) (by omega) (fun a h0 h1 => by
                    by_cases e : a = i9
                    · rw [e, iup_s, iup_s]
                    · rw [iup_n e, iup_n e]; exact hga a h0 (by omega)) (⟨by omega, by omega⟩)  _ _ _ hG hS (lv_sub hl [0, 1, 2, 3] rfl)
    exact loop_17 _ σ3 0 (fun _ => 0) (fun _ => none) 1 32 (Nat.lt_succ_self _) (hkp3) (hX_3) (hAA_3) (hFP0) (by omega) (fun a h0 h1 => absurd h1 (by omega)) (⟨by decide, by decide⟩)  _ _ _ hG hS (lv_sub hl [0, 1, 2, 3] rfl)
  · refine g_iconst hx hb dX0_rank_7 ?_
    exact g_iret hx hb hr hlocks hQ hG hS (Nat.zero_le _) (Nat.zero_le _) ⟨_, rfl, hkp, (Or.inl ⟨by omega, rfl⟩)⟩ dX0_rank_8

