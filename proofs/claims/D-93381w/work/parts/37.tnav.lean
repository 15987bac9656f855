set_option maxHeartbeats 4000000 in
theorem mJ19_compare (l : Launch) (X : gX) (σ : gS) (x y : Int) (h0 : (-2147483648 ≤ x ∧ x ≤ 2147483647)) (h1 : (-2147483648 ≤ y ∧ y ≤ 2147483647)) : gMet l X yJ19_compare cJ19_compare 2 (some .int) 0 0 0 0 σ [.int (iI x), .int (iI y)] (oI (fun r σ' => (r = -1 ∧ x < y ∨ r = 0 ∧ x = y ∨ r = 1 ∧ y < x) ∧ σ = σ')) := by
  refine gMet.of (by decide) (Nat.le_of_ble_eq_true rfl) ?_
  intro pp ee ss mm args below meth cd Q H locs ls hargs hx hb hr hlocks hml hown hnm hts hK hG hS hQ hl
  have hown : ss.vm.findClass RJ19 = some mm.cls := hown
  have hl : lv_has ls 2 [(0, .int (iI x)), (1, .int (iI y))] := hl
  refine lv_iload_n hx hb dJ19_compare_0 rfl (lv_at hl 0 rfl) ?_
  refine lv_iload_n hx hb dJ19_compare_1 rfl (lv_at hl 1 rfl) ?_
  refine g_icmp_ge (tgt := 9) hx hb dJ19_compare_2 (by decide) (by omega) (by omega) (fun cq1 => ?_) (fun cq1 => ?_)
  · refine lv_iload_n hx hb dJ19_compare_9 rfl (lv_at hl 0 rfl) ?_
    refine lv_iload_n hx hb dJ19_compare_10 rfl (lv_at hl 1 rfl) ?_
    refine g_icmp_ne (tgt := 18) hx hb dJ19_compare_11 (by decide) (by omega) (by omega) (fun cq2 => ?_) (fun cq2 => ?_)
    · refine g_iconst hx hb dJ19_compare_18 ?_
      exact g_iret hx hb hr hlocks hQ hG hS (Nat.zero_le _) (Nat.zero_le _) ⟨_, rfl, by omega, rfl⟩ dJ19_compare_19
    · refine g_iconst hx hb dJ19_compare_14 ?_
      refine lv_goto (tgt := 19) hx hb dJ19_compare_15 (by decide) ?_
      exact g_iret hx hb hr hlocks hQ hG hS (Nat.zero_le _) (Nat.zero_le _) ⟨_, rfl, by omega, rfl⟩ dJ19_compare_19
  · refine g_iconst hx hb dJ19_compare_5 ?_
    refine lv_goto (tgt := 19) hx hb dJ19_compare_6 (by decide) ?_
    exact g_iret hx hb hr hlocks hQ hG hS (Nat.zero_le _) (Nat.zero_le _) ⟨_, rfl, by omega, rfl⟩ dJ19_compare_19

set_option maxHeartbeats 4000000 in
theorem mX11_compareTo_2 (l : Launch) (X : gX) (σ : gS) (a b ta tb : Nat) (x y : Int) (ha : σ a = some (ta, gO 11 [.int (iI x)])) (hb9 : σ b = some (tb, gO 11 [.int (iI y)])) (h0 : (-2147483648 ≤ x ∧ x ≤ 2147483647)) (h1 : (-2147483648 ≤ y ∧ y ≤ 2147483647)) : gMet l X yX11_compareTo_2 cX11_compareTo_2 2 (some .int) 1 0 0 21 σ [.ref a, .ref b] (oI (fun r σ' => (r = -1 ∧ x < y ∨ r = 0 ∧ x = y ∨ r = 1 ∧ y < x) ∧ σ = σ')) := by
  refine gMet.of (by decide) (Nat.le_of_ble_eq_true rfl) ?_
  intro pp ee ss mm args below meth cd Q H locs ls hargs hx hb hr hlocks hml hown hnm hts hK hG hS hQ hl
  have hown : ss.vm.findClass RX11 = some mm.cls := hown
  have hl : lv_has ls 2 [(0, .ref a), (1, .ref b)] := hl
  refine lv_aload_n hx hb dX11_compareTo_2_0 rfl (lv_at hl 0 rfl) ?_
  refine g_get (C := RX11) (T := TX11) (N := 1) (v := .int (iI x)) hx hb hts hown hK hG ha rfl in_X11 0 (by decide) q1491 rfl rfl dX11_compareTo_2_1 ?_
  refine lv_aload_n hx hb dX11_compareTo_2_4 rfl (lv_at hl 1 rfl) ?_
  refine g_get (C := RX11) (T := TX11) (N := 1) (v := .int (iI y)) hx hb hts hown hK hG hb9 rfl in_X11 0 (by decide) q1491 rfl rfl dX11_compareTo_2_5 ?_
  refine g_callS (As := [.int (iI x), .int (iI y)]) (rest := []) 2 hx hb hml hown hts hK hG hS hl.1 (mJ19_compare l X σ x y (by omega) (by omega)) q868 q835 q99 q836 (by decide +kernel) rfl ⟨Nat.le_of_ble_eq_true rfl, Nat.le_of_ble_eq_true rfl⟩ ⟨Nat.le_of_ble_eq_true rfl, Nat.le_of_ble_eq_true rfl⟩ (Nat.le_of_ble_eq_true rfl) dX11_compareTo_2_8 (kI (fun r1 σr1 H locs hp hG hS => ?_))
  obtain ⟨hr1, rfl⟩ := hp
  exact g_iret hx hb hr hlocks hQ hG hS (Nat.zero_le _) (Nat.zero_le _) ⟨_, rfl, by omega, rfl⟩ dX11_compareTo_2_11

set_option maxHeartbeats 4000000 in
theorem mX11_compareTo (l : Launch) (X : gX) (σ : gS) (a b ta tb : Nat) (x y : Int) (ha : σ a = some (ta, gO 11 [.int (iI x)])) (hb9 : σ b = some (tb, gO 11 [.int (iI y)])) (h0 : (-2147483648 ≤ x ∧ x ≤ 2147483647)) (h1 : (-2147483648 ≤ y ∧ y ≤ 2147483647)) : gMet l X yX11_compareTo cX11_compareTo 2 (some .int) 2 0 0 42 σ [.ref a, .ref b] (oI (fun r σ' => (r = -1 ∧ x < y ∨ r = 0 ∧ x = y ∨ r = 1 ∧ y < x) ∧ σ = σ')) := by
  refine gMet.of (by decide) (Nat.le_of_ble_eq_true rfl) ?_
  intro pp ee ss mm args below meth cd Q H locs ls hargs hx hb hr hlocks hml hown hnm hts hK hG hS hQ hl
  have hown : ss.vm.findClass RX11 = some mm.cls := hown
  have hl : lv_has ls 2 [(0, .ref a), (1, .ref b)] := hl
  refine lv_aload_n hx hb dX11_compareTo_0 rfl (lv_at hl 0 rfl) ?_
  refine lv_aload_n hx hb dX11_compareTo_1 rfl (lv_at hl 1 rfl) ?_
  refine g_castS hx hb hts hown hK hG hb9 rfl q863 dX11_compareTo_2 ?_
  refine g_callV (As := [.ref b]) (rest := []) 1 hx hb hml hown hts hK hG hS hl.1 (mX11_compareTo_2 l X σ a b _ _ x y ha hb9 (by omega) (by omega)) ha rfl q864 q865 q866 q114 q867 (by decide +kernel) rfl ⟨Nat.le_of_ble_eq_true rfl, Nat.le_of_ble_eq_true rfl⟩ ⟨Nat.le_of_ble_eq_true rfl, Nat.le_of_ble_eq_true rfl⟩ (Nat.le_of_ble_eq_true rfl) dX11_compareTo_5 (kI (fun r1 σr1 H locs hp hG hS => ?_))
  obtain ⟨hr1, rfl⟩ := hp
  exact g_iret hx hb hr hlocks hQ hG hS (Nat.zero_le _) (Nat.zero_le _) ⟨_, rfl, by omega, rfl⟩ dX11_compareTo_8

set_option maxHeartbeats 4000000 in
theorem mX9_compareTo_2 (l : Launch) (X : gX) (σ : gS) (a b ta tb : Nat) (x y : Int) (ha : σ a = some (ta, gO 9 [.int (iI x)])) (hb9 : σ b = some (tb, gO 9 [.int (iI y)])) (h0 : (-2147483648 ≤ x ∧ x ≤ 2147483647)) (h1 : (-2147483648 ≤ y ∧ y ≤ 2147483647)) : gMet l X yX9_compareTo_2 cX9_compareTo_2 2 (some .int) 1 0 0 21 σ [.ref a, .ref b] (oI (fun r σ' => (r = -1 ∧ x < y ∨ r = 0 ∧ x = y ∨ r = 1 ∧ y < x) ∧ σ = σ')) := by
  refine gMet.of (by decide) (Nat.le_of_ble_eq_true rfl) ?_
  intro pp ee ss mm args below meth cd Q H locs ls hargs hx hb hr hlocks hml hown hnm hts hK hG hS hQ hl
  have hown : ss.vm.findClass RX9 = some mm.cls := hown
  have hl : lv_has ls 2 [(0, .ref a), (1, .ref b)] := hl
  refine lv_aload_n hx hb dX9_compareTo_2_0 rfl (lv_at hl 0 rfl) ?_
  refine g_get (C := RX9) (T := TX9) (N := 1) (v := .int (iI x)) hx hb hts hown hK hG ha rfl in_X9 0 (by decide) q1116 rfl rfl dX9_compareTo_2_1 ?_
  refine lv_aload_n hx hb dX9_compareTo_2_4 rfl (lv_at hl 1 rfl) ?_
  refine g_get (C := RX9) (T := TX9) (N := 1) (v := .int (iI y)) hx hb hts hown hK hG hb9 rfl in_X9 0 (by decide) q1116 rfl rfl dX9_compareTo_2_5 ?_
  refine g_callS (As := [.int (iI x), .int (iI y)]) (rest := []) 2 hx hb hml hown hts hK hG hS hl.1 (mJ19_compare l X σ x y (by omega) (by omega)) q856 q835 q99 q836 (by decide +kernel) rfl ⟨Nat.le_of_ble_eq_true rfl, Nat.le_of_ble_eq_true rfl⟩ ⟨Nat.le_of_ble_eq_true rfl, Nat.le_of_ble_eq_true rfl⟩ (Nat.le_of_ble_eq_true rfl) dX9_compareTo_2_8 (kI (fun r1 σr1 H locs hp hG hS => ?_))
  obtain ⟨hr1, rfl⟩ := hp
  exact g_iret hx hb hr hlocks hQ hG hS (Nat.zero_le _) (Nat.zero_le _) ⟨_, rfl, by omega, rfl⟩ dX9_compareTo_2_11

set_option maxHeartbeats 4000000 in
theorem mX9_compareTo (l : Launch) (X : gX) (σ : gS) (a b ta tb : Nat) (x y : Int) (ha : σ a = some (ta, gO 9 [.int (iI x)])) (hb9 : σ b = some (tb, gO 9 [.int (iI y)])) (h0 : (-2147483648 ≤ x ∧ x ≤ 2147483647)) (h1 : (-2147483648 ≤ y ∧ y ≤ 2147483647)) : gMet l X yX9_compareTo cX9_compareTo 2 (some .int) 2 0 0 42 σ [.ref a, .ref b] (oI (fun r σ' => (r = -1 ∧ x < y ∨ r = 0 ∧ x = y ∨ r = 1 ∧ y < x) ∧ σ = σ')) := by
  refine gMet.of (by decide) (Nat.le_of_ble_eq_true rfl) ?_
  intro pp ee ss mm args below meth cd Q H locs ls hargs hx hb hr hlocks hml hown hnm hts hK hG hS hQ hl
  have hown : ss.vm.findClass RX9 = some mm.cls := hown
  have hl : lv_has ls 2 [(0, .ref a), (1, .ref b)] := hl
  refine lv_aload_n hx hb dX9_compareTo_0 rfl (lv_at hl 0 rfl) ?_
  refine lv_aload_n hx hb dX9_compareTo_1 rfl (lv_at hl 1 rfl) ?_
  refine g_castS hx hb hts hown hK hG hb9 rfl q851 dX9_compareTo_2 ?_
  refine g_callV (As := [.ref b]) (rest := []) 1 hx hb hml hown hts hK hG hS hl.1 (mX9_compareTo_2 l X σ a b _ _ x y ha hb9 (by omega) (by omega)) ha rfl q852 q853 q854 q105 q855 (by decide +kernel) rfl ⟨Nat.le_of_ble_eq_true rfl, Nat.le_of_ble_eq_true rfl⟩ ⟨Nat.le_of_ble_eq_true rfl, Nat.le_of_ble_eq_true rfl⟩ (Nat.le_of_ble_eq_true rfl) dX9_compareTo_5 (kI (fun r1 σr1 H locs hp hG hS => ?_))
  obtain ⟨hr1, rfl⟩ := hp
  exact g_iret hx hb hr hlocks hQ hG hS (Nat.zero_le _) (Nat.zero_le _) ⟨_, rfl, by omega, rfl⟩ dX9_compareTo_8

/-! words of the start for calls through NavigableMap -/
abbrev nmx (name desc : String) : MethodName := ⟨"java/util/NavigableMap", name, desc⟩
theorem nm_61 : Cond.methodLink "java/util/TreeSet" 61 (nmx "containsKey" "(Ljava/lang/Object;)Z") ∈ flatC (Jvm.Cond.and given_1 narrow_1) := by decide +kernel
theorem nf_61 : Cond.interfaceMethod (nmx "containsKey" "(Ljava/lang/Object;)Z").cls "java/util/Map" (nmx "containsKey" "(Ljava/lang/Object;)Z").name (nmx "containsKey" "(Ljava/lang/Object;)Z").desc ∈ flatC (Jvm.Cond.and given_1 narrow_1) := by decide +kernel
theorem nm_53 : Cond.methodLink "java/util/TreeSet" 53 (nmx "size" "()I") ∈ flatC (Jvm.Cond.and given_1 narrow_1) := by decide +kernel
theorem nf_53 : Cond.interfaceMethod (nmx "size" "()I").cls "java/util/Map" (nmx "size" "()I").name (nmx "size" "()I").desc ∈ flatC (Jvm.Cond.and given_1 narrow_1) := by decide +kernel
theorem nm_69 : Cond.methodLink "java/util/TreeSet" 69 (nmx "put" "(Ljava/lang/Object;Ljava/lang/Object;)Ljava/lang/Object;") ∈ flatC (Jvm.Cond.and given_1 narrow_1) := by decide +kernel
theorem nf_69 : Cond.interfaceMethod (nmx "put" "(Ljava/lang/Object;Ljava/lang/Object;)Ljava/lang/Object;").cls "java/util/Map" (nmx "put" "(Ljava/lang/Object;Ljava/lang/Object;)Ljava/lang/Object;").name (nmx "put" "(Ljava/lang/Object;Ljava/lang/Object;)Ljava/lang/Object;").desc ∈ flatC (Jvm.Cond.and given_1 narrow_1) := by decide +kernel
theorem nm_73 : Cond.methodLink "java/util/TreeSet" 73 (nmx "remove" "(Ljava/lang/Object;)Ljava/lang/Object;") ∈ flatC (Jvm.Cond.and given_1 narrow_1) := by decide +kernel
theorem nf_73 : Cond.interfaceMethod (nmx "remove" "(Ljava/lang/Object;)Ljava/lang/Object;").cls "java/util/Map" (nmx "remove" "(Ljava/lang/Object;)Ljava/lang/Object;").name (nmx "remove" "(Ljava/lang/Object;)Ljava/lang/Object;").desc ∈ flatC (Jvm.Cond.and given_1 narrow_1) := by decide +kernel
theorem nm_77 : Cond.methodLink "java/util/TreeSet" 77 (nmx "clear" "()V") ∈ flatC (Jvm.Cond.and given_1 narrow_1) := by decide +kernel
theorem nf_77 : Cond.interfaceMethod (nmx "clear" "()V").cls "java/util/Map" (nmx "clear" "()V").name (nmx "clear" "()V").desc ∈ flatC (Jvm.Cond.and given_1 narrow_1) := by decide +kernel
set_option maxHeartbeats 4000000 in
theorem mJ24_requireNonNull (l : Launch) (X : gX) (σ : gS) (a : Nat) : gMet l X yJ24_requireNonNull cJ24_requireNonNull 1 (some (.object "java/lang/Object")) 0 0 0 0 σ [.ref a] (oA (fun r σ' => r = .ref a ∧ σ = σ')) := by
  refine gMet.of (by decide) (Nat.le_of_ble_eq_true rfl) ?_
  intro pp ee ss mm args below meth cd Q H locs ls hargs hx hb hr hlocks hml hown hnm hts hK hG hS hQ hl
  have hown : ss.vm.findClass RJ24 = some mm.cls := hown
  have hl : lv_has ls 1 [(0, .ref a)] := hl
  refine lv_aload_n hx hb dJ24_requireNonNull_0 rfl (lv_at hl 0 rfl) ?_
  refine lv_ifnonnull (tgt := 12) hx hb dJ24_requireNonNull_1 (by decide) ?_
  refine lv_aload_n hx hb dJ24_requireNonNull_12 rfl (lv_at hl 0 rfl) ?_
  exact g_aret hx hb hr (by first | exact Or.inl ⟨_, rfl⟩ | exact Or.inr ⟨_, rfl⟩) (by first | exact Or.inl rfl | exact Or.inr ⟨_, rfl⟩ | exact va_rf_or _) hlocks hQ hG hS (Nat.zero_le _) (Nat.zero_le _) ⟨_, rfl, rfl, rfl⟩ dJ24_requireNonNull_13

set_option maxHeartbeats 4000000 in
theorem mJ4_successor (l : Launch) (X : gX) (σ : gS) (tg mp n : Nat) (ad ps : Nat → Nat) (K : Nat → Nat) (Vv l_ r_ p_ : Nat → Option Nat) (C : Nat → Int) (rt es ks : Option Nat) (sz md : Int) (hTH : TH σ tg mp (tIn n ad ps) K Vv l_ r_ p_ C rt es ks sz md) (lo hi : Nat → Nat) (hok : tOk n ad ps l_ r_ p_ lo hi rt) (a : Nat) (hDa : tIn n ad ps a) : gMet l X yJ4_successor cJ4_successor 3 (some (.object "java/util/TreeMap$Entry")) 0 0 0 0 σ [.ref a] (oA (fun v σ' => v = va_rf (if ps a + 1 < n then some (ad (ps a + 1)) else none) ∧ ((∃ b, r_ a = some b) → l_ (ad (ps a + 1)) = none) ∧ σ = σ')) := by
  refine gMet.of (by decide) (Nat.le_of_ble_eq_true rfl) ?_
  intro pp ee ss mm args below meth cd Q H locs ls hargs hx hb hr hlocks hml hown hnm hts hK hG hS hQ hl
  have hown : ss.vm.findClass RJ4 = some mm.cls := hown
  have hl : lv_has ls 3 [(0, .ref a)] := hl
  have hkp : gKeep (fun t => t = tg) σ σ := gKeep.rf
  refine lv_aload_n hx hb dJ4_successor_0 rfl (lv_at hl 0 rfl) ?_
  refine lv_ifnonnull (tgt := 6) hx hb dJ4_successor_1 (by decide) ?_
  refine lv_aload_n hx hb dJ4_successor_6 rfl (lv_at hl 0 rfl) ?_
  refine g_get (C := RJ25) (T := TJ25) (N := 6) (v := va_rf (r_ a)) hx hb hts hown hK hG (hTH.2.1 _ hDa) rfl in_J25 3 (by decide) q1181 rfl rfl dJ4_successor_7 ?_
  refine g_ifnullR (tgt := 35) hx hb dJ4_successor_10 (by decide) (fun ho2 => ?_) (fun z1 ho2 => ?_)
  · refine lv_aload_n hx hb dJ4_successor_35 rfl (lv_at hl 0 rfl) ?_
    refine g_get (C := RJ25) (T := TJ25) (N := 6) (v := va_rf (p_ a)) hx hb hts hown hK hG (hTH.2.1 _ hDa) rfl in_J25 4 (by decide) q1183 rfl rfl dJ4_successor_36 ?_
    refine g_astore_nR (lv' := [(1, va_rf (p_ a)), (0, .ref a)]) hx hb dJ4_successor_39 rfl hl (by decide) rfl (fun ls hl => ?_)
    refine lv_aload_n hx hb dJ4_successor_40 rfl (lv_at hl 1 rfl) ?_
    refine lv_astore_n (lv' := [(2, .ref a), (1, va_rf (p_ a)), (0, .ref a)]) hx hb dJ4_successor_41 rfl hl (by decide) (by cases (p_ a) <;> rfl) (fun ls hl => ?_)
    have loop_42 : ∀ (nF : Nat) (ch : Nat), (lo ch : Nat) < nF → (tIn n ad ps ch) → (hi ch = ps a + 1) → ∀ (H : Heap) (locs : List Loc) (ls : Array Slot), gSat X σ H → va_S (gA X) ss.heap H locs → lv_has ls 3 [(2, .ref ch), (1, va_rf (p_ ch)), (0, .ref a)] → W pp l ee (gR 0 0 0 0) ss mm args below meth cd H locs 0 0 Q (F0 mm 42 ls []) := by
      intro nF
      induction nF with
      | zero => intro ch hm; exact absurd hm (Nat.not_lt_zero _)
      | succ nF ih_42 =>
        intro ch hm hDc hhc H locs ls hG hS hl
        refine g_aload_nR hx hb dJ4_successor_42 rfl (lv_at hl 1 rfl) ?_
        refine g_ifnullR (tgt := 64) hx hb dJ4_successor_43 (by decide) (fun ho4 => ?_) (fun z3 ho4 => ?_)
        · have hl : lv_has ls 3 [(2, .ref ch), (1, .null), (0, .ref a)] := by first | exact hl | (rw [ho4] at hl; exact hl)
          refine lv_aload_nN hx hb dJ4_successor_64 rfl (lv_at hl 1 rfl) ?_
          exact g_aret hx hb hr (by first | exact Or.inl ⟨_, rfl⟩ | exact Or.inr ⟨_, rfl⟩) (by first | exact Or.inl rfl | exact Or.inr ⟨_, rfl⟩ | exact va_rf_or _) hlocks hQ hG hS (Nat.zero_le _) (Nat.zero_le _) ⟨_, rfl, (by have k1 := (hok.rx (hok.p0 hDc ho4)).2.2.1; rw [if_neg (show ¬ ps a + 1 < n by omega)]; rfl), (fun e => by obtain ⟨b, e⟩ := e; rw [ho2] at e; cases e), rfl⟩ dJ4_successor_65
        · have hD_z3 := (hok.p1 hDc ho4).1
          have hl : lv_has ls 3 [(2, .ref ch), (1, .ref z3), (0, .ref a)] := by first | exact hl | (rw [ho4] at hl; exact hl)
          refine lv_aload_n hx hb dJ4_successor_46 rfl (lv_at hl 0 rfl) ?_
          refine lv_aload_n hx hb dJ4_successor_47 rfl (lv_at hl 1 rfl) ?_
          refine g_get (C := RJ25) (T := TJ25) (N := 6) (v := va_rf (r_ z3)) hx hb hts hown hK hG (hTH.2.1 _ hD_z3) rfl in_J25 3 (by decide) q1181 rfl rfl dJ4_successor_48 ?_
          refine lv_acmp_ne (tgt := 64) (rx := (some ch)) (ry := (r_ z3)) hx hb dJ4_successor_51 (by decide) (fun hq5 => ?_) (fun hq5 => ?_)
          · refine lv_aload_n hx hb dJ4_successor_64 rfl (lv_at hl 1 rfl) ?_
            exact g_aret hx hb hr (by first | exact Or.inl ⟨_, rfl⟩ | exact Or.inr ⟨_, rfl⟩) (by first | exact Or.inl rfl | exact Or.inr ⟨_, rfl⟩ | exact va_rf_or _) hlocks hQ hG hS (Nat.zero_le _) (Nat.zero_le _) ⟨_, rfl, (by have k0 := (hok.p1 hDc ho4).2.resolve_right (fun k => hq5 k.symm); have k1 := hok.l1 hD_z3 k0; have k2 := hD_z3.1; rw [if_pos (show ps a + 1 < n by omega), show ps a + 1 = ps z3 by omega, hD_z3.2]; rfl), (fun e => by obtain ⟨b, e⟩ := e; rw [ho2] at e; cases e), rfl⟩ dJ4_successor_65
          · have hr1 := hok.r1 hD_z3 hq5.symm
            have hnz := hok.num hD_z3
            refine lv_aload_n hx hb dJ4_successor_54 rfl (lv_at hl 1 rfl) ?_
            refine lv_astore_n (lv' := [(2, .ref z3), (1, .ref z3), (0, .ref a)]) hx hb dJ4_successor_55 rfl hl (by decide) rfl (fun ls hl => ?_)
            refine lv_aload_n hx hb dJ4_successor_56 rfl (lv_at hl 1 rfl) ?_
            refine g_get (C := RJ25) (T := TJ25) (N := 6) (v := va_rf (p_ z3)) hx hb hts hown hK hG (hTH.2.1 _ hD_z3) rfl in_J25 4 (by decide) q1183 rfl rfl dJ4_successor_57 ?_
            refine g_astore_nR (lv' := [(1, va_rf (p_ z3)), (2, .ref z3), (0, .ref a)]) hx hb dJ4_successor_60 rfl hl (by decide) rfl (fun ls hl => ?_)
            refine lv_goto (tgt := 42) hx hb dJ4_successor_61 (by decide) ?_
            exact ih_42 z3 (by omega) (hD_z3) (by omega)  _ _ _ hG hS (lv_sub hl [1, 0, 2] rfl)
    exact loop_42 _ a (Nat.lt_succ_self _) (hDa) (hok.r0 hDa ho2)  _ _ _ hG hS (lv_sub hl [0, 1, 2] rfl)
  · have hD_z1 := (hok.r1 hDa ho2).1
    refine lv_aload_n hx hb dJ4_successor_13 rfl (lv_at hl 0 rfl) ?_
    have hf6 : r_ a = (some z1) := by rw [ho2]
    refine g_get (C := RJ25) (T := TJ25) (N := 6) (v := .ref z1) hx hb hts hown hK hG (hTH.2.1 _ hDa) rfl in_J25 3 (by decide) q1181 rfl (congrArg (fun q9 => some (va_rf q9)) hf6) dJ4_successor_14 ?_
    refine lv_astore_n (lv' := [(1, .ref z1), (0, .ref a)]) hx hb dJ4_successor_17 rfl hl (by decide) rfl (fun ls hl => ?_)
    have loop_18 : ∀ (nF : Nat) (t : Nat), (ps t : Nat) < nF → (tIn n ad ps t) → (lo t = ps a + 1) → ∀ (H : Heap) (locs : List Loc) (ls : Array Slot), gSat X σ H → va_S (gA X) ss.heap H locs → lv_has ls 3 [(1, .ref t), (0, .ref a)] → W pp l ee (gR 0 0 0 0) ss mm args below meth cd H locs 0 0 Q (F0 mm 18 ls []) := by
      intro nF
      induction nF with
      | zero => intro t hm; exact absurd hm (Nat.not_lt_zero _)
      | succ nF ih_18 =>
        intro t hm hDt hlt H locs ls hG hS hl
        refine lv_aload_n hx hb dJ4_successor_18 rfl (lv_at hl 0 rfl) ?_
        refine g_get (C := RJ25) (T := TJ25) (N := 6) (v := va_rf (l_ t)) hx hb hts hown hK hG (hTH.2.1 _ hDt) rfl in_J25 2 (by decide) q1180 rfl rfl dJ4_successor_19 ?_
        refine g_ifnullR (tgt := 33) hx hb dJ4_successor_22 (by decide) (fun ho8 => ?_) (fun z7 ho8 => ?_)
        · refine lv_aload_n hx hb dJ4_successor_33 rfl (lv_at hl 0 rfl) ?_
          exact g_aret hx hb hr (by first | exact Or.inl ⟨_, rfl⟩ | exact Or.inr ⟨_, rfl⟩) (by first | exact Or.inl rfl | exact Or.inr ⟨_, rfl⟩ | exact va_rf_or _) hlocks hQ hG hS (Nat.zero_le _) (Nat.zero_le _) ⟨_, rfl, (by have k1 := hok.l0 hDt ho8; have k2 := hDt.1; rw [if_pos (show ps a + 1 < n by omega), show ps a + 1 = ps t by omega, hDt.2]; rfl), (fun _ => by have k1 := hok.l0 hDt ho8; rw [show ps a + 1 = ps t by omega, hDt.2]; exact ho8), rfl⟩ dJ4_successor_34
        · have hD_z7 := (hok.l1 hDt ho8).1
          refine lv_aload_n hx hb dJ4_successor_25 rfl (lv_at hl 0 rfl) ?_
          have hf9 : l_ t = (some z7) := by rw [ho8]
          refine g_get (C := RJ25) (T := TJ25) (N := 6) (v := .ref z7) hx hb hts hown hK hG (hTH.2.1 _ hDt) rfl in_J25 2 (by decide) q1180 rfl (congrArg (fun q9 => some (va_rf q9)) hf9) dJ4_successor_26 ?_
          refine lv_astore_n (lv' := [(1, .ref z7), (0, .ref a)]) hx hb dJ4_successor_29 rfl hl (by decide) rfl (fun ls hl => ?_)
          have hlp := hok.lp hDt ho8
          refine lv_goto (tgt := 18) hx hb dJ4_successor_30 (by decide) ?_
          exact ih_18 z7 (by omega) (hD_z7) (by rw [(hok.l1 hDt ho8).2.1]; exact hlt)  _ _ _ hG hS (lv_sub hl [0, 1] rfl)
    exact loop_18 _ z1 (Nat.lt_succ_self _) (hD_z1) ((hok.r1 hDa ho2).2.1)  _ _ _ hG hS (lv_sub hl [0, 1] rfl)

set_option maxHeartbeats 4000000 in
theorem mJ4_getFirstEntry (l : Launch) (X : gX) (σ : gS) (tg mp n : Nat) (ad ps : Nat → Nat) (K : Nat → Nat) (Vv l_ r_ p_ : Nat → Option Nat) (C : Nat → Int) (rt es ks : Option Nat) (sz md : Int) (hTH : TH σ tg mp (tIn n ad ps) K Vv l_ r_ p_ C rt es ks sz md) (lo hi : Nat → Nat) (hok : tOk n ad ps l_ r_ p_ lo hi rt) : gMet l X yJ4_getFirstEntry cJ4_getFirstEntry 2 (some (.object "java/util/TreeMap$Entry")) 0 0 0 0 σ [.ref mp] (oA (fun v σ' => v = va_rf (if 0 < n then some (ad (0)) else none) ∧ σ = σ')) := by
  refine gMet.of (by decide) (Nat.le_of_ble_eq_true rfl) ?_
  intro pp ee ss mm args below meth cd Q H locs ls hargs hx hb hr hlocks hml hown hnm hts hK hG hS hQ hl
  have hown : ss.vm.findClass RJ4 = some mm.cls := hown
  have hl : lv_has ls 2 [(0, .ref mp)] := hl
  have hkp : gKeep (fun t => t = tg) σ σ := gKeep.rf
  refine lv_aload_n hx hb dJ4_getFirstEntry_0 rfl (lv_at hl 0 rfl) ?_
  refine g_get (C := RJ4) (T := TJ4) (N := 9) (v := va_rf rt) hx hb hts hown hK hG hTH.1 rfl in_J4 3 (by decide) q146 rfl rfl dJ4_getFirstEntry_1 ?_
  refine g_astore_nR (lv' := [(1, va_rf rt), (0, .ref mp)]) hx hb dJ4_getFirstEntry_4 rfl hl (by decide) rfl (fun ls hl => ?_)
  refine g_aload_nR hx hb dJ4_getFirstEntry_5 rfl (lv_at hl 0 rfl) ?_
  refine g_ifnullR (tgt := 24) hx hb dJ4_getFirstEntry_6 (by decide) (fun ho2 => ?_) (fun z1 ho2 => ?_)
  · have hl : lv_has ls 2 [(1, .null), (0, .ref mp)] := by first | exact hl | (rw [ho2] at hl; exact hl)
    refine lv_aload_nN hx hb dJ4_getFirstEntry_24 rfl (lv_at hl 0 rfl) ?_
    exact g_aret hx hb hr (by first | exact Or.inl ⟨_, rfl⟩ | exact Or.inr ⟨_, rfl⟩) (by first | exact Or.inl rfl | exact Or.inr ⟨_, rfl⟩ | exact va_rf_or _) hlocks hQ hG hS (Nat.zero_le _) (Nat.zero_le _) ⟨_, rfl, (by rw [if_neg (show ¬ 0 < n by have := hok.2.1.1 ho2; omega)]; rfl), rfl⟩ dJ4_getFirstEntry_25
  · have hD_z1 := (hok.rx ho2).1
    have hl : lv_has ls 2 [(1, .ref z1), (0, .ref mp)] := by first | exact hl | (rw [ho2] at hl; exact hl)
    have loop_9 : ∀ (nF : Nat) (t : Nat), (ps t : Nat) < nF → (tIn n ad ps t) → (lo t = 0) → ∀ (H : Heap) (locs : List Loc) (ls : Array Slot), gSat X σ H → va_S (gA X) ss.heap H locs → lv_has ls 2 [(1, .ref t), (0, .ref mp)] → W pp l ee (gR 0 0 0 0) ss mm args below meth cd H locs 0 0 Q (F0 mm 9 ls []) := by
      intro nF
      induction nF with
      | zero => intro t hm; exact absurd hm (Nat.not_lt_zero _)
      | succ nF ih_9 =>
        intro t hm hDt hlt H locs ls hG hS hl
        refine lv_aload_n hx hb dJ4_getFirstEntry_9 rfl (lv_at hl 0 rfl) ?_
        refine g_get (C := RJ25) (T := TJ25) (N := 6) (v := va_rf (l_ t)) hx hb hts hown hK hG (hTH.2.1 _ hDt) rfl in_J25 2 (by decide) q1180 rfl rfl dJ4_getFirstEntry_10 ?_
        refine g_ifnullR (tgt := 24) hx hb dJ4_getFirstEntry_13 (by decide) (fun ho4 => ?_) (fun z3 ho4 => ?_)
        · refine lv_aload_n hx hb dJ4_getFirstEntry_24 rfl (lv_at hl 0 rfl) ?_
          exact g_aret hx hb hr (by first | exact Or.inl ⟨_, rfl⟩ | exact Or.inr ⟨_, rfl⟩) (by first | exact Or.inl rfl | exact Or.inr ⟨_, rfl⟩ | exact va_rf_or _) hlocks hQ hG hS (Nat.zero_le _) (Nat.zero_le _) ⟨_, rfl, (by have k1 := hok.l0 hDt ho4; have k2 := hDt.1; rw [if_pos (show 0 < n by omega), show 0 = ps t by omega, hDt.2]; rfl), rfl⟩ dJ4_getFirstEntry_25
        · have hD_z3 := (hok.l1 hDt ho4).1
          refine lv_aload_n hx hb dJ4_getFirstEntry_16 rfl (lv_at hl 0 rfl) ?_
          have hf5 : l_ t = (some z3) := by rw [ho4]
          refine g_get (C := RJ25) (T := TJ25) (N := 6) (v := .ref z3) hx hb hts hown hK hG (hTH.2.1 _ hDt) rfl in_J25 2 (by decide) q1180 rfl (congrArg (fun q9 => some (va_rf q9)) hf5) dJ4_getFirstEntry_17 ?_
          refine lv_astore_n (lv' := [(1, .ref z3), (0, .ref mp)]) hx hb dJ4_getFirstEntry_20 rfl hl (by decide) rfl (fun ls hl => ?_)
          have hlp := hok.lp hDt ho4
          refine lv_goto (tgt := 9) hx hb dJ4_getFirstEntry_21 (by decide) ?_
          exact ih_9 z3 (by omega) (hD_z3) (by rw [(hok.l1 hDt ho4).2.1]; exact hlt)  _ _ _ hG hS (lv_sub hl [0, 1] rfl)
    exact loop_9 _ z1 (Nat.lt_succ_self _) (hD_z1) ((hok.rx ho2).2.1)  _ _ _ hG hS (lv_sub hl [0, 1] rfl)

set_option maxHeartbeats 4000000 in
theorem mJ4_size (l : Launch) (X : gX) (σ : gS) (tg mp n : Nat) (ad ps : Nat → Nat) (K : Nat → Nat) (Vv l_ r_ p_ : Nat → Option Nat) (C : Nat → Int) (rt es ks : Option Nat) (sz md : Int) (hTH : TH σ tg mp (tIn n ad ps) K Vv l_ r_ p_ C rt es ks sz md)  : gMet l X yJ4_size cJ4_size 1 (some .int) 0 0 0 0 σ [.ref mp] (oI (fun r σ' => r = sz ∧ σ = σ')) := by
  refine gMet.of (by decide) (Nat.le_of_ble_eq_true rfl) ?_
  intro pp ee ss mm args below meth cd Q H locs ls hargs hx hb hr hlocks hml hown hnm hts hK hG hS hQ hl
  have hown : ss.vm.findClass RJ4 = some mm.cls := hown
  have hl : lv_has ls 1 [(0, .ref mp)] := hl
  have hkp : gKeep (fun t => t = tg) σ σ := gKeep.rf
  refine lv_aload_n hx hb dJ4_size_0 rfl (lv_at hl 0 rfl) ?_
  refine g_get (C := RJ4) (T := TJ4) (N := 9) (v := .int (iI sz)) hx hb hts hown hK hG hTH.1 rfl in_J4 4 (by decide) q147 rfl rfl dJ4_size_1 ?_
  exact g_iret hx hb hr hlocks hQ hG hS (Nat.zero_le _) (Nat.zero_le _) ⟨_, rfl, rfl, rfl⟩ dJ4_size_4

