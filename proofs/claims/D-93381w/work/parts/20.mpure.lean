theorem mX4_in (l : Launch) (X : gX) (σ : gS)  (v : Int) (lo : Int) (hi : Int) (h0 : -9223372036854775808 ≤ v ∧ v ≤ 9223372036854775807) (h1 : -9223372036854775808 ≤ lo ∧ lo ≤ 9223372036854775807) (h2 : -9223372036854775808 ≤ hi ∧ hi ≤ 9223372036854775807) : gMet l X yX4_in cX4_in 6 (some .boolean) 0 0 0 0 σ [.long (lI v), .long (lI lo), .long (lI hi)] (oI (fun r σ' => ((r = 1 ∧ (lo ≤ v ∧ v ≤ hi)) ∨ (r = 0 ∧ ¬ (lo ≤ v ∧ v ≤ hi))) ∧ σ = σ')) := by
  refine gMet.of (by decide) (Nat.le_of_ble_eq_true rfl) ?_
  intro pp ee ss mm args below meth cd Q H locs ls hargs hx hb hr hlocks hml hown hnm hts hK hG hS hQ hl
  have hown : ss.vm.findClass RX4 = some mm.cls := hown
  have hl : lv_has ls 6 [(0, .long (lI v)), (2, .long (lI lo)), (4, .long (lI hi))] := hl
  refine lv_lload_n hx hb dX4_in_0 rfl (lv_at hl 0 rfl) ?_
  refine lv_lload_n hx hb dX4_in_1 rfl (lv_at hl 1 rfl) ?_
  refine g_lcmp hx hb dX4_in_2 (by omega) (by omega) (fun z1 hz1 => ?_)
  refine g_if_lt (tgt := 17) hx hb dX4_in_3 (by decide) (by omega) (fun cq2 => ?_) (fun cq2 => ?_)
  · refine g_iconst hx hb dX4_in_17 ?_
    exact g_zret hx hb hr hlocks hQ hG hS (Nat.zero_le _) (Nat.zero_le _) (gnz (by omega)) ⟨_, rfl, (by omega), rfl⟩ dX4_in_18
  · refine lv_lload_n hx hb dX4_in_6 rfl (lv_at hl 0 rfl) ?_
    refine lv_lload hx hb dX4_in_7 (lv_at hl 2 rfl) ?_
    refine g_lcmp hx hb dX4_in_9 (by omega) (by omega) (fun z3 hz3 => ?_)
    refine g_if_gt (tgt := 17) hx hb dX4_in_10 (by decide) (by omega) (fun cq4 => ?_) (fun cq4 => ?_)
    · refine g_iconst hx hb dX4_in_17 ?_
      exact g_zret hx hb hr hlocks hQ hG hS (Nat.zero_le _) (Nat.zero_le _) (gnz (by omega)) ⟨_, rfl, (by omega), rfl⟩ dX4_in_18
    · refine g_iconst hx hb dX4_in_13 ?_
      refine lv_goto (tgt := 18) hx hb dX4_in_14 (by decide) ?_
      exact g_zret hx hb hr hlocks hQ hG hS (Nat.zero_le _) (Nat.zero_le _) (gnz (by omega)) ⟨_, rfl, (by omega), rfl⟩ dX4_in_18

theorem mX4_mod (l : Launch) (X : gX) (σ : gS)  (v : Int) (h0 : -2147483648 ≤ v ∧ v ≤ 2147483647) : gMet l X yX4_mod cX4_mod 2 (some .int) 0 0 0 0 σ [.int (iI v)] (oI (fun r σ' => (r = v % 31 ∧ (0 ≤ r ∧ r ≤ 30)) ∧ σ = σ')) := by
  refine gMet.of (by decide) (Nat.le_of_ble_eq_true rfl) ?_
  intro pp ee ss mm args below meth cd Q H locs ls hargs hx hb hr hlocks hml hown hnm hts hK hG hS hQ hl
  have hown : ss.vm.findClass RX4 = some mm.cls := hown
  have hl : lv_has ls 2 [(0, .int (iI v))] := hl
  refine lv_iload_n hx hb dX4_mod_0 rfl (lv_at hl 0 rfl) ?_
  refine g_bipush hx hb dX4_mod_1 (by decide) ?_
  refine g_itrem hx hb dX4_mod_3 (by omega) (by omega) ?_
  refine g_name (fun q eq => ?_)
  have hq : 0 ≤ v → q = v % 31 := fun h => by rw [eq]; exact Int.tmod_eq_emod_of_nonneg h
  have hq2 : v < 0 → -q = (-v) % 31 := fun h => by rw [eq, ← Int.neg_tmod]; exact Int.tmod_eq_emod_of_nonneg (by omega)
  refine lv_istore_n (lv' := [(1, .int (iI q)), (0, .int (iI v))]) hx hb dX4_mod_4 rfl hl (by decide) rfl (fun ls hl => ?_)
  refine lv_iload_n hx hb dX4_mod_5 rfl (lv_at hl 0 rfl) ?_
  refine g_if_ge (tgt := 16) hx hb dX4_mod_6 (by decide) (by omega) (fun cq1 => ?_) (fun cq1 => ?_)
  · refine lv_iload_n hx hb dX4_mod_16 rfl (lv_at hl 0 rfl) ?_
    exact g_iret hx hb hr hlocks hQ hG hS (Nat.zero_le _) (Nat.zero_le _) ⟨_, rfl, ⟨(by omega), (by omega)⟩, rfl⟩ dX4_mod_17
  · refine lv_iload_n hx hb dX4_mod_9 rfl (lv_at hl 0 rfl) ?_
    refine g_bipush hx hb dX4_mod_10 (by decide) ?_
    refine g_iadd hx hb dX4_mod_12 ?_
    refine lv_goto (tgt := 17) hx hb dX4_mod_13 (by decide) ?_
    exact g_iret hx hb hr hlocks hQ hG hS (Nat.zero_le _) (Nat.zero_le _) ⟨_, rfl, ⟨(by omega), (by omega)⟩, rfl⟩ dX4_mod_17

def pwm (v : Int) : Nat → Int
  | 0 => 1
  | k + 1 => pwm v k * v % 31
theorem pwm_r (v : Int) (k : Nat) : 0 ≤ pwm v k ∧ pwm v k ≤ 30 := by
  cases k with
  | zero => exact (show (0 : Int) ≤ 1 ∧ (1 : Int) ≤ 30 by decide)
  | succ k => exact md_r _
theorem pwm_29 {v : Int} (h : 0 ≤ v ∧ v ≤ 30) : pwm v 29 = invZ v := by
  have : ∀ n : Fin 31, pwm (n.val : Int) 29 = invL.getD n.val 0 := by decide +kernel
  have h1 := this ⟨v.toNat, by omega⟩
  rw [show ((v.toNat : Nat) : Int) = v by omega] at h1
  exact h1

theorem mX4_inverse (l : Launch) (X : gX) (σ : gS)  (v : Int) (h0 : 0 ≤ v ∧ v ≤ 30) : gMet l X yX4_inverse cX4_inverse 3 (some .int) 0 0 0 0 σ [.int (iI v)] (oI (fun r σ' => (r = invZ v ∧ (0 ≤ r ∧ r ≤ 30)) ∧ σ = σ')) := by
  refine gMet.of (by decide) (Nat.le_of_ble_eq_true rfl) ?_
  intro pp ee ss mm args below meth cd Q H locs ls hargs hx hb hr hlocks hml hown hnm hts hK hG hS hQ hl
  have hown : ss.vm.findClass RX4 = some mm.cls := hown
  have hl : lv_has ls 3 [(0, .int (iI v))] := hl
  refine g_iconst hx hb dX4_inverse_0 ?_
  refine lv_istore_n (lv' := [(1, .int (iI 1)), (0, .int (iI v))]) hx hb dX4_inverse_1 rfl hl (by decide) rfl (fun ls hl => ?_)
  refine g_iconst hx hb dX4_inverse_2 ?_
  refine lv_istore_n (lv' := [(2, .int (iI 0)), (1, .int (iI 1)), (0, .int (iI v))]) hx hb dX4_inverse_3 rfl hl (by decide) rfl (fun ls hl => ?_)
  have loop_4 : ∀ (nF : Nat) (made : Int) (n2 : Int) (k : Nat), (29 - k : Nat) < nF → (k ≤ 29) → (n2 = (k : Int)) → (made = pwm v k) → ∀ (H : Heap) (locs : List Loc) (ls : Array Slot), gSat X σ H → va_S (gA X) ss.heap H locs → lv_has ls 3 [(2, .int (iI n2)), (1, .int (iI made)), (0, .int (iI v))] → W pp l ee (gR 0 0 0 0) ss mm args below meth cd H locs 0 0 Q (F0 mm 4 ls []) := by
    intro nF
    induction nF with
    | zero => intro made n2 k hm; exact absurd hm (Nat.not_lt_zero _)
    | succ nF ih_4 =>
      intro made n2 k hm hi4_0 hi4_1 hi4_2 H locs ls hG hS hl
      have hmr := pwm_r v k
      have hml2 := mulR (a := made) (b := v) (A := 30) (B := 30) (by omega) (by omega)
      refine lv_iload_n hx hb dX4_inverse_4 rfl (lv_at hl 0 rfl) ?_
      refine g_bipush hx hb dX4_inverse_5 (by decide) ?_
      refine g_icmp_ge (tgt := 23) hx hb dX4_inverse_7 (by decide) (by omega) (by omega) (fun cq1 => ?_) (fun cq1 => ?_)
      · refine lv_iload_n hx hb dX4_inverse_23 rfl (lv_at hl 1 rfl) ?_
        exact g_iret hx hb hr hlocks hQ hG hS (Nat.zero_le _) (Nat.zero_le _) ⟨_, rfl, ⟨(by rw [hi4_2, ← pwm_29 h0, show k = 29 by omega]), (by omega)⟩, rfl⟩ dX4_inverse_24
      · refine lv_iload_n hx hb dX4_inverse_10 rfl (lv_at hl 1 rfl) ?_
        refine lv_iload_n hx hb dX4_inverse_11 rfl (lv_at hl 2 rfl) ?_
        refine g_imul hx hb dX4_inverse_12 ?_
        refine g_bipush hx hb dX4_inverse_13 (by decide) ?_
        refine g_irem hx hb dX4_inverse_15 (by omega) (by omega) ?_
        refine lv_istore_n (lv' := [(1, .int (iI ((made * v) % 31))), (2, .int (iI n2)), (0, .int (iI v))]) hx hb dX4_inverse_16 rfl hl (by decide) rfl (fun ls hl => ?_)
        refine g_iinc (lv' := [(2, .int (iI (n2 + 1))), (1, .int (iI ((made * v) % 31))), (0, .int (iI v))]) hx hb dX4_inverse_17 hl (k := 1) rfl (by decide) rfl (fun ls hl => ?_)
        refine lv_goto (tgt := 4) hx hb dX4_inverse_20 (by decide) ?_
        exact ih_4 ((made * v) % 31) (n2 + 1) (k + 1) (by omega) (by omega) (by omega) (by rw [hi4_2]; rfl)  _ _ _ hG hS (lv_sub hl [0, 1, 2] rfl)
  exact loop_4 _ 1 0 0 (Nat.lt_succ_self _) (by decide) (rfl) (rfl)  _ _ _ hG hS (lv_sub hl [0, 1, 2] rfl)

theorem mX4_by (l : Launch) (X : gX) (σ : gS)  (u : Int) (v : Int) (h0 : 0 ≤ u ∧ u ≤ 30) (h1 : 0 ≤ v ∧ v ≤ 30) : gMet l X yX4_by cX4_by 2 (some .int) 1 0 0 22 σ [.int (iI u), .int (iI v)] (oI (fun r σ' => (r = byZ u v ∧ (r = -6 ∨ (0 ≤ r ∧ r ≤ 31))) ∧ σ = σ')) := by
  refine gMet.of (by decide) (Nat.le_of_ble_eq_true rfl) ?_
  intro pp ee ss mm args below meth cd Q H locs ls hargs hx hb hr hlocks hml hown hnm hts hK hG hS hQ hl
  have hown : ss.vm.findClass RX4 = some mm.cls := hown
  have hl : lv_has ls 2 [(0, .int (iI u)), (1, .int (iI v))] := hl
  refine lv_iload_n hx hb dX4_by_0 rfl (lv_at hl 1 rfl) ?_
  refine g_if_eq (tgt := 16) hx hb dX4_by_1 (by decide) (by omega) (fun cq1 => ?_) (fun cq1 => ?_)
  · refine lv_iload_n hx hb dX4_by_16 rfl (lv_at hl 0 rfl) ?_
    refine g_if_eq (tgt := 25) hx hb dX4_by_17 (by decide) (by omega) (fun cq2 => ?_) (fun cq2 => ?_)
    · refine g_bipush hx hb dX4_by_25 (by decide) ?_
      exact g_iret hx hb hr hlocks hQ hG hS (Nat.zero_le _) (Nat.zero_le _) ⟨_, rfl, ⟨(by unfold byZ; first | (rw [if_neg (by assumption)]; simp only [*]) | (rw [if_pos (by assumption), if_neg (by assumption)]) | (rw [if_pos (by assumption), if_pos (by assumption)])), (by omega)⟩, rfl⟩ dX4_by_27
    · refine g_bipush hx hb dX4_by_20 (by decide) ?_
      refine lv_goto (tgt := 27) hx hb dX4_by_22 (by decide) ?_
      exact g_iret hx hb hr hlocks hQ hG hS (Nat.zero_le _) (Nat.zero_le _) ⟨_, rfl, ⟨(by unfold byZ; first | (rw [if_neg (by assumption)]; simp only [*]) | (rw [if_pos (by assumption), if_neg (by assumption)]) | (rw [if_pos (by assumption), if_pos (by assumption)])), (by omega)⟩, rfl⟩ dX4_by_27
  · refine lv_iload_n hx hb dX4_by_4 rfl (lv_at hl 0 rfl) ?_
    refine lv_iload_n hx hb dX4_by_5 rfl (lv_at hl 1 rfl) ?_
    refine g_callS (As := [.int (iI v)]) (rest := [.int (iI u)]) 1 hx hb hml hown hts hK hG hS hl.1 (mX4_inverse l X σ  v (by omega)) q2097 q2098 q86 q2099 (by decide +kernel) rfl ⟨Nat.le_of_ble_eq_true rfl, Nat.le_of_ble_eq_true rfl⟩ ⟨Nat.le_of_ble_eq_true rfl, Nat.le_of_ble_eq_true rfl⟩ (Nat.le_of_ble_eq_true rfl) dX4_by_6 (kI (fun r3 σr3 H locs hp hG hS => ?_))
    obtain ⟨⟨hr3, kr3⟩, rfl⟩ := hp
    have hm9 := mulR (a := u) (b := r3) (A := 30) (B := 30) (by omega) (by omega)
    refine g_imul hx hb dX4_by_9 ?_
    refine g_bipush hx hb dX4_by_10 (by decide) ?_
    refine g_irem hx hb dX4_by_12 (by omega) (by omega) ?_
    refine lv_goto (tgt := 27) hx hb dX4_by_13 (by decide) ?_
    exact g_iret hx hb hr hlocks hQ hG hS (Nat.zero_le _) (Nat.zero_le _) ⟨_, rfl, ⟨(by unfold byZ; first | (rw [if_neg (by assumption)]; simp only [*]) | (rw [if_pos (by assumption), if_neg (by assumption)]) | (rw [if_pos (by assumption), if_pos (by assumption)])), (by omega)⟩, rfl⟩ dX4_by_27

theorem mX4_isCoordinate (l : Launch) (X : gX) (σ : gS)  (c : Int) (h0 : -2147483648 ≤ c ∧ c ≤ 2147483647) : gMet l X yX4_isCoordinate cX4_isCoordinate 1 (some .boolean) 1 0 0 25 σ [.int (iI c)] (oI (fun r σ' => ((r = 1 ∧ (0 ≤ c ∧ c ≤ 31)) ∨ (r = 0 ∧ ¬ (0 ≤ c ∧ c ≤ 31))) ∧ σ = σ')) := by
  refine gMet.of (by decide) (Nat.le_of_ble_eq_true rfl) ?_
  intro pp ee ss mm args below meth cd Q H locs ls hargs hx hb hr hlocks hml hown hnm hts hK hG hS hQ hl
  have hown : ss.vm.findClass RX4 = some mm.cls := hown
  have hl : lv_has ls 1 [(0, .int (iI c))] := hl
  refine lv_iload_n hx hb dX4_isCoordinate_0 rfl (lv_at hl 0 rfl) ?_
  refine g_i2l hx hb dX4_isCoordinate_1 (by omega) ?_
  refine lv_lconst (v := lI 0) hx hb dX4_isCoordinate_2 (by decide) ?_
  refine g_ldc2 hx hb (31) hown (hts _ q2078) (by decide) dX4_isCoordinate_3 ?_
  refine g_callS (As := [.long (lI c), .long (lI 0), .long (lI (31))]) (rest := []) 3 hx hb hml hown hts hK hG hS hl.1 (mX4_in l X σ  c 0 (31) (by omega) (by omega) (by omega)) q2056 q2057 q86 q2058 (by decide +kernel) rfl ⟨Nat.le_of_ble_eq_true rfl, Nat.le_of_ble_eq_true rfl⟩ ⟨Nat.le_of_ble_eq_true rfl, Nat.le_of_ble_eq_true rfl⟩ (Nat.le_of_ble_eq_true rfl) dX4_isCoordinate_6 (kI (fun r1 σr1 H locs hp hG hS => ?_))
  obtain ⟨hr1, rfl⟩ := hp
  exact g_zret hx hb hr hlocks hQ hG hS (Nat.zero_le _) (Nat.zero_le _) (gnz (by omega)) ⟨_, rfl, (by omega), rfl⟩ dX4_isCoordinate_9

theorem mX4_isSpot (l : Launch) (X : gX) (σ : gS)  (x : Int) (y : Int) (h0 : -2147483648 ≤ x ∧ x ≤ 2147483647) (h1 : -2147483648 ≤ y ∧ y ≤ 2147483647) : gMet l X yX4_isSpot cX4_isSpot 2 (some .boolean) 2 0 0 45 σ [.int (iI x), .int (iI y)] (oI (fun r σ' => ((r = 1 ∧ ((0 ≤ x ∧ x ≤ 31) ∧ (0 ≤ y ∧ y ≤ 31))) ∨ (r = 0 ∧ ¬ ((0 ≤ x ∧ x ≤ 31) ∧ (0 ≤ y ∧ y ≤ 31)))) ∧ σ = σ')) := by
  refine gMet.of (by decide) (Nat.le_of_ble_eq_true rfl) ?_
  intro pp ee ss mm args below meth cd Q H locs ls hargs hx hb hr hlocks hml hown hnm hts hK hG hS hQ hl
  have hown : ss.vm.findClass RX4 = some mm.cls := hown
  have hl : lv_has ls 2 [(0, .int (iI x)), (1, .int (iI y))] := hl
  refine lv_iload_n hx hb dX4_isSpot_0 rfl (lv_at hl 0 rfl) ?_
  refine g_callS (As := [.int (iI x)]) (rest := []) 1 hx hb hml hown hts hK hG hS hl.1 (mX4_isCoordinate l X σ  x (by omega)) q2075 q2076 q86 q2077 (by decide +kernel) rfl ⟨Nat.le_of_ble_eq_true rfl, Nat.le_of_ble_eq_true rfl⟩ ⟨Nat.le_of_ble_eq_true rfl, Nat.le_of_ble_eq_true rfl⟩ (Nat.le_of_ble_eq_true rfl) dX4_isSpot_1 (kI (fun r1 σr1 H locs hp hG hS => ?_))
  obtain ⟨hr1, rfl⟩ := hp
  refine g_if_eq (tgt := 18) hx hb dX4_isSpot_4 (by decide) (by omega) (fun cq2 => ?_) (fun cq2 => ?_)
  · refine g_iconst hx hb dX4_isSpot_18 ?_
    exact g_zret hx hb hr hlocks hQ hG hS (Nat.zero_le _) (Nat.zero_le _) (gnz (by omega)) ⟨_, rfl, (by omega), rfl⟩ dX4_isSpot_19
  · refine lv_iload_n hx hb dX4_isSpot_7 rfl (lv_at hl 1 rfl) ?_
    refine g_callS (As := [.int (iI y)]) (rest := []) 1 hx hb hml hown hts hK hG hS hl.1 (mX4_isCoordinate l X σ  y (by omega)) q2075 q2076 q86 q2077 (by decide +kernel) rfl ⟨Nat.le_of_ble_eq_true rfl, Nat.le_of_ble_eq_true rfl⟩ ⟨Nat.le_of_ble_eq_true rfl, Nat.le_of_ble_eq_true rfl⟩ (Nat.le_of_ble_eq_true rfl) dX4_isSpot_8 (kI (fun r3 σr3 H locs hp hG hS => ?_))
    obtain ⟨hr3, rfl⟩ := hp
    refine g_if_eq (tgt := 18) hx hb dX4_isSpot_11 (by decide) (by omega) (fun cq4 => ?_) (fun cq4 => ?_)
    · refine g_iconst hx hb dX4_isSpot_18 ?_
      exact g_zret hx hb hr hlocks hQ hG hS (Nat.zero_le _) (Nat.zero_le _) (gnz (by omega)) ⟨_, rfl, (by omega), rfl⟩ dX4_isSpot_19
    · refine g_iconst hx hb dX4_isSpot_14 ?_
      refine lv_goto (tgt := 19) hx hb dX4_isSpot_15 (by decide) ?_
      exact g_zret hx hb hr hlocks hQ hG hS (Nat.zero_le _) (Nat.zero_le _) (gnz (by omega)) ⟨_, rfl, (by omega), rfl⟩ dX4_isSpot_19

theorem mX4_placeOf (l : Launch) (X : gX) (σ : gS)  (t : Int) (i : Int) (j : Int) (h0 : -2147483648 ≤ t ∧ t ≤ 2147483647) (h1 : -2147483648 ≤ i ∧ i ≤ 2147483647) (h2 : -2147483648 ≤ j ∧ j ≤ 2147483647) : gMet l X yX4_placeOf cX4_placeOf 3 (some .int) 0 0 0 0 σ [.int (iI t), .int (iI i), .int (iI j)] (oI (fun r σ' => r = 9 * t + 3 * i + j ∧ σ = σ')) := by
  refine gMet.of (by decide) (Nat.le_of_ble_eq_true rfl) ?_
  intro pp ee ss mm args below meth cd Q H locs ls hargs hx hb hr hlocks hml hown hnm hts hK hG hS hQ hl
  have hown : ss.vm.findClass RX4 = some mm.cls := hown
  have hl : lv_has ls 3 [(0, .int (iI t)), (1, .int (iI i)), (2, .int (iI j))] := hl
  refine g_bipush hx hb dX4_placeOf_0 (by decide) ?_
  refine lv_iload_n hx hb dX4_placeOf_2 rfl (lv_at hl 0 rfl) ?_
  refine g_imul hx hb dX4_placeOf_3 ?_
  refine g_iconst hx hb dX4_placeOf_4 ?_
  refine lv_iload_n hx hb dX4_placeOf_5 rfl (lv_at hl 1 rfl) ?_
  refine g_imul hx hb dX4_placeOf_6 ?_
  refine g_iadd hx hb dX4_placeOf_7 ?_
  refine lv_iload_n hx hb dX4_placeOf_8 rfl (lv_at hl 2 rfl) ?_
  refine g_iadd hx hb dX4_placeOf_9 ?_
  exact g_iret hx hb hr hlocks hQ hG hS (Nat.zero_le _) (Nat.zero_le _) ⟨_, rfl, (by omega), rfl⟩ dX4_placeOf_10

theorem mX4_isPlace (l : Launch) (X : gX) (σ : gS)  (t : Int) (i : Int) (j : Int) (h0 : -2147483648 ≤ t ∧ t ≤ 2147483647) (h1 : -2147483648 ≤ i ∧ i ≤ 2147483647) (h2 : -2147483648 ≤ j ∧ j ≤ 2147483647) : gMet l X yX4_isPlace cX4_isPlace 3 (some .boolean) 1 0 0 25 σ [.int (iI t), .int (iI i), .int (iI j)] (oI (fun r σ' => ((r = 1 ∧ ((0 ≤ t ∧ t ≤ 1) ∧ (0 ≤ i ∧ i ≤ 2) ∧ (0 ≤ j ∧ j ≤ 2))) ∨ (r = 0 ∧ ¬ ((0 ≤ t ∧ t ≤ 1) ∧ (0 ≤ i ∧ i ≤ 2) ∧ (0 ≤ j ∧ j ≤ 2)))) ∧ σ = σ')) := by
  refine gMet.of (by decide) (Nat.le_of_ble_eq_true rfl) ?_
  intro pp ee ss mm args below meth cd Q H locs ls hargs hx hb hr hlocks hml hown hnm hts hK hG hS hQ hl
  have hown : ss.vm.findClass RX4 = some mm.cls := hown
  have hl : lv_has ls 3 [(0, .int (iI t)), (1, .int (iI i)), (2, .int (iI j))] := hl
  refine lv_iload_n hx hb dX4_isPlace_0 rfl (lv_at hl 0 rfl) ?_
  refine g_i2l hx hb dX4_isPlace_1 (by omega) ?_
  refine lv_lconst (v := lI 0) hx hb dX4_isPlace_2 (by decide) ?_
  refine lv_lconst (v := lI 1) hx hb dX4_isPlace_3 (by decide) ?_
  refine g_callS (As := [.long (lI t), .long (lI 0), .long (lI 1)]) (rest := []) 3 hx hb hml hown hts hK hG hS hl.1 (mX4_in l X σ  t 0 1 (by omega) (by omega) (by omega)) q2056 q2057 q86 q2058 (by decide +kernel) rfl ⟨Nat.le_of_ble_eq_true rfl, Nat.le_of_ble_eq_true rfl⟩ ⟨Nat.le_of_ble_eq_true rfl, Nat.le_of_ble_eq_true rfl⟩ (Nat.le_of_ble_eq_true rfl) dX4_isPlace_4 (kI (fun r1 σr1 H locs hp hG hS => ?_))
  obtain ⟨hr1, rfl⟩ := hp
  refine g_if_eq (tgt := 38) hx hb dX4_isPlace_7 (by decide) (by omega) (fun cq2 => ?_) (fun cq2 => ?_)
  · refine g_iconst hx hb dX4_isPlace_38 ?_
    exact g_zret hx hb hr hlocks hQ hG hS (Nat.zero_le _) (Nat.zero_le _) (gnz (by omega)) ⟨_, rfl, (by omega), rfl⟩ dX4_isPlace_39
  · refine lv_iload_n hx hb dX4_isPlace_10 rfl (lv_at hl 1 rfl) ?_
    refine g_i2l hx hb dX4_isPlace_11 (by omega) ?_
    refine lv_lconst (v := lI 0) hx hb dX4_isPlace_12 (by decide) ?_
    refine g_ldc2 hx hb (2) hown (hts _ q2059) (by decide) dX4_isPlace_13 ?_
    refine g_callS (As := [.long (lI i), .long (lI 0), .long (lI (2))]) (rest := []) 3 hx hb hml hown hts hK hG hS hl.1 (mX4_in l X σ  i 0 (2) (by omega) (by omega) (by omega)) q2056 q2057 q86 q2058 (by decide +kernel) rfl ⟨Nat.le_of_ble_eq_true rfl, Nat.le_of_ble_eq_true rfl⟩ ⟨Nat.le_of_ble_eq_true rfl, Nat.le_of_ble_eq_true rfl⟩ (Nat.le_of_ble_eq_true rfl) dX4_isPlace_16 (kI (fun r3 σr3 H locs hp hG hS => ?_))
    obtain ⟨hr3, rfl⟩ := hp
    refine g_if_eq (tgt := 38) hx hb dX4_isPlace_19 (by decide) (by omega) (fun cq4 => ?_) (fun cq4 => ?_)
    · refine g_iconst hx hb dX4_isPlace_38 ?_
      exact g_zret hx hb hr hlocks hQ hG hS (Nat.zero_le _) (Nat.zero_le _) (gnz (by omega)) ⟨_, rfl, (by omega), rfl⟩ dX4_isPlace_39
    · refine lv_iload_n hx hb dX4_isPlace_22 rfl (lv_at hl 2 rfl) ?_
      refine g_i2l hx hb dX4_isPlace_23 (by omega) ?_
      refine lv_lconst (v := lI 0) hx hb dX4_isPlace_24 (by decide) ?_
      refine g_ldc2 hx hb (2) hown (hts _ q2059) (by decide) dX4_isPlace_25 ?_
      refine g_callS (As := [.long (lI j), .long (lI 0), .long (lI (2))]) (rest := []) 3 hx hb hml hown hts hK hG hS hl.1 (mX4_in l X σ  j 0 (2) (by omega) (by omega) (by omega)) q2056 q2057 q86 q2058 (by decide +kernel) rfl ⟨Nat.le_of_ble_eq_true rfl, Nat.le_of_ble_eq_true rfl⟩ ⟨Nat.le_of_ble_eq_true rfl, Nat.le_of_ble_eq_true rfl⟩ (Nat.le_of_ble_eq_true rfl) dX4_isPlace_28 (kI (fun r5 σr5 H locs hp hG hS => ?_))
      obtain ⟨hr5, rfl⟩ := hp
      refine g_if_eq (tgt := 38) hx hb dX4_isPlace_31 (by decide) (by omega) (fun cq6 => ?_) (fun cq6 => ?_)
      · refine g_iconst hx hb dX4_isPlace_38 ?_
        exact g_zret hx hb hr hlocks hQ hG hS (Nat.zero_le _) (Nat.zero_le _) (gnz (by omega)) ⟨_, rfl, (by omega), rfl⟩ dX4_isPlace_39
      · refine g_iconst hx hb dX4_isPlace_34 ?_
        refine lv_goto (tgt := 39) hx hb dX4_isPlace_35 (by decide) ?_
        exact g_zret hx hb hr hlocks hQ hG hS (Nat.zero_le _) (Nat.zero_le _) (gnz (by omega)) ⟨_, rfl, (by omega), rfl⟩ dX4_isPlace_39

theorem mX4_power (l : Launch) (X : gX) (σ : gS)  (c : Int) (i : Int) (h0 : 0 ≤ c ∧ c ≤ 31) (h1 : 0 ≤ i ∧ i ≤ 2) : gMet l X yX4_power cX4_power 2 (some .int) 0 0 0 0 σ [.int (iI c), .int (iI i)] (oI (fun r σ' => (r = pw c i ∧ (0 ≤ r ∧ r ≤ 30)) ∧ σ = σ')) := by
  refine gMet.of (by decide) (Nat.le_of_ble_eq_true rfl) ?_
  intro pp ee ss mm args below meth cd Q H locs ls hargs hx hb hr hlocks hml hown hnm hts hK hG hS hQ hl
  have hown : ss.vm.findClass RX4 = some mm.cls := hown
  have hl : lv_has ls 2 [(0, .int (iI c)), (1, .int (iI i))] := hl
  refine lv_iload_n hx hb dX4_power_0 rfl (lv_at hl 0 rfl) ?_
  refine g_bipush hx hb dX4_power_1 (by decide) ?_
  refine g_icmp_ne (tgt := 17) hx hb dX4_power_3 (by decide) (by omega) (by omega) (fun cq1 => ?_) (fun cq1 => ?_)
  · refine lv_iload_n hx hb dX4_power_17 rfl (lv_at hl 1 rfl) ?_
    refine g_if_ne (tgt := 25) hx hb dX4_power_18 (by decide) (by omega) (fun cq2 => ?_) (fun cq2 => ?_)
    · refine lv_iload_n hx hb dX4_power_25 rfl (lv_at hl 1 rfl) ?_
      refine g_iconst hx hb dX4_power_26 ?_
      refine g_icmp_ne (tgt := 34) hx hb dX4_power_27 (by decide) (by omega) (by omega) (fun cq3 => ?_) (fun cq3 => ?_)
      · have hm9 := mulR (a := c) (b := c) (A := 31) (B := 31) h0 h0
        refine lv_iload_n hx hb dX4_power_34 rfl (lv_at hl 0 rfl) ?_
        refine lv_iload_n hx hb dX4_power_35 rfl (lv_at hl 0 rfl) ?_
        refine g_imul hx hb dX4_power_36 ?_
        refine g_bipush hx hb dX4_power_37 (by decide) ?_
        refine g_irem hx hb dX4_power_39 (by omega) (by omega) ?_
        exact g_iret hx hb hr hlocks hQ hG hS (Nat.zero_le _) (Nat.zero_le _) ⟨_, rfl, ⟨(by unfold pw; repeat (first | rw [if_pos (by assumption)] | rw [if_neg (by assumption)])), (by have := pw_r (k := i) h0; first | omega | (simp only [*]; omega))⟩, rfl⟩ dX4_power_40
      · refine lv_iload_n hx hb dX4_power_30 rfl (lv_at hl 0 rfl) ?_
        refine lv_goto (tgt := 40) hx hb dX4_power_31 (by decide) ?_
        exact g_iret hx hb hr hlocks hQ hG hS (Nat.zero_le _) (Nat.zero_le _) ⟨_, rfl, ⟨(by unfold pw; repeat (first | rw [if_pos (by assumption)] | rw [if_neg (by assumption)])), (by have := pw_r (k := i) h0; first | omega | (simp only [*]; omega))⟩, rfl⟩ dX4_power_40
    · refine g_iconst hx hb dX4_power_21 ?_
      refine lv_goto (tgt := 40) hx hb dX4_power_22 (by decide) ?_
      exact g_iret hx hb hr hlocks hQ hG hS (Nat.zero_le _) (Nat.zero_le _) ⟨_, rfl, ⟨(by unfold pw; repeat (first | rw [if_pos (by assumption)] | rw [if_neg (by assumption)])), (by have := pw_r (k := i) h0; first | omega | (simp only [*]; omega))⟩, rfl⟩ dX4_power_40
  · refine lv_iload_n hx hb dX4_power_6 rfl (lv_at hl 1 rfl) ?_
    refine g_iconst hx hb dX4_power_7 ?_
    refine g_icmp_ne (tgt := 15) hx hb dX4_power_8 (by decide) (by omega) (by omega) (fun cq4 => ?_) (fun cq4 => ?_)
    · refine g_iconst hx hb dX4_power_15 ?_
      exact g_iret hx hb hr hlocks hQ hG hS (Nat.zero_le _) (Nat.zero_le _) ⟨_, rfl, ⟨(by unfold pw; repeat (first | rw [if_pos (by assumption)] | rw [if_neg (by assumption)])), (by have := pw_r (k := i) h0; first | omega | (simp only [*]; omega))⟩, rfl⟩ dX4_power_16
    · refine g_iconst hx hb dX4_power_11 ?_
      refine lv_goto (tgt := 16) hx hb dX4_power_12 (by decide) ?_
      exact g_iret hx hb hr hlocks hQ hG hS (Nat.zero_le _) (Nat.zero_le _) ⟨_, rfl, ⟨(by unfold pw; repeat (first | rw [if_pos (by assumption)] | rw [if_neg (by assumption)])), (by have := pw_r (k := i) h0; first | omega | (simp only [*]; omega))⟩, rfl⟩ dX4_power_16

theorem md_mul (a b : Int) : a % 31 * b % 31 = a * b % 31 := by rw [Int.mul_emod, Int.emod_emod, ← Int.mul_emod]
theorem md_row (a b c x : Int) : (a % 31 + b % 31 + c % 31) % 31 * x % 31 = (a * x % 31 + b * x % 31 + c * x % 31) % 31 := by
  rw [md_mul, show (a % 31 + b % 31 + c % 31) * x = a % 31 * x + b % 31 * x + c % 31 * x by grind]
  have h1 := md_mul a x
  have h2 := md_mul b x
  have h3 := md_mul c x
  omega
theorem md_sw (a b x : Int) : a * b % 31 * x % 31 = a * x % 31 * b % 31 := by
  rw [md_mul, md_mul, Int.mul_assoc, Int.mul_comm b x, ← Int.mul_assoc]
theorem val_m (e00 e01 e02 e10 e11 e12 e20 e21 e22 x0 x1 x2 y0 y1 y2 : Int) :
    (0 + e00 * x0 % 31 * y0 % 31 + e01 * x0 % 31 * y1 % 31 + e02 * x0 % 31 * y2 % 31 + e10 * x1 % 31 * y0 % 31 + e11 * x1 % 31 * y1 % 31 + e12 * x1 % 31 * y2 % 31 + e20 * x2 % 31 * y0 % 31 + e21 * x2 % 31 * y1 % 31 + e22 * x2 % 31 * y2 % 31) % 31
    = ((e00 * y0 % 31 + e01 * y1 % 31 + e02 * y2 % 31) % 31 * x0 % 31 + (e10 * y0 % 31 + e11 * y1 % 31 + e12 * y2 % 31) % 31 * x1 % 31 + (e20 * y0 % 31 + e21 * y1 % 31 + e22 * y2 % 31) % 31 * x2 % 31) % 31 := by
  rw [md_row, md_row, md_row, md_sw e00 x0, md_sw e01 x0, md_sw e02 x0, md_sw e10 x1, md_sw e11 x1, md_sw e12 x1, md_sw e20 x2, md_sw e21 x2, md_sw e22 x2]
  simp only [md_mul]
  omega

set_option maxHeartbeats 4000000 in
theorem mX4_valueAt (l : Launch) (X : gX) (σ : gS) (o : Nat) (a : Nat → Nat) (V : Nat → Int → Int) (Iv : Nat → Int) (hM : MW X σ o a V Iv) (hT : okT (V 0)) (t : Int) (x : Int) (y : Int) (h0 : 0 ≤ t ∧ t ≤ 1) (h1 : 0 ≤ x ∧ x ≤ 31) (h2 : 0 ≤ y ∧ y ≤ 31) : gMet l X yX4_valueAt cX4_valueAt 7 (some .int) 1 0 0 22 σ [.ref o, .int (iI t), .int (iI x), .int (iI y)] (oI (fun r σ' => (r = valZ (V 0) t x y ∧ (0 ≤ r ∧ r ≤ 30)) ∧ σ = σ')) := by
  refine gMet.of (by decide) (Nat.le_of_ble_eq_true rfl) ?_
  intro pp ee ss mm args below meth cd Q H locs ls hargs hx hb hr hlocks hml hown hnm hts hK hG hS hQ hl
  have hown : ss.vm.findClass RX4 = some mm.cls := hown
  have hl : lv_has ls 7 [(0, .ref o), (1, .int (iI t)), (2, .int (iI x)), (3, .int (iI y))] := hl
  refine g_iconst hx hb dX4_valueAt_0 ?_
  refine lv_istore (lv' := [(4, .int (iI 0)), (0, .ref o), (1, .int (iI t)), (2, .int (iI x)), (3, .int (iI y))]) hx hb dX4_valueAt_1 hl (by decide) rfl (fun ls hl => ?_)
  refine g_iconst hx hb dX4_valueAt_3 ?_
  refine lv_istore (lv' := [(5, .int (iI 0)), (4, .int (iI 0)), (0, .ref o), (1, .int (iI t)), (2, .int (iI x)), (3, .int (iI y))]) hx hb dX4_valueAt_4 hl (by decide) rfl (fun ls hl => ?_)
  refine lv_iload hx hb dX4_valueAt_6 (lv_at hl 0 rfl) ?_
  refine g_iconst hx hb dX4_valueAt_8 ?_
  refine g_icmp_ge (tgt := 71) hx hb dX4_valueAt_9 (by decide) (by omega) (by omega) (fun cq1 => absurd cq1 (by decide)) (fun cq1 => ?_)
  refine g_iconst hx hb dX4_valueAt_12 ?_
  refine lv_istore (lv' := [(6, .int (iI 0)), (5, .int (iI 0)), (4, .int (iI 0)), (0, .ref o), (1, .int (iI t)), (2, .int (iI x)), (3, .int (iI y))]) hx hb dX4_valueAt_13 hl (by decide) rfl (fun ls hl => ?_)
  refine lv_iload hx hb dX4_valueAt_15 (lv_at hl 0 rfl) ?_
  refine g_iconst hx hb dX4_valueAt_17 ?_
  refine g_icmp_ge (tgt := 65) hx hb dX4_valueAt_18 (by decide) (by omega) (by omega) (fun cq2 => absurd cq2 (by decide)) (fun cq2 => ?_)
  refine lv_iload hx hb dX4_valueAt_21 (lv_at hl 2 rfl) ?_
  refine lv_aload_n hx hb dX4_valueAt_23 rfl (lv_at hl 3 rfl) ?_
  refine g_get (C := RX4) (T := TX4) (N := 30) (v := .ref (a 0)) hx hb hts hown hK hG hM.o rfl in_X4 0 (by decide) q1958 rfl rfl dX4_valueAt_24 ?_
  refine lv_iload_n hx hb dX4_valueAt_27 rfl (lv_at hl 4 rfl) ?_
  refine lv_iload hx hb dX4_valueAt_28 (lv_at hl 1 rfl) ?_
  refine lv_iload hx hb dX4_valueAt_30 (lv_at hl 0 rfl) ?_
  refine g_callS (As := [.int (iI t), .int (iI 0), .int (iI 0)]) (rest := [.ref (a 0), .int (iI 0)]) 3 hx hb hml hown hts hK hG hS hl.1 (mX4_placeOf l X σ  t 0 0 (by omega) (by omega) (by omega)) q2061 q2062 q86 q2063 (by decide +kernel) rfl ⟨Nat.le_of_ble_eq_true rfl, Nat.le_of_ble_eq_true rfl⟩ ⟨Nat.le_of_ble_eq_true rfl, Nat.le_of_ble_eq_true rfl⟩ (Nat.le_of_ble_eq_true rfl) dX4_valueAt_32 (kI (fun r3 σr3 H locs hp hG hS => ?_))
  obtain ⟨hr3, rfl⟩ := hp
  refine g_iald hx hb hK hG hM.a0 dX4_valueAt_35 (by omega) ?_
  refine g_name (fun w4 ew4 => ?_)
  have hw4 : 0 ≤ w4 ∧ w4 ≤ 30 := by rw [ew4]; exact hT _ (by omega) (by omega)
  refine lv_iload_n hx hb dX4_valueAt_36 rfl (lv_at hl 5 rfl) ?_
  refine lv_iload hx hb dX4_valueAt_37 (lv_at hl 1 rfl) ?_
  refine g_callS (As := [.int (iI x), .int (iI 0)]) (rest := [.int (iI w4), .int (iI 0)]) 2 hx hb hml hown hts hK hG hS hl.1 (mX4_power l X σ  x 0 (by omega) (by omega)) q2083 q2084 q86 q2085 (by decide +kernel) rfl ⟨Nat.le_of_ble_eq_true rfl, Nat.le_of_ble_eq_true rfl⟩ ⟨Nat.le_of_ble_eq_true rfl, Nat.le_of_ble_eq_true rfl⟩ (Nat.le_of_ble_eq_true rfl) dX4_valueAt_39 (kI (fun r5 σr5 H locs hp hG hS => ?_))
  obtain ⟨⟨hr5, kr5⟩, rfl⟩ := hp
  have hp6 := mulR (a := w4) (b := r5) (A := 31) (B := 31) (by omega) (by omega)
  refine g_imul hx hb dX4_valueAt_42 ?_
  refine g_bipush hx hb dX4_valueAt_43 (by decide) ?_
  refine g_irem hx hb dX4_valueAt_45 (by omega) (by omega) ?_
  refine lv_iload_n hx hb dX4_valueAt_46 rfl (lv_at hl 6 rfl) ?_
  refine lv_iload hx hb dX4_valueAt_47 (lv_at hl 0 rfl) ?_
  refine g_callS (As := [.int (iI y), .int (iI 0)]) (rest := [.int (iI ((w4 * r5) % 31)), .int (iI 0)]) 2 hx hb hml hown hts hK hG hS hl.1 (mX4_power l X σ  y 0 (by omega) (by omega)) q2083 q2084 q86 q2085 (by decide +kernel) rfl ⟨Nat.le_of_ble_eq_true rfl, Nat.le_of_ble_eq_true rfl⟩ ⟨Nat.le_of_ble_eq_true rfl, Nat.le_of_ble_eq_true rfl⟩ (Nat.le_of_ble_eq_true rfl) dX4_valueAt_49 (kI (fun r7 σr7 H locs hp hG hS => ?_))
  obtain ⟨⟨hr7, kr7⟩, rfl⟩ := hp
  have hp8 := mulR (a := (w4 * r5) % 31) (b := r7) (A := 31) (B := 31) (by omega) (by omega)
  refine g_imul hx hb dX4_valueAt_52 ?_
  refine g_bipush hx hb dX4_valueAt_53 (by decide) ?_
  refine g_irem hx hb dX4_valueAt_55 (by omega) (by omega) ?_
  refine g_iadd hx hb dX4_valueAt_56 ?_
  refine lv_istore (lv' := [(4, .int (iI (0 + ((((w4 * r5) % 31) * r7) % 31)))), (6, .int (iI 0)), (5, .int (iI 0)), (0, .ref o), (1, .int (iI t)), (2, .int (iI x)), (3, .int (iI y))]) hx hb dX4_valueAt_57 hl (by decide) rfl (fun ls hl => ?_)
  refine g_iinc (lv' := [(6, .int (iI (0 + 1))), (4, .int (iI (0 + ((((w4 * r5) % 31) * r7) % 31)))), (5, .int (iI 0)), (0, .ref o), (1, .int (iI t)), (2, .int (iI x)), (3, .int (iI y))]) hx hb dX4_valueAt_59 hl (k := 1) rfl (by decide) rfl (fun ls hl => ?_)
  have hl : lv_has ls 7 [(6, .int (iI 1)), (4, .int (iI (0 + ((((w4 * r5) % 31) * r7) % 31)))), (5, .int (iI 0)), (0, .ref o), (1, .int (iI t)), (2, .int (iI x)), (3, .int (iI y))] := hl
  refine lv_goto (tgt := 15) hx hb dX4_valueAt_62 (by decide) ?_
  refine lv_iload hx hb dX4_valueAt_15 (lv_at hl 0 rfl) ?_
  refine g_iconst hx hb dX4_valueAt_17 ?_
  refine g_icmp_ge (tgt := 65) hx hb dX4_valueAt_18 (by decide) (by omega) (by omega) (fun cq9 => absurd cq9 (by decide)) (fun cq9 => ?_)
  refine lv_iload hx hb dX4_valueAt_21 (lv_at hl 1 rfl) ?_
  refine lv_aload_n hx hb dX4_valueAt_23 rfl (lv_at hl 3 rfl) ?_
  refine g_get (C := RX4) (T := TX4) (N := 30) (v := .ref (a 0)) hx hb hts hown hK hG hM.o rfl in_X4 0 (by decide) q1958 rfl rfl dX4_valueAt_24 ?_
  refine lv_iload_n hx hb dX4_valueAt_27 rfl (lv_at hl 4 rfl) ?_
  refine lv_iload hx hb dX4_valueAt_28 (lv_at hl 2 rfl) ?_
  refine lv_iload hx hb dX4_valueAt_30 (lv_at hl 0 rfl) ?_
  refine g_callS (As := [.int (iI t), .int (iI 0), .int (iI 1)]) (rest := [.ref (a 0), .int (iI (0 + ((((w4 * r5) % 31) * r7) % 31)))]) 3 hx hb hml hown hts hK hG hS hl.1 (mX4_placeOf l X σ  t 0 1 (by omega) (by omega) (by omega)) q2061 q2062 q86 q2063 (by decide +kernel) rfl ⟨Nat.le_of_ble_eq_true rfl, Nat.le_of_ble_eq_true rfl⟩ ⟨Nat.le_of_ble_eq_true rfl, Nat.le_of_ble_eq_true rfl⟩ (Nat.le_of_ble_eq_true rfl) dX4_valueAt_32 (kI (fun r10 σr10 H locs hp hG hS => ?_))
  obtain ⟨hr10, rfl⟩ := hp
  refine g_iald hx hb hK hG hM.a0 dX4_valueAt_35 (by omega) ?_
  refine g_name (fun w11 ew11 => ?_)
  have hw11 : 0 ≤ w11 ∧ w11 ≤ 30 := by rw [ew11]; exact hT _ (by omega) (by omega)
  refine lv_iload_n hx hb dX4_valueAt_36 rfl (lv_at hl 5 rfl) ?_
  refine lv_iload hx hb dX4_valueAt_37 (lv_at hl 2 rfl) ?_
  refine g_callS (As := [.int (iI x), .int (iI 0)]) (rest := [.int (iI w11), .int (iI (0 + ((((w4 * r5) % 31) * r7) % 31)))]) 2 hx hb hml hown hts hK hG hS hl.1 (mX4_power l X σ  x 0 (by omega) (by omega)) q2083 q2084 q86 q2085 (by decide +kernel) rfl ⟨Nat.le_of_ble_eq_true rfl, Nat.le_of_ble_eq_true rfl⟩ ⟨Nat.le_of_ble_eq_true rfl, Nat.le_of_ble_eq_true rfl⟩ (Nat.le_of_ble_eq_true rfl) dX4_valueAt_39 (kI (fun r12 σr12 H locs hp hG hS => ?_))
  obtain ⟨⟨hr12, kr12⟩, rfl⟩ := hp
  have hp13 := mulR (a := w11) (b := r12) (A := 31) (B := 31) (by omega) (by omega)
  refine g_imul hx hb dX4_valueAt_42 ?_
  refine g_bipush hx hb dX4_valueAt_43 (by decide) ?_
  refine g_irem hx hb dX4_valueAt_45 (by omega) (by omega) ?_
  refine lv_iload_n hx hb dX4_valueAt_46 rfl (lv_at hl 6 rfl) ?_
  refine lv_iload hx hb dX4_valueAt_47 (lv_at hl 0 rfl) ?_
  refine g_callS (As := [.int (iI y), .int (iI 1)]) (rest := [.int (iI ((w11 * r12) % 31)), .int (iI (0 + ((((w4 * r5) % 31) * r7) % 31)))]) 2 hx hb hml hown hts hK hG hS hl.1 (mX4_power l X σ  y 1 (by omega) (by omega)) q2083 q2084 q86 q2085 (by decide +kernel) rfl ⟨Nat.le_of_ble_eq_true rfl, Nat.le_of_ble_eq_true rfl⟩ ⟨Nat.le_of_ble_eq_true rfl, Nat.le_of_ble_eq_true rfl⟩ (Nat.le_of_ble_eq_true rfl) dX4_valueAt_49 (kI (fun r14 σr14 H locs hp hG hS => ?_))
  obtain ⟨⟨hr14, kr14⟩, rfl⟩ := hp
  have hp15 := mulR (a := (w11 * r12) % 31) (b := r14) (A := 31) (B := 31) (by omega) (by omega)
  refine g_imul hx hb dX4_valueAt_52 ?_
  refine g_bipush hx hb dX4_valueAt_53 (by decide) ?_
  refine g_irem hx hb dX4_valueAt_55 (by omega) (by omega) ?_
  refine g_iadd hx hb dX4_valueAt_56 ?_
  refine lv_istore (lv' := [(4, .int (iI ((0 + ((((w4 * r5) % 31) * r7) % 31)) + ((((w11 * r12) % 31) * r14) % 31)))), (6, .int (iI 1)), (5, .int (iI 0)), (0, .ref o), (1, .int (iI t)), (2, .int (iI x)), (3, .int (iI y))]) hx hb dX4_valueAt_57 hl (by decide) rfl (fun ls hl => ?_)
  refine g_iinc (lv' := [(6, .int (iI (1 + 1))), (4, .int (iI ((0 + ((((w4 * r5) % 31) * r7) % 31)) + ((((w11 * r12) % 31) * r14) % 31)))), (5, .int (iI 0)), (0, .ref o), (1, .int (iI t)), (2, .int (iI x)), (3, .int (iI y))]) hx hb dX4_valueAt_59 hl (k := 1) rfl (by decide) rfl (fun ls hl => ?_)
  have hl : lv_has ls 7 [(6, .int (iI 2)), (4, .int (iI ((0 + ((((w4 * r5) % 31) * r7) % 31)) + ((((w11 * r12) % 31) * r14) % 31)))), (5, .int (iI 0)), (0, .ref o), (1, .int (iI t)), (2, .int (iI x)), (3, .int (iI y))] := hl
  refine lv_goto (tgt := 15) hx hb dX4_valueAt_62 (by decide) ?_
  refine lv_iload hx hb dX4_valueAt_15 (lv_at hl 0 rfl) ?_
  refine g_iconst hx hb dX4_valueAt_17 ?_
  refine g_icmp_ge (tgt := 65) hx hb dX4_valueAt_18 (by decide) (by omega) (by omega) (fun cq16 => absurd cq16 (by decide)) (fun cq16 => ?_)
  refine lv_iload hx hb dX4_valueAt_21 (lv_at hl 1 rfl) ?_
  refine lv_aload_n hx hb dX4_valueAt_23 rfl (lv_at hl 3 rfl) ?_
  refine g_get (C := RX4) (T := TX4) (N := 30) (v := .ref (a 0)) hx hb hts hown hK hG hM.o rfl in_X4 0 (by decide) q1958 rfl rfl dX4_valueAt_24 ?_
  refine lv_iload_n hx hb dX4_valueAt_27 rfl (lv_at hl 4 rfl) ?_
  refine lv_iload hx hb dX4_valueAt_28 (lv_at hl 2 rfl) ?_
  refine lv_iload hx hb dX4_valueAt_30 (lv_at hl 0 rfl) ?_
  refine g_callS (As := [.int (iI t), .int (iI 0), .int (iI 2)]) (rest := [.ref (a 0), .int (iI ((0 + ((((w4 * r5) % 31) * r7) % 31)) + ((((w11 * r12) % 31) * r14) % 31)))]) 3 hx hb hml hown hts hK hG hS hl.1 (mX4_placeOf l X σ  t 0 2 (by omega) (by omega) (by omega)) q2061 q2062 q86 q2063 (by decide +kernel) rfl ⟨Nat.le_of_ble_eq_true rfl, Nat.le_of_ble_eq_true rfl⟩ ⟨Nat.le_of_ble_eq_true rfl, Nat.le_of_ble_eq_true rfl⟩ (Nat.le_of_ble_eq_true rfl) dX4_valueAt_32 (kI (fun r17 σr17 H locs hp hG hS => ?_))
  obtain ⟨hr17, rfl⟩ := hp
  refine g_iald hx hb hK hG hM.a0 dX4_valueAt_35 (by omega) ?_
  refine g_name (fun w18 ew18 => ?_)
  have hw18 : 0 ≤ w18 ∧ w18 ≤ 30 := by rw [ew18]; exact hT _ (by omega) (by omega)
  refine lv_iload_n hx hb dX4_valueAt_36 rfl (lv_at hl 5 rfl) ?_
  refine lv_iload hx hb dX4_valueAt_37 (lv_at hl 2 rfl) ?_
  refine g_callS (As := [.int (iI x), .int (iI 0)]) (rest := [.int (iI w18), .int (iI ((0 + ((((w4 * r5) % 31) * r7) % 31)) + ((((w11 * r12) % 31) * r14) % 31)))]) 2 hx hb hml hown hts hK hG hS hl.1 (mX4_power l X σ  x 0 (by omega) (by omega)) q2083 q2084 q86 q2085 (by decide +kernel) rfl ⟨Nat.le_of_ble_eq_true rfl, Nat.le_of_ble_eq_true rfl⟩ ⟨Nat.le_of_ble_eq_true rfl, Nat.le_of_ble_eq_true rfl⟩ (Nat.le_of_ble_eq_true rfl) dX4_valueAt_39 (kI (fun r19 σr19 H locs hp hG hS => ?_))
  obtain ⟨⟨hr19, kr19⟩, rfl⟩ := hp
  have hp20 := mulR (a := w18) (b := r19) (A := 31) (B := 31) (by omega) (by omega)
  refine g_imul hx hb dX4_valueAt_42 ?_
  refine g_bipush hx hb dX4_valueAt_43 (by decide) ?_
  refine g_irem hx hb dX4_valueAt_45 (by omega) (by omega) ?_
  refine lv_iload_n hx hb dX4_valueAt_46 rfl (lv_at hl 6 rfl) ?_
  refine lv_iload hx hb dX4_valueAt_47 (lv_at hl 0 rfl) ?_
  refine g_callS (As := [.int (iI y), .int (iI 2)]) (rest := [.int (iI ((w18 * r19) % 31)), .int (iI ((0 + ((((w4 * r5) % 31) * r7) % 31)) + ((((w11 * r12) % 31) * r14) % 31)))]) 2 hx hb hml hown hts hK hG hS hl.1 (mX4_power l X σ  y 2 (by omega) (by omega)) q2083 q2084 q86 q2085 (by decide +kernel) rfl ⟨Nat.le_of_ble_eq_true rfl, Nat.le_of_ble_eq_true rfl⟩ ⟨Nat.le_of_ble_eq_true rfl, Nat.le_of_ble_eq_true rfl⟩ (Nat.le_of_ble_eq_true rfl) dX4_valueAt_49 (kI (fun r21 σr21 H locs hp hG hS => ?_))
  obtain ⟨⟨hr21, kr21⟩, rfl⟩ := hp
  have hp22 := mulR (a := (w18 * r19) % 31) (b := r21) (A := 31) (B := 31) (by omega) (by omega)
  refine g_imul hx hb dX4_valueAt_52 ?_
  refine g_bipush hx hb dX4_valueAt_53 (by decide) ?_
  refine g_irem hx hb dX4_valueAt_55 (by omega) (by omega) ?_
  refine g_iadd hx hb dX4_valueAt_56 ?_
  refine lv_istore (lv' := [(4, .int (iI (((0 + ((((w4 * r5) % 31) * r7) % 31)) + ((((w11 * r12) % 31) * r14) % 31)) + ((((w18 * r19) % 31) * r21) % 31)))), (6, .int (iI 2)), (5, .int (iI 0)), (0, .ref o), (1, .int (iI t)), (2, .int (iI x)), (3, .int (iI y))]) hx hb dX4_valueAt_57 hl (by decide) rfl (fun ls hl => ?_)
  refine g_iinc (lv' := [(6, .int (iI (2 + 1))), (4, .int (iI (((0 + ((((w4 * r5) % 31) * r7) % 31)) + ((((w11 * r12) % 31) * r14) % 31)) + ((((w18 * r19) % 31) * r21) % 31)))), (5, .int (iI 0)), (0, .ref o), (1, .int (iI t)), (2, .int (iI x)), (3, .int (iI y))]) hx hb dX4_valueAt_59 hl (k := 1) rfl (by decide) rfl (fun ls hl => ?_)
  have hl : lv_has ls 7 [(6, .int (iI 3)), (4, .int (iI (((0 + ((((w4 * r5) % 31) * r7) % 31)) + ((((w11 * r12) % 31) * r14) % 31)) + ((((w18 * r19) % 31) * r21) % 31)))), (5, .int (iI 0)), (0, .ref o), (1, .int (iI t)), (2, .int (iI x)), (3, .int (iI y))] := hl
  refine lv_goto (tgt := 15) hx hb dX4_valueAt_62 (by decide) ?_
  refine lv_iload hx hb dX4_valueAt_15 (lv_at hl 0 rfl) ?_
  refine g_iconst hx hb dX4_valueAt_17 ?_
  refine g_icmp_ge (tgt := 65) hx hb dX4_valueAt_18 (by decide) (by omega) (by omega) (fun cq23 => ?_) (fun cq23 => absurd cq23 (by decide))
  refine g_iinc (lv' := [(5, .int (iI (0 + 1))), (6, .int (iI 3)), (4, .int (iI (((0 + ((((w4 * r5) % 31) * r7) % 31)) + ((((w11 * r12) % 31) * r14) % 31)) + ((((w18 * r19) % 31) * r21) % 31)))), (0, .ref o), (1, .int (iI t)), (2, .int (iI x)), (3, .int (iI y))]) hx hb dX4_valueAt_65 hl (k := 2) rfl (by decide) rfl (fun ls hl => ?_)
  have hl : lv_has ls 7 [(5, .int (iI 1)), (6, .int (iI 3)), (4, .int (iI (((0 + ((((w4 * r5) % 31) * r7) % 31)) + ((((w11 * r12) % 31) * r14) % 31)) + ((((w18 * r19) % 31) * r21) % 31)))), (0, .ref o), (1, .int (iI t)), (2, .int (iI x)), (3, .int (iI y))] := hl
  refine lv_goto (tgt := 6) hx hb dX4_valueAt_68 (by decide) ?_
  refine lv_iload hx hb dX4_valueAt_6 (lv_at hl 0 rfl) ?_
  refine g_iconst hx hb dX4_valueAt_8 ?_
  refine g_icmp_ge (tgt := 71) hx hb dX4_valueAt_9 (by decide) (by omega) (by omega) (fun cq24 => absurd cq24 (by decide)) (fun cq24 => ?_)
  refine g_iconst hx hb dX4_valueAt_12 ?_
  refine lv_istore (lv' := [(6, .int (iI 0)), (5, .int (iI 1)), (4, .int (iI (((0 + ((((w4 * r5) % 31) * r7) % 31)) + ((((w11 * r12) % 31) * r14) % 31)) + ((((w18 * r19) % 31) * r21) % 31)))), (0, .ref o), (1, .int (iI t)), (2, .int (iI x)), (3, .int (iI y))]) hx hb dX4_valueAt_13 hl (by decide) rfl (fun ls hl => ?_)
  refine lv_iload hx hb dX4_valueAt_15 (lv_at hl 0 rfl) ?_
  refine g_iconst hx hb dX4_valueAt_17 ?_
  refine g_icmp_ge (tgt := 65) hx hb dX4_valueAt_18 (by decide) (by omega) (by omega) (fun cq25 => absurd cq25 (by decide)) (fun cq25 => ?_)
  refine lv_iload hx hb dX4_valueAt_21 (lv_at hl 2 rfl) ?_
  refine lv_aload_n hx hb dX4_valueAt_23 rfl (lv_at hl 3 rfl) ?_
  refine g_get (C := RX4) (T := TX4) (N := 30) (v := .ref (a 0)) hx hb hts hown hK hG hM.o rfl in_X4 0 (by decide) q1958 rfl rfl dX4_valueAt_24 ?_
  refine lv_iload_n hx hb dX4_valueAt_27 rfl (lv_at hl 4 rfl) ?_
  refine lv_iload hx hb dX4_valueAt_28 (lv_at hl 1 rfl) ?_
  refine lv_iload hx hb dX4_valueAt_30 (lv_at hl 0 rfl) ?_
  refine g_callS (As := [.int (iI t), .int (iI 1), .int (iI 0)]) (rest := [.ref (a 0), .int (iI (((0 + ((((w4 * r5) % 31) * r7) % 31)) + ((((w11 * r12) % 31) * r14) % 31)) + ((((w18 * r19) % 31) * r21) % 31)))]) 3 hx hb hml hown hts hK hG hS hl.1 (mX4_placeOf l X σ  t 1 0 (by omega) (by omega) (by omega)) q2061 q2062 q86 q2063 (by decide +kernel) rfl ⟨Nat.le_of_ble_eq_true rfl, Nat.le_of_ble_eq_true rfl⟩ ⟨Nat.le_of_ble_eq_true rfl, Nat.le_of_ble_eq_true rfl⟩ (Nat.le_of_ble_eq_true rfl) dX4_valueAt_32 (kI (fun r26 σr26 H locs hp hG hS => ?_))
  obtain ⟨hr26, rfl⟩ := hp
  refine g_iald hx hb hK hG hM.a0 dX4_valueAt_35 (by omega) ?_
  refine g_name (fun w27 ew27 => ?_)
  have hw27 : 0 ≤ w27 ∧ w27 ≤ 30 := by rw [ew27]; exact hT _ (by omega) (by omega)
  refine lv_iload_n hx hb dX4_valueAt_36 rfl (lv_at hl 5 rfl) ?_
  refine lv_iload hx hb dX4_valueAt_37 (lv_at hl 1 rfl) ?_
  refine g_callS (As := [.int (iI x), .int (iI 1)]) (rest := [.int (iI w27), .int (iI (((0 + ((((w4 * r5) % 31) * r7) % 31)) + ((((w11 * r12) % 31) * r14) % 31)) + ((((w18 * r19) % 31) * r21) % 31)))]) 2 hx hb hml hown hts hK hG hS hl.1 (mX4_power l X σ  x 1 (by omega) (by omega)) q2083 q2084 q86 q2085 (by decide +kernel) rfl ⟨Nat.le_of_ble_eq_true rfl, Nat.le_of_ble_eq_true rfl⟩ ⟨Nat.le_of_ble_eq_true rfl, Nat.le_of_ble_eq_true rfl⟩ (Nat.le_of_ble_eq_true rfl) dX4_valueAt_39 (kI (fun r28 σr28 H locs hp hG hS => ?_))
  obtain ⟨⟨hr28, kr28⟩, rfl⟩ := hp
  have hp29 := mulR (a := w27) (b := r28) (A := 31) (B := 31) (by omega) (by omega)
  refine g_imul hx hb dX4_valueAt_42 ?_
  refine g_bipush hx hb dX4_valueAt_43 (by decide) ?_
  refine g_irem hx hb dX4_valueAt_45 (by omega) (by omega) ?_
  refine lv_iload_n hx hb dX4_valueAt_46 rfl (lv_at hl 6 rfl) ?_
  refine lv_iload hx hb dX4_valueAt_47 (lv_at hl 0 rfl) ?_
  refine g_callS (As := [.int (iI y), .int (iI 0)]) (rest := [.int (iI ((w27 * r28) % 31)), .int (iI (((0 + ((((w4 * r5) % 31) * r7) % 31)) + ((((w11 * r12) % 31) * r14) % 31)) + ((((w18 * r19) % 31) * r21) % 31)))]) 2 hx hb hml hown hts hK hG hS hl.1 (mX4_power l X σ  y 0 (by omega) (by omega)) q2083 q2084 q86 q2085 (by decide +kernel) rfl ⟨Nat.le_of_ble_eq_true rfl, Nat.le_of_ble_eq_true rfl⟩ ⟨Nat.le_of_ble_eq_true rfl, Nat.le_of_ble_eq_true rfl⟩ (Nat.le_of_ble_eq_true rfl) dX4_valueAt_49 (kI (fun r30 σr30 H locs hp hG hS => ?_))
  obtain ⟨⟨hr30, kr30⟩, rfl⟩ := hp
  have hp31 := mulR (a := (w27 * r28) % 31) (b := r30) (A := 31) (B := 31) (by omega) (by omega)
  refine g_imul hx hb dX4_valueAt_52 ?_
  refine g_bipush hx hb dX4_valueAt_53 (by decide) ?_
  refine g_irem hx hb dX4_valueAt_55 (by omega) (by omega) ?_
  refine g_iadd hx hb dX4_valueAt_56 ?_
  refine lv_istore (lv' := [(4, .int (iI ((((0 + ((((w4 * r5) % 31) * r7) % 31)) + ((((w11 * r12) % 31) * r14) % 31)) + ((((w18 * r19) % 31) * r21) % 31)) + ((((w27 * r28) % 31) * r30) % 31)))), (6, .int (iI 0)), (5, .int (iI 1)), (0, .ref o), (1, .int (iI t)), (2, .int (iI x)), (3, .int (iI y))]) hx hb dX4_valueAt_57 hl (by decide) rfl (fun ls hl => ?_)
  refine g_iinc (lv' := [(6, .int (iI (0 + 1))), (4, .int (iI ((((0 + ((((w4 * r5) % 31) * r7) % 31)) + ((((w11 * r12) % 31) * r14) % 31)) + ((((w18 * r19) % 31) * r21) % 31)) + ((((w27 * r28) % 31) * r30) % 31)))), (5, .int (iI 1)), (0, .ref o), (1, .int (iI t)), (2, .int (iI x)), (3, .int (iI y))]) hx hb dX4_valueAt_59 hl (k := 1) rfl (by decide) rfl (fun ls hl => ?_)
  have hl : lv_has ls 7 [(6, .int (iI 1)), (4, .int (iI ((((0 + ((((w4 * r5) % 31) * r7) % 31)) + ((((w11 * r12) % 31) * r14) % 31)) + ((((w18 * r19) % 31) * r21) % 31)) + ((((w27 * r28) % 31) * r30) % 31)))), (5, .int (iI 1)), (0, .ref o), (1, .int (iI t)), (2, .int (iI x)), (3, .int (iI y))] := hl
  refine lv_goto (tgt := 15) hx hb dX4_valueAt_62 (by decide) ?_
  refine lv_iload hx hb dX4_valueAt_15 (lv_at hl 0 rfl) ?_
  refine g_iconst hx hb dX4_valueAt_17 ?_
  refine g_icmp_ge (tgt := 65) hx hb dX4_valueAt_18 (by decide) (by omega) (by omega) (fun cq32 => absurd cq32 (by decide)) (fun cq32 => ?_)
  refine lv_iload hx hb dX4_valueAt_21 (lv_at hl 1 rfl) ?_
  refine lv_aload_n hx hb dX4_valueAt_23 rfl (lv_at hl 3 rfl) ?_
  refine g_get (C := RX4) (T := TX4) (N := 30) (v := .ref (a 0)) hx hb hts hown hK hG hM.o rfl in_X4 0 (by decide) q1958 rfl rfl dX4_valueAt_24 ?_
  refine lv_iload_n hx hb dX4_valueAt_27 rfl (lv_at hl 4 rfl) ?_
  refine lv_iload hx hb dX4_valueAt_28 (lv_at hl 2 rfl) ?_
  refine lv_iload hx hb dX4_valueAt_30 (lv_at hl 0 rfl) ?_
  refine g_callS (As := [.int (iI t), .int (iI 1), .int (iI 1)]) (rest := [.ref (a 0), .int (iI ((((0 + ((((w4 * r5) % 31) * r7) % 31)) + ((((w11 * r12) % 31) * r14) % 31)) + ((((w18 * r19) % 31) * r21) % 31)) + ((((w27 * r28) % 31) * r30) % 31)))]) 3 hx hb hml hown hts hK hG hS hl.1 (mX4_placeOf l X σ  t 1 1 (by omega) (by omega) (by omega)) q2061 q2062 q86 q2063 (by decide +kernel) rfl ⟨Nat.le_of_ble_eq_true rfl, Nat.le_of_ble_eq_true rfl⟩ ⟨Nat.le_of_ble_eq_true rfl, Nat.le_of_ble_eq_true rfl⟩ (Nat.le_of_ble_eq_true rfl) dX4_valueAt_32 (kI (fun r33 σr33 H locs hp hG hS => ?_))
  obtain ⟨hr33, rfl⟩ := hp
  refine g_iald hx hb hK hG hM.a0 dX4_valueAt_35 (by omega) ?_
  refine g_name (fun w34 ew34 => ?_)
  have hw34 : 0 ≤ w34 ∧ w34 ≤ 30 := by rw [ew34]; exact hT _ (by omega) (by omega)
  refine lv_iload_n hx hb dX4_valueAt_36 rfl (lv_at hl 5 rfl) ?_
  refine lv_iload hx hb dX4_valueAt_37 (lv_at hl 2 rfl) ?_
  refine g_callS (As := [.int (iI x), .int (iI 1)]) (rest := [.int (iI w34), .int (iI ((((0 + ((((w4 * r5) % 31) * r7) % 31)) + ((((w11 * r12) % 31) * r14) % 31)) + ((((w18 * r19) % 31) * r21) % 31)) + ((((w27 * r28) % 31) * r30) % 31)))]) 2 hx hb hml hown hts hK hG hS hl.1 (mX4_power l X σ  x 1 (by omega) (by omega)) q2083 q2084 q86 q2085 (by decide +kernel) rfl ⟨Nat.le_of_ble_eq_true rfl, Nat.le_of_ble_eq_true rfl⟩ ⟨Nat.le_of_ble_eq_true rfl, Nat.le_of_ble_eq_true rfl⟩ (Nat.le_of_ble_eq_true rfl) dX4_valueAt_39 (kI (fun r35 σr35 H locs hp hG hS => ?_))
  obtain ⟨⟨hr35, kr35⟩, rfl⟩ := hp
  have hp36 := mulR (a := w34) (b := r35) (A := 31) (B := 31) (by omega) (by omega)
  refine g_imul hx hb dX4_valueAt_42 ?_
  refine g_bipush hx hb dX4_valueAt_43 (by decide) ?_
  refine g_irem hx hb dX4_valueAt_45 (by omega) (by omega) ?_
  refine lv_iload_n hx hb dX4_valueAt_46 rfl (lv_at hl 6 rfl) ?_
  refine lv_iload hx hb dX4_valueAt_47 (lv_at hl 0 rfl) ?_
  refine g_callS (As := [.int (iI y), .int (iI 1)]) (rest := [.int (iI ((w34 * r35) % 31)), .int (iI ((((0 + ((((w4 * r5) % 31) * r7) % 31)) + ((((w11 * r12) % 31) * r14) % 31)) + ((((w18 * r19) % 31) * r21) % 31)) + ((((w27 * r28) % 31) * r30) % 31)))]) 2 hx hb hml hown hts hK hG hS hl.1 (mX4_power l X σ  y 1 (by omega) (by omega)) q2083 q2084 q86 q2085 (by decide +kernel) rfl ⟨Nat.le_of_ble_eq_true rfl, Nat.le_of_ble_eq_true rfl⟩ ⟨Nat.le_of_ble_eq_true rfl, Nat.le_of_ble_eq_true rfl⟩ (Nat.le_of_ble_eq_true rfl) dX4_valueAt_49 (kI (fun r37 σr37 H locs hp hG hS => ?_))
  obtain ⟨⟨hr37, kr37⟩, rfl⟩ := hp
  have hp38 := mulR (a := (w34 * r35) % 31) (b := r37) (A := 31) (B := 31) (by omega) (by omega)
  refine g_imul hx hb dX4_valueAt_52 ?_
  refine g_bipush hx hb dX4_valueAt_53 (by decide) ?_
  refine g_irem hx hb dX4_valueAt_55 (by omega) (by omega) ?_
  refine g_iadd hx hb dX4_valueAt_56 ?_
  refine lv_istore (lv' := [(4, .int (iI (((((0 + ((((w4 * r5) % 31) * r7) % 31)) + ((((w11 * r12) % 31) * r14) % 31)) + ((((w18 * r19) % 31) * r21) % 31)) + ((((w27 * r28) % 31) * r30) % 31)) + ((((w34 * r35) % 31) * r37) % 31)))), (6, .int (iI 1)), (5, .int (iI 1)), (0, .ref o), (1, .int (iI t)), (2, .int (iI x)), (3, .int (iI y))]) hx hb dX4_valueAt_57 hl (by decide) rfl (fun ls hl => ?_)
  refine g_iinc (lv' := [(6, .int (iI (1 + 1))), (4, .int (iI (((((0 + ((((w4 * r5) % 31) * r7) % 31)) + ((((w11 * r12) % 31) * r14) % 31)) + ((((w18 * r19) % 31) * r21) % 31)) + ((((w27 * r28) % 31) * r30) % 31)) + ((((w34 * r35) % 31) * r37) % 31)))), (5, .int (iI 1)), (0, .ref o), (1, .int (iI t)), (2, .int (iI x)), (3, .int (iI y))]) hx hb dX4_valueAt_59 hl (k := 1) rfl (by decide) rfl (fun ls hl => ?_)
  have hl : lv_has ls 7 [(6, .int (iI 2)), (4, .int (iI (((((0 + ((((w4 * r5) % 31) * r7) % 31)) + ((((w11 * r12) % 31) * r14) % 31)) + ((((w18 * r19) % 31) * r21) % 31)) + ((((w27 * r28) % 31) * r30) % 31)) + ((((w34 * r35) % 31) * r37) % 31)))), (5, .int (iI 1)), (0, .ref o), (1, .int (iI t)), (2, .int (iI x)), (3, .int (iI y))] := hl
  refine lv_goto (tgt := 15) hx hb dX4_valueAt_62 (by decide) ?_
  refine lv_iload hx hb dX4_valueAt_15 (lv_at hl 0 rfl) ?_
  refine g_iconst hx hb dX4_valueAt_17 ?_
  refine g_icmp_ge (tgt := 65) hx hb dX4_valueAt_18 (by decide) (by omega) (by omega) (fun cq39 => absurd cq39 (by decide)) (fun cq39 => ?_)
  refine lv_iload hx hb dX4_valueAt_21 (lv_at hl 1 rfl) ?_
  refine lv_aload_n hx hb dX4_valueAt_23 rfl (lv_at hl 3 rfl) ?_
  refine g_get (C := RX4) (T := TX4) (N := 30) (v := .ref (a 0)) hx hb hts hown hK hG hM.o rfl in_X4 0 (by decide) q1958 rfl rfl dX4_valueAt_24 ?_
  refine lv_iload_n hx hb dX4_valueAt_27 rfl (lv_at hl 4 rfl) ?_
  refine lv_iload hx hb dX4_valueAt_28 (lv_at hl 2 rfl) ?_
  refine lv_iload hx hb dX4_valueAt_30 (lv_at hl 0 rfl) ?_
  refine g_callS (As := [.int (iI t), .int (iI 1), .int (iI 2)]) (rest := [.ref (a 0), .int (iI (((((0 + ((((w4 * r5) % 31) * r7) % 31)) + ((((w11 * r12) % 31) * r14) % 31)) + ((((w18 * r19) % 31) * r21) % 31)) + ((((w27 * r28) % 31) * r30) % 31)) + ((((w34 * r35) % 31) * r37) % 31)))]) 3 hx hb hml hown hts hK hG hS hl.1 (mX4_placeOf l X σ  t 1 2 (by omega) (by omega) (by omega)) q2061 q2062 q86 q2063 (by decide +kernel) rfl ⟨Nat.le_of_ble_eq_true rfl, Nat.le_of_ble_eq_true rfl⟩ ⟨Nat.le_of_ble_eq_true rfl, Nat.le_of_ble_eq_true rfl⟩ (Nat.le_of_ble_eq_true rfl) dX4_valueAt_32 (kI (fun r40 σr40 H locs hp hG hS => ?_))
  obtain ⟨hr40, rfl⟩ := hp
  refine g_iald hx hb hK hG hM.a0 dX4_valueAt_35 (by omega) ?_
  refine g_name (fun w41 ew41 => ?_)
  have hw41 : 0 ≤ w41 ∧ w41 ≤ 30 := by rw [ew41]; exact hT _ (by omega) (by omega)
  refine lv_iload_n hx hb dX4_valueAt_36 rfl (lv_at hl 5 rfl) ?_
  refine lv_iload hx hb dX4_valueAt_37 (lv_at hl 2 rfl) ?_
  refine g_callS (As := [.int (iI x), .int (iI 1)]) (rest := [.int (iI w41), .int (iI (((((0 + ((((w4 * r5) % 31) * r7) % 31)) + ((((w11 * r12) % 31) * r14) % 31)) + ((((w18 * r19) % 31) * r21) % 31)) + ((((w27 * r28) % 31) * r30) % 31)) + ((((w34 * r35) % 31) * r37) % 31)))]) 2 hx hb hml hown hts hK hG hS hl.1 (mX4_power l X σ  x 1 (by omega) (by omega)) q2083 q2084 q86 q2085 (by decide +kernel) rfl ⟨Nat.le_of_ble_eq_true rfl, Nat.le_of_ble_eq_true rfl⟩ ⟨Nat.le_of_ble_eq_true rfl, Nat.le_of_ble_eq_true rfl⟩ (Nat.le_of_ble_eq_true rfl) dX4_valueAt_39 (kI (fun r42 σr42 H locs hp hG hS => ?_))
  obtain ⟨⟨hr42, kr42⟩, rfl⟩ := hp
  have hp43 := mulR (a := w41) (b := r42) (A := 31) (B := 31) (by omega) (by omega)
  refine g_imul hx hb dX4_valueAt_42 ?_
  refine g_bipush hx hb dX4_valueAt_43 (by decide) ?_
  refine g_irem hx hb dX4_valueAt_45 (by omega) (by omega) ?_
  refine lv_iload_n hx hb dX4_valueAt_46 rfl (lv_at hl 6 rfl) ?_
  refine lv_iload hx hb dX4_valueAt_47 (lv_at hl 0 rfl) ?_
  refine g_callS (As := [.int (iI y), .int (iI 2)]) (rest := [.int (iI ((w41 * r42) % 31)), .int (iI (((((0 + ((((w4 * r5) % 31) * r7) % 31)) + ((((w11 * r12) % 31) * r14) % 31)) + ((((w18 * r19) % 31) * r21) % 31)) + ((((w27 * r28) % 31) * r30) % 31)) + ((((w34 * r35) % 31) * r37) % 31)))]) 2 hx hb hml hown hts hK hG hS hl.1 (mX4_power l X σ  y 2 (by omega) (by omega)) q2083 q2084 q86 q2085 (by decide +kernel) rfl ⟨Nat.le_of_ble_eq_true rfl, Nat.le_of_ble_eq_true rfl⟩ ⟨Nat.le_of_ble_eq_true rfl, Nat.le_of_ble_eq_true rfl⟩ (Nat.le_of_ble_eq_true rfl) dX4_valueAt_49 (kI (fun r44 σr44 H locs hp hG hS => ?_))
  obtain ⟨⟨hr44, kr44⟩, rfl⟩ := hp
  have hp45 := mulR (a := (w41 * r42) % 31) (b := r44) (A := 31) (B := 31) (by omega) (by omega)
  refine g_imul hx hb dX4_valueAt_52 ?_
  refine g_bipush hx hb dX4_valueAt_53 (by decide) ?_
  refine g_irem hx hb dX4_valueAt_55 (by omega) (by omega) ?_
  refine g_iadd hx hb dX4_valueAt_56 ?_
  refine lv_istore (lv' := [(4, .int (iI ((((((0 + ((((w4 * r5) % 31) * r7) % 31)) + ((((w11 * r12) % 31) * r14) % 31)) + ((((w18 * r19) % 31) * r21) % 31)) + ((((w27 * r28) % 31) * r30) % 31)) + ((((w34 * r35) % 31) * r37) % 31)) + ((((w41 * r42) % 31) * r44) % 31)))), (6, .int (iI 2)), (5, .int (iI 1)), (0, .ref o), (1, .int (iI t)), (2, .int (iI x)), (3, .int (iI y))]) hx hb dX4_valueAt_57 hl (by decide) rfl (fun ls hl => ?_)
  refine g_iinc (lv' := [(6, .int (iI (2 + 1))), (4, .int (iI ((((((0 + ((((w4 * r5) % 31) * r7) % 31)) + ((((w11 * r12) % 31) * r14) % 31)) + ((((w18 * r19) % 31) * r21) % 31)) + ((((w27 * r28) % 31) * r30) % 31)) + ((((w34 * r35) % 31) * r37) % 31)) + ((((w41 * r42) % 31) * r44) % 31)))), (5, .int (iI 1)), (0, .ref o), (1, .int (iI t)), (2, .int (iI x)), (3, .int (iI y))]) hx hb dX4_valueAt_59 hl (k := 1) rfl (by decide) rfl (fun ls hl => ?_)
  have hl : lv_has ls 7 [(6, .int (iI 3)), (4, .int (iI ((((((0 + ((((w4 * r5) % 31) * r7) % 31)) + ((((w11 * r12) % 31) * r14) % 31)) + ((((w18 * r19) % 31) * r21) % 31)) + ((((w27 * r28) % 31) * r30) % 31)) + ((((w34 * r35) % 31) * r37) % 31)) + ((((w41 * r42) % 31) * r44) % 31)))), (5, .int (iI 1)), (0, .ref o), (1, .int (iI t)), (2, .int (iI x)), (3, .int (iI y))] := hl
  refine lv_goto (tgt := 15) hx hb dX4_valueAt_62 (by decide) ?_
  refine lv_iload hx hb dX4_valueAt_15 (lv_at hl 0 rfl) ?_
  refine g_iconst hx hb dX4_valueAt_17 ?_
  refine g_icmp_ge (tgt := 65) hx hb dX4_valueAt_18 (by decide) (by omega) (by omega) (fun cq46 => ?_) (fun cq46 => absurd cq46 (by decide))
  refine g_iinc (lv' := [(5, .int (iI (1 + 1))), (6, .int (iI 3)), (4, .int (iI ((((((0 + ((((w4 * r5) % 31) * r7) % 31)) + ((((w11 * r12) % 31) * r14) % 31)) + ((((w18 * r19) % 31) * r21) % 31)) + ((((w27 * r28) % 31) * r30) % 31)) + ((((w34 * r35) % 31) * r37) % 31)) + ((((w41 * r42) % 31) * r44) % 31)))), (0, .ref o), (1, .int (iI t)), (2, .int (iI x)), (3, .int (iI y))]) hx hb dX4_valueAt_65 hl (k := 2) rfl (by decide) rfl (fun ls hl => ?_)
  have hl : lv_has ls 7 [(5, .int (iI 2)), (6, .int (iI 3)), (4, .int (iI ((((((0 + ((((w4 * r5) % 31) * r7) % 31)) + ((((w11 * r12) % 31) * r14) % 31)) + ((((w18 * r19) % 31) * r21) % 31)) + ((((w27 * r28) % 31) * r30) % 31)) + ((((w34 * r35) % 31) * r37) % 31)) + ((((w41 * r42) % 31) * r44) % 31)))), (0, .ref o), (1, .int (iI t)), (2, .int (iI x)), (3, .int (iI y))] := hl
  refine lv_goto (tgt := 6) hx hb dX4_valueAt_68 (by decide) ?_
  refine lv_iload hx hb dX4_valueAt_6 (lv_at hl 0 rfl) ?_
  refine g_iconst hx hb dX4_valueAt_8 ?_
  refine g_icmp_ge (tgt := 71) hx hb dX4_valueAt_9 (by decide) (by omega) (by omega) (fun cq47 => absurd cq47 (by decide)) (fun cq47 => ?_)
  refine g_iconst hx hb dX4_valueAt_12 ?_
  refine lv_istore (lv' := [(6, .int (iI 0)), (5, .int (iI 2)), (4, .int (iI ((((((0 + ((((w4 * r5) % 31) * r7) % 31)) + ((((w11 * r12) % 31) * r14) % 31)) + ((((w18 * r19) % 31) * r21) % 31)) + ((((w27 * r28) % 31) * r30) % 31)) + ((((w34 * r35) % 31) * r37) % 31)) + ((((w41 * r42) % 31) * r44) % 31)))), (0, .ref o), (1, .int (iI t)), (2, .int (iI x)), (3, .int (iI y))]) hx hb dX4_valueAt_13 hl (by decide) rfl (fun ls hl => ?_)
  refine lv_iload hx hb dX4_valueAt_15 (lv_at hl 0 rfl) ?_
  refine g_iconst hx hb dX4_valueAt_17 ?_
  refine g_icmp_ge (tgt := 65) hx hb dX4_valueAt_18 (by decide) (by omega) (by omega) (fun cq48 => absurd cq48 (by decide)) (fun cq48 => ?_)
  refine lv_iload hx hb dX4_valueAt_21 (lv_at hl 2 rfl) ?_
  refine lv_aload_n hx hb dX4_valueAt_23 rfl (lv_at hl 3 rfl) ?_
  refine g_get (C := RX4) (T := TX4) (N := 30) (v := .ref (a 0)) hx hb hts hown hK hG hM.o rfl in_X4 0 (by decide) q1958 rfl rfl dX4_valueAt_24 ?_
  refine lv_iload_n hx hb dX4_valueAt_27 rfl (lv_at hl 4 rfl) ?_
  refine lv_iload hx hb dX4_valueAt_28 (lv_at hl 1 rfl) ?_
  refine lv_iload hx hb dX4_valueAt_30 (lv_at hl 0 rfl) ?_
  refine g_callS (As := [.int (iI t), .int (iI 2), .int (iI 0)]) (rest := [.ref (a 0), .int (iI ((((((0 + ((((w4 * r5) % 31) * r7) % 31)) + ((((w11 * r12) % 31) * r14) % 31)) + ((((w18 * r19) % 31) * r21) % 31)) + ((((w27 * r28) % 31) * r30) % 31)) + ((((w34 * r35) % 31) * r37) % 31)) + ((((w41 * r42) % 31) * r44) % 31)))]) 3 hx hb hml hown hts hK hG hS hl.1 (mX4_placeOf l X σ  t 2 0 (by omega) (by omega) (by omega)) q2061 q2062 q86 q2063 (by decide +kernel) rfl ⟨Nat.le_of_ble_eq_true rfl, Nat.le_of_ble_eq_true rfl⟩ ⟨Nat.le_of_ble_eq_true rfl, Nat.le_of_ble_eq_true rfl⟩ (Nat.le_of_ble_eq_true rfl) dX4_valueAt_32 (kI (fun r49 σr49 H locs hp hG hS => ?_))
  obtain ⟨hr49, rfl⟩ := hp
  refine g_iald hx hb hK hG hM.a0 dX4_valueAt_35 (by omega) ?_
  refine g_name (fun w50 ew50 => ?_)
  have hw50 : 0 ≤ w50 ∧ w50 ≤ 30 := by rw [ew50]; exact hT _ (by omega) (by omega)
  refine lv_iload_n hx hb dX4_valueAt_36 rfl (lv_at hl 5 rfl) ?_
  refine lv_iload hx hb dX4_valueAt_37 (lv_at hl 1 rfl) ?_
  refine g_callS (As := [.int (iI x), .int (iI 2)]) (rest := [.int (iI w50), .int (iI ((((((0 + ((((w4 * r5) % 31) * r7) % 31)) + ((((w11 * r12) % 31) * r14) % 31)) + ((((w18 * r19) % 31) * r21) % 31)) + ((((w27 * r28) % 31) * r30) % 31)) + ((((w34 * r35) % 31) * r37) % 31)) + ((((w41 * r42) % 31) * r44) % 31)))]) 2 hx hb hml hown hts hK hG hS hl.1 (mX4_power l X σ  x 2 (by omega) (by omega)) q2083 q2084 q86 q2085 (by decide +kernel) rfl ⟨Nat.le_of_ble_eq_true rfl, Nat.le_of_ble_eq_true rfl⟩ ⟨Nat.le_of_ble_eq_true rfl, Nat.le_of_ble_eq_true rfl⟩ (Nat.le_of_ble_eq_true rfl) dX4_valueAt_39 (kI (fun r51 σr51 H locs hp hG hS => ?_))
  obtain ⟨⟨hr51, kr51⟩, rfl⟩ := hp
  have hp52 := mulR (a := w50) (b := r51) (A := 31) (B := 31) (by omega) (by omega)
  refine g_imul hx hb dX4_valueAt_42 ?_
  refine g_bipush hx hb dX4_valueAt_43 (by decide) ?_
  refine g_irem hx hb dX4_valueAt_45 (by omega) (by omega) ?_
  refine lv_iload_n hx hb dX4_valueAt_46 rfl (lv_at hl 6 rfl) ?_
  refine lv_iload hx hb dX4_valueAt_47 (lv_at hl 0 rfl) ?_
  refine g_callS (As := [.int (iI y), .int (iI 0)]) (rest := [.int (iI ((w50 * r51) % 31)), .int (iI ((((((0 + ((((w4 * r5) % 31) * r7) % 31)) + ((((w11 * r12) % 31) * r14) % 31)) + ((((w18 * r19) % 31) * r21) % 31)) + ((((w27 * r28) % 31) * r30) % 31)) + ((((w34 * r35) % 31) * r37) % 31)) + ((((w41 * r42) % 31) * r44) % 31)))]) 2 hx hb hml hown hts hK hG hS hl.1 (mX4_power l X σ  y 0 (by omega) (by omega)) q2083 q2084 q86 q2085 (by decide +kernel) rfl ⟨Nat.le_of_ble_eq_true rfl, Nat.le_of_ble_eq_true rfl⟩ ⟨Nat.le_of_ble_eq_true rfl, Nat.le_of_ble_eq_true rfl⟩ (Nat.le_of_ble_eq_true rfl) dX4_valueAt_49 (kI (fun r53 σr53 H locs hp hG hS => ?_))
  obtain ⟨⟨hr53, kr53⟩, rfl⟩ := hp
  have hp54 := mulR (a := (w50 * r51) % 31) (b := r53) (A := 31) (B := 31) (by omega) (by omega)
  refine g_imul hx hb dX4_valueAt_52 ?_
  refine g_bipush hx hb dX4_valueAt_53 (by decide) ?_
  refine g_irem hx hb dX4_valueAt_55 (by omega) (by omega) ?_
  refine g_iadd hx hb dX4_valueAt_56 ?_
  refine lv_istore (lv' := [(4, .int (iI (((((((0 + ((((w4 * r5) % 31) * r7) % 31)) + ((((w11 * r12) % 31) * r14) % 31)) + ((((w18 * r19) % 31) * r21) % 31)) + ((((w27 * r28) % 31) * r30) % 31)) + ((((w34 * r35) % 31) * r37) % 31)) + ((((w41 * r42) % 31) * r44) % 31)) + ((((w50 * r51) % 31) * r53) % 31)))), (6, .int (iI 0)), (5, .int (iI 2)), (0, .ref o), (1, .int (iI t)), (2, .int (iI x)), (3, .int (iI y))]) hx hb dX4_valueAt_57 hl (by decide) rfl (fun ls hl => ?_)
  refine g_iinc (lv' := [(6, .int (iI (0 + 1))), (4, .int (iI (((((((0 + ((((w4 * r5) % 31) * r7) % 31)) + ((((w11 * r12) % 31) * r14) % 31)) + ((((w18 * r19) % 31) * r21) % 31)) + ((((w27 * r28) % 31) * r30) % 31)) + ((((w34 * r35) % 31) * r37) % 31)) + ((((w41 * r42) % 31) * r44) % 31)) + ((((w50 * r51) % 31) * r53) % 31)))), (5, .int (iI 2)), (0, .ref o), (1, .int (iI t)), (2, .int (iI x)), (3, .int (iI y))]) hx hb dX4_valueAt_59 hl (k := 1) rfl (by decide) rfl (fun ls hl => ?_)
  have hl : lv_has ls 7 [(6, .int (iI 1)), (4, .int (iI (((((((0 + ((((w4 * r5) % 31) * r7) % 31)) + ((((w11 * r12) % 31) * r14) % 31)) + ((((w18 * r19) % 31) * r21) % 31)) + ((((w27 * r28) % 31) * r30) % 31)) + ((((w34 * r35) % 31) * r37) % 31)) + ((((w41 * r42) % 31) * r44) % 31)) + ((((w50 * r51) % 31) * r53) % 31)))), (5, .int (iI 2)), (0, .ref o), (1, .int (iI t)), (2, .int (iI x)), (3, .int (iI y))] := hl
  refine lv_goto (tgt := 15) hx hb dX4_valueAt_62 (by decide) ?_
  refine lv_iload hx hb dX4_valueAt_15 (lv_at hl 0 rfl) ?_
  refine g_iconst hx hb dX4_valueAt_17 ?_
  refine g_icmp_ge (tgt := 65) hx hb dX4_valueAt_18 (by decide) (by omega) (by omega) (fun cq55 => absurd cq55 (by decide)) (fun cq55 => ?_)
  refine lv_iload hx hb dX4_valueAt_21 (lv_at hl 1 rfl) ?_
  refine lv_aload_n hx hb dX4_valueAt_23 rfl (lv_at hl 3 rfl) ?_
  refine g_get (C := RX4) (T := TX4) (N := 30) (v := .ref (a 0)) hx hb hts hown hK hG hM.o rfl in_X4 0 (by decide) q1958 rfl rfl dX4_valueAt_24 ?_
  refine lv_iload_n hx hb dX4_valueAt_27 rfl (lv_at hl 4 rfl) ?_
  refine lv_iload hx hb dX4_valueAt_28 (lv_at hl 2 rfl) ?_
  refine lv_iload hx hb dX4_valueAt_30 (lv_at hl 0 rfl) ?_
  refine g_callS (As := [.int (iI t), .int (iI 2), .int (iI 1)]) (rest := [.ref (a 0), .int (iI (((((((0 + ((((w4 * r5) % 31) * r7) % 31)) + ((((w11 * r12) % 31) * r14) % 31)) + ((((w18 * r19) % 31) * r21) % 31)) + ((((w27 * r28) % 31) * r30) % 31)) + ((((w34 * r35) % 31) * r37) % 31)) + ((((w41 * r42) % 31) * r44) % 31)) + ((((w50 * r51) % 31) * r53) % 31)))]) 3 hx hb hml hown hts hK hG hS hl.1 (mX4_placeOf l X σ  t 2 1 (by omega) (by omega) (by omega)) q2061 q2062 q86 q2063 (by decide +kernel) rfl ⟨Nat.le_of_ble_eq_true rfl, Nat.le_of_ble_eq_true rfl⟩ ⟨Nat.le_of_ble_eq_true rfl, Nat.le_of_ble_eq_true rfl⟩ (Nat.le_of_ble_eq_true rfl) dX4_valueAt_32 (kI (fun r56 σr56 H locs hp hG hS => ?_))
  obtain ⟨hr56, rfl⟩ := hp
  refine g_iald hx hb hK hG hM.a0 dX4_valueAt_35 (by omega) ?_
  refine g_name (fun w57 ew57 => ?_)
  have hw57 : 0 ≤ w57 ∧ w57 ≤ 30 := by rw [ew57]; exact hT _ (by omega) (by omega)
  refine lv_iload_n hx hb dX4_valueAt_36 rfl (lv_at hl 5 rfl) ?_
  refine lv_iload hx hb dX4_valueAt_37 (lv_at hl 2 rfl) ?_
  refine g_callS (As := [.int (iI x), .int (iI 2)]) (rest := [.int (iI w57), .int (iI (((((((0 + ((((w4 * r5) % 31) * r7) % 31)) + ((((w11 * r12) % 31) * r14) % 31)) + ((((w18 * r19) % 31) * r21) % 31)) + ((((w27 * r28) % 31) * r30) % 31)) + ((((w34 * r35) % 31) * r37) % 31)) + ((((w41 * r42) % 31) * r44) % 31)) + ((((w50 * r51) % 31) * r53) % 31)))]) 2 hx hb hml hown hts hK hG hS hl.1 (mX4_power l X σ  x 2 (by omega) (by omega)) q2083 q2084 q86 q2085 (by decide +kernel) rfl ⟨Nat.le_of_ble_eq_true rfl, Nat.le_of_ble_eq_true rfl⟩ ⟨Nat.le_of_ble_eq_true rfl, Nat.le_of_ble_eq_true rfl⟩ (Nat.le_of_ble_eq_true rfl) dX4_valueAt_39 (kI (fun r58 σr58 H locs hp hG hS => ?_))
  obtain ⟨⟨hr58, kr58⟩, rfl⟩ := hp
  have hp59 := mulR (a := w57) (b := r58) (A := 31) (B := 31) (by omega) (by omega)
  refine g_imul hx hb dX4_valueAt_42 ?_
  refine g_bipush hx hb dX4_valueAt_43 (by decide) ?_
  refine g_irem hx hb dX4_valueAt_45 (by omega) (by omega) ?_
  refine lv_iload_n hx hb dX4_valueAt_46 rfl (lv_at hl 6 rfl) ?_
  refine lv_iload hx hb dX4_valueAt_47 (lv_at hl 0 rfl) ?_
  refine g_callS (As := [.int (iI y), .int (iI 1)]) (rest := [.int (iI ((w57 * r58) % 31)), .int (iI (((((((0 + ((((w4 * r5) % 31) * r7) % 31)) + ((((w11 * r12) % 31) * r14) % 31)) + ((((w18 * r19) % 31) * r21) % 31)) + ((((w27 * r28) % 31) * r30) % 31)) + ((((w34 * r35) % 31) * r37) % 31)) + ((((w41 * r42) % 31) * r44) % 31)) + ((((w50 * r51) % 31) * r53) % 31)))]) 2 hx hb hml hown hts hK hG hS hl.1 (mX4_power l X σ  y 1 (by omega) (by omega)) q2083 q2084 q86 q2085 (by decide +kernel) rfl ⟨Nat.le_of_ble_eq_true rfl, Nat.le_of_ble_eq_true rfl⟩ ⟨Nat.le_of_ble_eq_true rfl, Nat.le_of_ble_eq_true rfl⟩ (Nat.le_of_ble_eq_true rfl) dX4_valueAt_49 (kI (fun r60 σr60 H locs hp hG hS => ?_))
  obtain ⟨⟨hr60, kr60⟩, rfl⟩ := hp
  have hp61 := mulR (a := (w57 * r58) % 31) (b := r60) (A := 31) (B := 31) (by omega) (by omega)
  refine g_imul hx hb dX4_valueAt_52 ?_
  refine g_bipush hx hb dX4_valueAt_53 (by decide) ?_
  refine g_irem hx hb dX4_valueAt_55 (by omega) (by omega) ?_
  refine g_iadd hx hb dX4_valueAt_56 ?_
  refine lv_istore (lv' := [(4, .int (iI ((((((((0 + ((((w4 * r5) % 31) * r7) % 31)) + ((((w11 * r12) % 31) * r14) % 31)) + ((((w18 * r19) % 31) * r21) % 31)) + ((((w27 * r28) % 31) * r30) % 31)) + ((((w34 * r35) % 31) * r37) % 31)) + ((((w41 * r42) % 31) * r44) % 31)) + ((((w50 * r51) % 31) * r53) % 31)) + ((((w57 * r58) % 31) * r60) % 31)))), (6, .int (iI 1)), (5, .int (iI 2)), (0, .ref o), (1, .int (iI t)), (2, .int (iI x)), (3, .int (iI y))]) hx hb dX4_valueAt_57 hl (by decide) rfl (fun ls hl => ?_)
  refine g_iinc (lv' := [(6, .int (iI (1 + 1))), (4, .int (iI ((((((((0 + ((((w4 * r5) % 31) * r7) % 31)) + ((((w11 * r12) % 31) * r14) % 31)) + ((((w18 * r19) % 31) * r21) % 31)) + ((((w27 * r28) % 31) * r30) % 31)) + ((((w34 * r35) % 31) * r37) % 31)) + ((((w41 * r42) % 31) * r44) % 31)) + ((((w50 * r51) % 31) * r53) % 31)) + ((((w57 * r58) % 31) * r60) % 31)))), (5, .int (iI 2)), (0, .ref o), (1, .int (iI t)), (2, .int (iI x)), (3, .int (iI y))]) hx hb dX4_valueAt_59 hl (k := 1) rfl (by decide) rfl (fun ls hl => ?_)
  have hl : lv_has ls 7 [(6, .int (iI 2)), (4, .int (iI ((((((((0 + ((((w4 * r5) % 31) * r7) % 31)) + ((((w11 * r12) % 31) * r14) % 31)) + ((((w18 * r19) % 31) * r21) % 31)) + ((((w27 * r28) % 31) * r30) % 31)) + ((((w34 * r35) % 31) * r37) % 31)) + ((((w41 * r42) % 31) * r44) % 31)) + ((((w50 * r51) % 31) * r53) % 31)) + ((((w57 * r58) % 31) * r60) % 31)))), (5, .int (iI 2)), (0, .ref o), (1, .int (iI t)), (2, .int (iI x)), (3, .int (iI y))] := hl
  refine lv_goto (tgt := 15) hx hb dX4_valueAt_62 (by decide) ?_
  refine lv_iload hx hb dX4_valueAt_15 (lv_at hl 0 rfl) ?_
  refine g_iconst hx hb dX4_valueAt_17 ?_
  refine g_icmp_ge (tgt := 65) hx hb dX4_valueAt_18 (by decide) (by omega) (by omega) (fun cq62 => absurd cq62 (by decide)) (fun cq62 => ?_)
  refine lv_iload hx hb dX4_valueAt_21 (lv_at hl 1 rfl) ?_
  refine lv_aload_n hx hb dX4_valueAt_23 rfl (lv_at hl 3 rfl) ?_
  refine g_get (C := RX4) (T := TX4) (N := 30) (v := .ref (a 0)) hx hb hts hown hK hG hM.o rfl in_X4 0 (by decide) q1958 rfl rfl dX4_valueAt_24 ?_
  refine lv_iload_n hx hb dX4_valueAt_27 rfl (lv_at hl 4 rfl) ?_
  refine lv_iload hx hb dX4_valueAt_28 (lv_at hl 2 rfl) ?_
  refine lv_iload hx hb dX4_valueAt_30 (lv_at hl 0 rfl) ?_
  refine g_callS (As := [.int (iI t), .int (iI 2), .int (iI 2)]) (rest := [.ref (a 0), .int (iI ((((((((0 + ((((w4 * r5) % 31) * r7) % 31)) + ((((w11 * r12) % 31) * r14) % 31)) + ((((w18 * r19) % 31) * r21) % 31)) + ((((w27 * r28) % 31) * r30) % 31)) + ((((w34 * r35) % 31) * r37) % 31)) + ((((w41 * r42) % 31) * r44) % 31)) + ((((w50 * r51) % 31) * r53) % 31)) + ((((w57 * r58) % 31) * r60) % 31)))]) 3 hx hb hml hown hts hK hG hS hl.1 (mX4_placeOf l X σ  t 2 2 (by omega) (by omega) (by omega)) q2061 q2062 q86 q2063 (by decide +kernel) rfl ⟨Nat.le_of_ble_eq_true rfl, Nat.le_of_ble_eq_true rfl⟩ ⟨Nat.le_of_ble_eq_true rfl, Nat.le_of_ble_eq_true rfl⟩ (Nat.le_of_ble_eq_true rfl) dX4_valueAt_32 (kI (fun r63 σr63 H locs hp hG hS => ?_))
  obtain ⟨hr63, rfl⟩ := hp
  refine g_iald hx hb hK hG hM.a0 dX4_valueAt_35 (by omega) ?_
  refine g_name (fun w64 ew64 => ?_)
  have hw64 : 0 ≤ w64 ∧ w64 ≤ 30 := by rw [ew64]; exact hT _ (by omega) (by omega)
  refine lv_iload_n hx hb dX4_valueAt_36 rfl (lv_at hl 5 rfl) ?_
  refine lv_iload hx hb dX4_valueAt_37 (lv_at hl 2 rfl) ?_
  refine g_callS (As := [.int (iI x), .int (iI 2)]) (rest := [.int (iI w64), .int (iI ((((((((0 + ((((w4 * r5) % 31) * r7) % 31)) + ((((w11 * r12) % 31) * r14) % 31)) + ((((w18 * r19) % 31) * r21) % 31)) + ((((w27 * r28) % 31) * r30) % 31)) + ((((w34 * r35) % 31) * r37) % 31)) + ((((w41 * r42) % 31) * r44) % 31)) + ((((w50 * r51) % 31) * r53) % 31)) + ((((w57 * r58) % 31) * r60) % 31)))]) 2 hx hb hml hown hts hK hG hS hl.1 (mX4_power l X σ  x 2 (by omega) (by omega)) q2083 q2084 q86 q2085 (by decide +kernel) rfl ⟨Nat.le_of_ble_eq_true rfl, Nat.le_of_ble_eq_true rfl⟩ ⟨Nat.le_of_ble_eq_true rfl, Nat.le_of_ble_eq_true rfl⟩ (Nat.le_of_ble_eq_true rfl) dX4_valueAt_39 (kI (fun r65 σr65 H locs hp hG hS => ?_))
  obtain ⟨⟨hr65, kr65⟩, rfl⟩ := hp
  have hp66 := mulR (a := w64) (b := r65) (A := 31) (B := 31) (by omega) (by omega)
  refine g_imul hx hb dX4_valueAt_42 ?_
  refine g_bipush hx hb dX4_valueAt_43 (by decide) ?_
  refine g_irem hx hb dX4_valueAt_45 (by omega) (by omega) ?_
  refine lv_iload_n hx hb dX4_valueAt_46 rfl (lv_at hl 6 rfl) ?_
  refine lv_iload hx hb dX4_valueAt_47 (lv_at hl 0 rfl) ?_
  refine g_callS (As := [.int (iI y), .int (iI 2)]) (rest := [.int (iI ((w64 * r65) % 31)), .int (iI ((((((((0 + ((((w4 * r5) % 31) * r7) % 31)) + ((((w11 * r12) % 31) * r14) % 31)) + ((((w18 * r19) % 31) * r21) % 31)) + ((((w27 * r28) % 31) * r30) % 31)) + ((((w34 * r35) % 31) * r37) % 31)) + ((((w41 * r42) % 31) * r44) % 31)) + ((((w50 * r51) % 31) * r53) % 31)) + ((((w57 * r58) % 31) * r60) % 31)))]) 2 hx hb hml hown hts hK hG hS hl.1 (mX4_power l X σ  y 2 (by omega) (by omega)) q2083 q2084 q86 q2085 (by decide +kernel) rfl ⟨Nat.le_of_ble_eq_true rfl, Nat.le_of_ble_eq_true rfl⟩ ⟨Nat.le_of_ble_eq_true rfl, Nat.le_of_ble_eq_true rfl⟩ (Nat.le_of_ble_eq_true rfl) dX4_valueAt_49 (kI (fun r67 σr67 H locs hp hG hS => ?_))
  obtain ⟨⟨hr67, kr67⟩, rfl⟩ := hp
  have hp68 := mulR (a := (w64 * r65) % 31) (b := r67) (A := 31) (B := 31) (by omega) (by omega)
  refine g_imul hx hb dX4_valueAt_52 ?_
  refine g_bipush hx hb dX4_valueAt_53 (by decide) ?_
  refine g_irem hx hb dX4_valueAt_55 (by omega) (by omega) ?_
  refine g_iadd hx hb dX4_valueAt_56 ?_
  refine lv_istore (lv' := [(4, .int (iI (((((((((0 + ((((w4 * r5) % 31) * r7) % 31)) + ((((w11 * r12) % 31) * r14) % 31)) + ((((w18 * r19) % 31) * r21) % 31)) + ((((w27 * r28) % 31) * r30) % 31)) + ((((w34 * r35) % 31) * r37) % 31)) + ((((w41 * r42) % 31) * r44) % 31)) + ((((w50 * r51) % 31) * r53) % 31)) + ((((w57 * r58) % 31) * r60) % 31)) + ((((w64 * r65) % 31) * r67) % 31)))), (6, .int (iI 2)), (5, .int (iI 2)), (0, .ref o), (1, .int (iI t)), (2, .int (iI x)), (3, .int (iI y))]) hx hb dX4_valueAt_57 hl (by decide) rfl (fun ls hl => ?_)
  refine g_iinc (lv' := [(6, .int (iI (2 + 1))), (4, .int (iI (((((((((0 + ((((w4 * r5) % 31) * r7) % 31)) + ((((w11 * r12) % 31) * r14) % 31)) + ((((w18 * r19) % 31) * r21) % 31)) + ((((w27 * r28) % 31) * r30) % 31)) + ((((w34 * r35) % 31) * r37) % 31)) + ((((w41 * r42) % 31) * r44) % 31)) + ((((w50 * r51) % 31) * r53) % 31)) + ((((w57 * r58) % 31) * r60) % 31)) + ((((w64 * r65) % 31) * r67) % 31)))), (5, .int (iI 2)), (0, .ref o), (1, .int (iI t)), (2, .int (iI x)), (3, .int (iI y))]) hx hb dX4_valueAt_59 hl (k := 1) rfl (by decide) rfl (fun ls hl => ?_)
  have hl : lv_has ls 7 [(6, .int (iI 3)), (4, .int (iI (((((((((0 + ((((w4 * r5) % 31) * r7) % 31)) + ((((w11 * r12) % 31) * r14) % 31)) + ((((w18 * r19) % 31) * r21) % 31)) + ((((w27 * r28) % 31) * r30) % 31)) + ((((w34 * r35) % 31) * r37) % 31)) + ((((w41 * r42) % 31) * r44) % 31)) + ((((w50 * r51) % 31) * r53) % 31)) + ((((w57 * r58) % 31) * r60) % 31)) + ((((w64 * r65) % 31) * r67) % 31)))), (5, .int (iI 2)), (0, .ref o), (1, .int (iI t)), (2, .int (iI x)), (3, .int (iI y))] := hl
  refine lv_goto (tgt := 15) hx hb dX4_valueAt_62 (by decide) ?_
  refine lv_iload hx hb dX4_valueAt_15 (lv_at hl 0 rfl) ?_
  refine g_iconst hx hb dX4_valueAt_17 ?_
  refine g_icmp_ge (tgt := 65) hx hb dX4_valueAt_18 (by decide) (by omega) (by omega) (fun cq69 => ?_) (fun cq69 => absurd cq69 (by decide))
  refine g_iinc (lv' := [(5, .int (iI (2 + 1))), (6, .int (iI 3)), (4, .int (iI (((((((((0 + ((((w4 * r5) % 31) * r7) % 31)) + ((((w11 * r12) % 31) * r14) % 31)) + ((((w18 * r19) % 31) * r21) % 31)) + ((((w27 * r28) % 31) * r30) % 31)) + ((((w34 * r35) % 31) * r37) % 31)) + ((((w41 * r42) % 31) * r44) % 31)) + ((((w50 * r51) % 31) * r53) % 31)) + ((((w57 * r58) % 31) * r60) % 31)) + ((((w64 * r65) % 31) * r67) % 31)))), (0, .ref o), (1, .int (iI t)), (2, .int (iI x)), (3, .int (iI y))]) hx hb dX4_valueAt_65 hl (k := 2) rfl (by decide) rfl (fun ls hl => ?_)
  have hl : lv_has ls 7 [(5, .int (iI 3)), (6, .int (iI 3)), (4, .int (iI (((((((((0 + ((((w4 * r5) % 31) * r7) % 31)) + ((((w11 * r12) % 31) * r14) % 31)) + ((((w18 * r19) % 31) * r21) % 31)) + ((((w27 * r28) % 31) * r30) % 31)) + ((((w34 * r35) % 31) * r37) % 31)) + ((((w41 * r42) % 31) * r44) % 31)) + ((((w50 * r51) % 31) * r53) % 31)) + ((((w57 * r58) % 31) * r60) % 31)) + ((((w64 * r65) % 31) * r67) % 31)))), (0, .ref o), (1, .int (iI t)), (2, .int (iI x)), (3, .int (iI y))] := hl
  refine lv_goto (tgt := 6) hx hb dX4_valueAt_68 (by decide) ?_
  refine lv_iload hx hb dX4_valueAt_6 (lv_at hl 0 rfl) ?_
  refine g_iconst hx hb dX4_valueAt_8 ?_
  refine g_icmp_ge (tgt := 71) hx hb dX4_valueAt_9 (by decide) (by omega) (by omega) (fun cq70 => ?_) (fun cq70 => absurd cq70 (by decide))
  refine lv_iload hx hb dX4_valueAt_71 (lv_at hl 2 rfl) ?_
  refine g_bipush hx hb dX4_valueAt_73 (by decide) ?_
  refine g_irem hx hb dX4_valueAt_75 (by omega) (by omega) ?_
  exact g_iret hx hb hr hlocks hQ hG hS (Nat.zero_le _) (Nat.zero_le _) ⟨_, rfl, ⟨(by
            have ee : ∀ i j : Int, entZ (V 0) t 0 i j = V 0 (9 * t + 3 * i + j) := fun i j => by unfold entZ cel; rw [if_pos rfl]
            simp only [valZ, rowZ, ee]
            simp only [*]
            exact val_m _ _ _ _ _ _ _ _ _ _ _ _ _ _ _), (by omega)⟩, rfl⟩ dX4_valueAt_76

theorem mX4_keptAt (l : Launch) (X : gX) (σ : gS) (o : Nat) (a : Nat → Nat) (V : Nat → Int → Int) (Iv : Nat → Int) (hM : MW X σ o a V Iv) (hT : okT (V 0)) (x : Int) (y : Int) (h0 : 0 ≤ x ∧ x ≤ 31) (h1 : 0 ≤ y ∧ y ≤ 31) : gMet l X yX4_keptAt cX4_keptAt 3 (some .int) 2 0 0 48 σ [.ref o, .int (iI x), .int (iI y)] (oI (fun r σ' => (r = kepZ (V 0) x y ∧ (r = -6 ∨ (0 ≤ r ∧ r ≤ 31))) ∧ σ = σ')) := by
  refine gMet.of (by decide) (Nat.le_of_ble_eq_true rfl) ?_
  intro pp ee ss mm args below meth cd Q H locs ls hargs hx hb hr hlocks hml hown hnm hts hK hG hS hQ hl
  have hown : ss.vm.findClass RX4 = some mm.cls := hown
  have hl : lv_has ls 3 [(0, .ref o), (1, .int (iI x)), (2, .int (iI y))] := hl
  refine lv_aload_n hx hb dX4_keptAt_0 rfl (lv_at hl 0 rfl) ?_
  refine g_iconst hx hb dX4_keptAt_1 ?_
  refine lv_iload_n hx hb dX4_keptAt_2 rfl (lv_at hl 1 rfl) ?_
  refine lv_iload_n hx hb dX4_keptAt_3 rfl (lv_at hl 2 rfl) ?_
  refine g_callV (As := [.int (iI 0), .int (iI x), .int (iI y)]) (rest := []) 3 hx hb hml hown hts hK hG hS hl.1 (mX4_valueAt l X σ o a V Iv hM hT 0 x y (by omega) (by omega) (by omega)) hM.o rfl q2079 q2081 qs46 q86 q2082 (by decide +kernel) rfl ⟨Nat.le_of_ble_eq_true rfl, Nat.le_of_ble_eq_true rfl⟩ ⟨Nat.le_of_ble_eq_true rfl, Nat.le_of_ble_eq_true rfl⟩ (Nat.le_of_ble_eq_true rfl) dX4_keptAt_4 (kI (fun r1 σr1 H locs hp hG hS => ?_))
  obtain ⟨⟨hr1, kr1⟩, rfl⟩ := hp
  refine lv_aload_n hx hb dX4_keptAt_7 rfl (lv_at hl 0 rfl) ?_
  refine g_iconst hx hb dX4_keptAt_8 ?_
  refine lv_iload_n hx hb dX4_keptAt_9 rfl (lv_at hl 1 rfl) ?_
  refine lv_iload_n hx hb dX4_keptAt_10 rfl (lv_at hl 2 rfl) ?_
  refine g_callV (As := [.int (iI 1), .int (iI x), .int (iI y)]) (rest := [.int (iI r1)]) 3 hx hb hml hown hts hK hG hS hl.1 (mX4_valueAt l X σ o a V Iv hM hT 1 x y (by omega) (by omega) (by omega)) hM.o rfl q2079 q2081 qs46 q86 q2082 (by decide +kernel) rfl ⟨Nat.le_of_ble_eq_true rfl, Nat.le_of_ble_eq_true rfl⟩ ⟨Nat.le_of_ble_eq_true rfl, Nat.le_of_ble_eq_true rfl⟩ (Nat.le_of_ble_eq_true rfl) dX4_keptAt_11 (kI (fun r2 σr2 H locs hp hG hS => ?_))
  obtain ⟨⟨hr2, kr2⟩, rfl⟩ := hp
  refine g_callS (As := [.int (iI r1), .int (iI r2)]) (rest := []) 2 hx hb hml hown hts hK hG hS hl.1 (mX4_by l X σ  r1 r2 (by omega) (by omega)) q2094 q2095 q86 q2096 (by decide +kernel) rfl ⟨Nat.le_of_ble_eq_true rfl, Nat.le_of_ble_eq_true rfl⟩ ⟨Nat.le_of_ble_eq_true rfl, Nat.le_of_ble_eq_true rfl⟩ (Nat.le_of_ble_eq_true rfl) dX4_keptAt_14 (kI (fun r3 σr3 H locs hp hG hS => ?_))
  obtain ⟨⟨hr3, kr3⟩, rfl⟩ := hp
  exact g_iret hx hb hr hlocks hQ hG hS (Nat.zero_le _) (Nat.zero_le _) ⟨_, rfl, ⟨(by simp only [kepZ, *]), (by omega)⟩, rfl⟩ dX4_keptAt_17

set_option maxHeartbeats 4000000 in
theorem mX4_rowAt (l : Launch) (X : gX) (σ : gS) (o : Nat) (a : Nat → Nat) (V : Nat → Int → Int) (Iv : Nat → Int) (hM : MW X σ o a V Iv) (hT : okT (V 0)) (t : Int) (w : Int) (i : Int) (c : Int) (h0 : 0 ≤ t ∧ t ≤ 1) (h1 : -2147483648 ≤ w ∧ w ≤ 2147483647) (h2 : 0 ≤ i ∧ i ≤ 2) (h3 : 0 ≤ c ∧ c ≤ 31) : gMet l X yX4_rowAt cX4_rowAt 7 (some .int) 1 0 0 22 σ [.ref o, .int (iI t), .int (iI w), .int (iI i), .int (iI c)] (oI (fun r σ' => (r = rowZ (V 0) t w i c ∧ (0 ≤ r ∧ r ≤ 30)) ∧ σ = σ')) := by
  refine gMet.of (by decide) (Nat.le_of_ble_eq_true rfl) ?_
  intro pp ee ss mm args below meth cd Q H locs ls hargs hx hb hr hlocks hml hown hnm hts hK hG hS hQ hl
  have hown : ss.vm.findClass RX4 = some mm.cls := hown
  have hl : lv_has ls 7 [(0, .ref o), (1, .int (iI t)), (2, .int (iI w)), (3, .int (iI i)), (4, .int (iI c))] := hl
  refine g_iconst hx hb dX4_rowAt_0 ?_
  refine lv_istore (lv' := [(5, .int (iI 0)), (0, .ref o), (1, .int (iI t)), (2, .int (iI w)), (3, .int (iI i)), (4, .int (iI c))]) hx hb dX4_rowAt_1 hl (by decide) rfl (fun ls hl => ?_)
  refine g_iconst hx hb dX4_rowAt_3 ?_
  refine lv_istore (lv' := [(6, .int (iI 0)), (5, .int (iI 0)), (0, .ref o), (1, .int (iI t)), (2, .int (iI w)), (3, .int (iI i)), (4, .int (iI c))]) hx hb dX4_rowAt_4 hl (by decide) rfl (fun ls hl => ?_)
  refine lv_iload hx hb dX4_rowAt_6 (lv_at hl 0 rfl) ?_
  refine g_iconst hx hb dX4_rowAt_8 ?_
  refine g_icmp_ge (tgt := 62) hx hb dX4_rowAt_9 (by decide) (by omega) (by omega) (fun cq1 => absurd cq1 (by decide)) (fun cq1 => ?_)
  refine lv_iload hx hb dX4_rowAt_12 (lv_at hl 1 rfl) ?_
  refine lv_iload_n hx hb dX4_rowAt_14 rfl (lv_at hl 4 rfl) ?_
  refine g_if_ne (tgt := 33) hx hb dX4_rowAt_15 (by decide) (by omega) (fun cq2 => ?_) (fun cq2 => ?_)
  · refine lv_aload_n hx hb dX4_rowAt_33 rfl (lv_at hl 2 rfl) ?_
    refine g_get (C := RX4) (T := TX4) (N := 30) (v := .ref (a 0)) hx hb hts hown hK hG hM.o rfl in_X4 0 (by decide) q1958 rfl rfl dX4_rowAt_34 ?_
    refine lv_iload_n hx hb dX4_rowAt_37 rfl (lv_at hl 3 rfl) ?_
    refine lv_iload hx hb dX4_rowAt_38 (lv_at hl 0 rfl) ?_
    refine lv_iload_n hx hb dX4_rowAt_40 rfl (lv_at hl 5 rfl) ?_
    refine g_callS (As := [.int (iI t), .int (iI 0), .int (iI i)]) (rest := [.ref (a 0), .int (iI 0)]) 3 hx hb hml hown hts hK hG hS hl.1 (mX4_placeOf l X σ  t 0 i (by omega) (by omega) (by omega)) q2061 q2062 q86 q2063 (by decide +kernel) rfl ⟨Nat.le_of_ble_eq_true rfl, Nat.le_of_ble_eq_true rfl⟩ ⟨Nat.le_of_ble_eq_true rfl, Nat.le_of_ble_eq_true rfl⟩ (Nat.le_of_ble_eq_true rfl) dX4_rowAt_41 (kI (fun r3 σr3 H locs hp hG hS => ?_))
    obtain ⟨hr3, rfl⟩ := hp
    refine g_iald hx hb hK hG hM.a0 dX4_rowAt_44 (by omega) ?_
    refine g_name (fun w4 ew4 => ?_)
    have hw4 : 0 ≤ w4 ∧ w4 ≤ 30 := by rw [ew4]; exact hT _ (by omega) (by omega)
    refine lv_iload hx hb dX4_rowAt_45 (lv_at hl 6 rfl) ?_
    refine lv_iload hx hb dX4_rowAt_47 (lv_at hl 0 rfl) ?_
    refine g_callS (As := [.int (iI c), .int (iI 0)]) (rest := [.int (iI w4), .int (iI 0)]) 2 hx hb hml hown hts hK hG hS hl.1 (mX4_power l X σ  c 0 (by omega) (by omega)) q2083 q2084 q86 q2085 (by decide +kernel) rfl ⟨Nat.le_of_ble_eq_true rfl, Nat.le_of_ble_eq_true rfl⟩ ⟨Nat.le_of_ble_eq_true rfl, Nat.le_of_ble_eq_true rfl⟩ (Nat.le_of_ble_eq_true rfl) dX4_rowAt_49 (kI (fun r5 σr5 H locs hp hG hS => ?_))
    obtain ⟨⟨hr5, kr5⟩, rfl⟩ := hp
    have hp6 := mulR (a := w4) (b := r5) (A := 31) (B := 31) (by omega) (by omega)
    refine g_imul hx hb dX4_rowAt_52 ?_
    refine g_iadd hx hb dX4_rowAt_53 ?_
    refine lv_istore (lv' := [(5, .int (iI (0 + (w4 * r5)))), (6, .int (iI 0)), (0, .ref o), (1, .int (iI t)), (2, .int (iI w)), (3, .int (iI i)), (4, .int (iI c))]) hx hb dX4_rowAt_54 hl (by decide) rfl (fun ls hl => ?_)
    refine g_iinc (lv' := [(6, .int (iI (0 + 1))), (5, .int (iI (0 + (w4 * r5)))), (0, .ref o), (1, .int (iI t)), (2, .int (iI w)), (3, .int (iI i)), (4, .int (iI c))]) hx hb dX4_rowAt_56 hl (k := 1) rfl (by decide) rfl (fun ls hl => ?_)
    have hl : lv_has ls 7 [(6, .int (iI 1)), (5, .int (iI (0 + (w4 * r5)))), (0, .ref o), (1, .int (iI t)), (2, .int (iI w)), (3, .int (iI i)), (4, .int (iI c))] := hl
    refine lv_goto (tgt := 6) hx hb dX4_rowAt_59 (by decide) ?_
    refine lv_iload hx hb dX4_rowAt_6 (lv_at hl 0 rfl) ?_
    refine g_iconst hx hb dX4_rowAt_8 ?_
    refine g_icmp_ge (tgt := 62) hx hb dX4_rowAt_9 (by decide) (by omega) (by omega) (fun cq7 => absurd cq7 (by decide)) (fun cq7 => ?_)
    refine lv_iload hx hb dX4_rowAt_12 (lv_at hl 1 rfl) ?_
    refine lv_iload_n hx hb dX4_rowAt_14 rfl (lv_at hl 4 rfl) ?_
    refine g_if_ne (tgt := 33) hx hb dX4_rowAt_15 (by decide) (by omega) (fun cq8 => ?_) (fun cq8 => by omega)
    refine lv_aload_n hx hb dX4_rowAt_33 rfl (lv_at hl 2 rfl) ?_
    refine g_get (C := RX4) (T := TX4) (N := 30) (v := .ref (a 0)) hx hb hts hown hK hG hM.o rfl in_X4 0 (by decide) q1958 rfl rfl dX4_rowAt_34 ?_
    refine lv_iload_n hx hb dX4_rowAt_37 rfl (lv_at hl 3 rfl) ?_
    refine lv_iload hx hb dX4_rowAt_38 (lv_at hl 0 rfl) ?_
    refine lv_iload_n hx hb dX4_rowAt_40 rfl (lv_at hl 5 rfl) ?_
    refine g_callS (As := [.int (iI t), .int (iI 1), .int (iI i)]) (rest := [.ref (a 0), .int (iI (0 + (w4 * r5)))]) 3 hx hb hml hown hts hK hG hS hl.1 (mX4_placeOf l X σ  t 1 i (by omega) (by omega) (by omega)) q2061 q2062 q86 q2063 (by decide +kernel) rfl ⟨Nat.le_of_ble_eq_true rfl, Nat.le_of_ble_eq_true rfl⟩ ⟨Nat.le_of_ble_eq_true rfl, Nat.le_of_ble_eq_true rfl⟩ (Nat.le_of_ble_eq_true rfl) dX4_rowAt_41 (kI (fun r9 σr9 H locs hp hG hS => ?_))
    obtain ⟨hr9, rfl⟩ := hp
    refine g_iald hx hb hK hG hM.a0 dX4_rowAt_44 (by omega) ?_
    refine g_name (fun w10 ew10 => ?_)
    have hw10 : 0 ≤ w10 ∧ w10 ≤ 30 := by rw [ew10]; exact hT _ (by omega) (by omega)
    refine lv_iload hx hb dX4_rowAt_45 (lv_at hl 6 rfl) ?_
    refine lv_iload hx hb dX4_rowAt_47 (lv_at hl 0 rfl) ?_
    refine g_callS (As := [.int (iI c), .int (iI 1)]) (rest := [.int (iI w10), .int (iI (0 + (w4 * r5)))]) 2 hx hb hml hown hts hK hG hS hl.1 (mX4_power l X σ  c 1 (by omega) (by omega)) q2083 q2084 q86 q2085 (by decide +kernel) rfl ⟨Nat.le_of_ble_eq_true rfl, Nat.le_of_ble_eq_true rfl⟩ ⟨Nat.le_of_ble_eq_true rfl, Nat.le_of_ble_eq_true rfl⟩ (Nat.le_of_ble_eq_true rfl) dX4_rowAt_49 (kI (fun r11 σr11 H locs hp hG hS => ?_))
    obtain ⟨⟨hr11, kr11⟩, rfl⟩ := hp
    have hp12 := mulR (a := w10) (b := r11) (A := 31) (B := 31) (by omega) (by omega)
    refine g_imul hx hb dX4_rowAt_52 ?_
    refine g_iadd hx hb dX4_rowAt_53 ?_
    refine lv_istore (lv' := [(5, .int (iI ((0 + (w4 * r5)) + (w10 * r11)))), (6, .int (iI 1)), (0, .ref o), (1, .int (iI t)), (2, .int (iI w)), (3, .int (iI i)), (4, .int (iI c))]) hx hb dX4_rowAt_54 hl (by decide) rfl (fun ls hl => ?_)
    refine g_iinc (lv' := [(6, .int (iI (1 + 1))), (5, .int (iI ((0 + (w4 * r5)) + (w10 * r11)))), (0, .ref o), (1, .int (iI t)), (2, .int (iI w)), (3, .int (iI i)), (4, .int (iI c))]) hx hb dX4_rowAt_56 hl (k := 1) rfl (by decide) rfl (fun ls hl => ?_)
    have hl : lv_has ls 7 [(6, .int (iI 2)), (5, .int (iI ((0 + (w4 * r5)) + (w10 * r11)))), (0, .ref o), (1, .int (iI t)), (2, .int (iI w)), (3, .int (iI i)), (4, .int (iI c))] := hl
    refine lv_goto (tgt := 6) hx hb dX4_rowAt_59 (by decide) ?_
    refine lv_iload hx hb dX4_rowAt_6 (lv_at hl 0 rfl) ?_
    refine g_iconst hx hb dX4_rowAt_8 ?_
    refine g_icmp_ge (tgt := 62) hx hb dX4_rowAt_9 (by decide) (by omega) (by omega) (fun cq13 => absurd cq13 (by decide)) (fun cq13 => ?_)
    refine lv_iload hx hb dX4_rowAt_12 (lv_at hl 1 rfl) ?_
    refine lv_iload_n hx hb dX4_rowAt_14 rfl (lv_at hl 4 rfl) ?_
    refine g_if_ne (tgt := 33) hx hb dX4_rowAt_15 (by decide) (by omega) (fun cq14 => ?_) (fun cq14 => by omega)
    refine lv_aload_n hx hb dX4_rowAt_33 rfl (lv_at hl 2 rfl) ?_
    refine g_get (C := RX4) (T := TX4) (N := 30) (v := .ref (a 0)) hx hb hts hown hK hG hM.o rfl in_X4 0 (by decide) q1958 rfl rfl dX4_rowAt_34 ?_
    refine lv_iload_n hx hb dX4_rowAt_37 rfl (lv_at hl 3 rfl) ?_
    refine lv_iload hx hb dX4_rowAt_38 (lv_at hl 0 rfl) ?_
    refine lv_iload_n hx hb dX4_rowAt_40 rfl (lv_at hl 5 rfl) ?_
    refine g_callS (As := [.int (iI t), .int (iI 2), .int (iI i)]) (rest := [.ref (a 0), .int (iI ((0 + (w4 * r5)) + (w10 * r11)))]) 3 hx hb hml hown hts hK hG hS hl.1 (mX4_placeOf l X σ  t 2 i (by omega) (by omega) (by omega)) q2061 q2062 q86 q2063 (by decide +kernel) rfl ⟨Nat.le_of_ble_eq_true rfl, Nat.le_of_ble_eq_true rfl⟩ ⟨Nat.le_of_ble_eq_true rfl, Nat.le_of_ble_eq_true rfl⟩ (Nat.le_of_ble_eq_true rfl) dX4_rowAt_41 (kI (fun r15 σr15 H locs hp hG hS => ?_))
    obtain ⟨hr15, rfl⟩ := hp
    refine g_iald hx hb hK hG hM.a0 dX4_rowAt_44 (by omega) ?_
    refine g_name (fun w16 ew16 => ?_)
    have hw16 : 0 ≤ w16 ∧ w16 ≤ 30 := by rw [ew16]; exact hT _ (by omega) (by omega)
    refine lv_iload hx hb dX4_rowAt_45 (lv_at hl 6 rfl) ?_
    refine lv_iload hx hb dX4_rowAt_47 (lv_at hl 0 rfl) ?_
    refine g_callS (As := [.int (iI c), .int (iI 2)]) (rest := [.int (iI w16), .int (iI ((0 + (w4 * r5)) + (w10 * r11)))]) 2 hx hb hml hown hts hK hG hS hl.1 (mX4_power l X σ  c 2 (by omega) (by omega)) q2083 q2084 q86 q2085 (by decide +kernel) rfl ⟨Nat.le_of_ble_eq_true rfl, Nat.le_of_ble_eq_true rfl⟩ ⟨Nat.le_of_ble_eq_true rfl, Nat.le_of_ble_eq_true rfl⟩ (Nat.le_of_ble_eq_true rfl) dX4_rowAt_49 (kI (fun r17 σr17 H locs hp hG hS => ?_))
    obtain ⟨⟨hr17, kr17⟩, rfl⟩ := hp
    have hp18 := mulR (a := w16) (b := r17) (A := 31) (B := 31) (by omega) (by omega)
    refine g_imul hx hb dX4_rowAt_52 ?_
    refine g_iadd hx hb dX4_rowAt_53 ?_
    refine lv_istore (lv' := [(5, .int (iI (((0 + (w4 * r5)) + (w10 * r11)) + (w16 * r17)))), (6, .int (iI 2)), (0, .ref o), (1, .int (iI t)), (2, .int (iI w)), (3, .int (iI i)), (4, .int (iI c))]) hx hb dX4_rowAt_54 hl (by decide) rfl (fun ls hl => ?_)
    refine g_iinc (lv' := [(6, .int (iI (2 + 1))), (5, .int (iI (((0 + (w4 * r5)) + (w10 * r11)) + (w16 * r17)))), (0, .ref o), (1, .int (iI t)), (2, .int (iI w)), (3, .int (iI i)), (4, .int (iI c))]) hx hb dX4_rowAt_56 hl (k := 1) rfl (by decide) rfl (fun ls hl => ?_)
    have hl : lv_has ls 7 [(6, .int (iI 3)), (5, .int (iI (((0 + (w4 * r5)) + (w10 * r11)) + (w16 * r17)))), (0, .ref o), (1, .int (iI t)), (2, .int (iI w)), (3, .int (iI i)), (4, .int (iI c))] := hl
    refine lv_goto (tgt := 6) hx hb dX4_rowAt_59 (by decide) ?_
    refine lv_iload hx hb dX4_rowAt_6 (lv_at hl 0 rfl) ?_
    refine g_iconst hx hb dX4_rowAt_8 ?_
    refine g_icmp_ge (tgt := 62) hx hb dX4_rowAt_9 (by decide) (by omega) (by omega) (fun cq19 => ?_) (fun cq19 => absurd cq19 (by decide))
    refine lv_iload hx hb dX4_rowAt_62 (lv_at hl 1 rfl) ?_
    refine g_bipush hx hb dX4_rowAt_64 (by decide) ?_
    refine g_irem hx hb dX4_rowAt_66 (by omega) (by omega) ?_
    exact g_iret hx hb hr hlocks hQ hG hS (Nat.zero_le _) (Nat.zero_le _) ⟨_, rfl, ⟨(by
              have e0 : ∀ i j : Int, entZ (V 0) t w i j = if w = 0 then V 0 (9 * t + 3 * i + j) else V 0 (9 * t + 3 * j + i) := fun i j => rfl
              simp only [rowZ, e0]
              first | rw [if_pos (by assumption), if_pos (by assumption), if_pos (by assumption)] | rw [if_neg (by assumption), if_neg (by assumption), if_neg (by assumption)]
              simp only [*]
              omega), (by omega)⟩, rfl⟩ dX4_rowAt_67
  · refine lv_aload_n hx hb dX4_rowAt_18 rfl (lv_at hl 2 rfl) ?_
    refine g_get (C := RX4) (T := TX4) (N := 30) (v := .ref (a 0)) hx hb hts hown hK hG hM.o rfl in_X4 0 (by decide) q1958 rfl rfl dX4_rowAt_19 ?_
    refine lv_iload_n hx hb dX4_rowAt_22 rfl (lv_at hl 3 rfl) ?_
    refine lv_iload_n hx hb dX4_rowAt_23 rfl (lv_at hl 5 rfl) ?_
    refine lv_iload hx hb dX4_rowAt_24 (lv_at hl 0 rfl) ?_
    refine g_callS (As := [.int (iI t), .int (iI i), .int (iI 0)]) (rest := [.ref (a 0), .int (iI 0)]) 3 hx hb hml hown hts hK hG hS hl.1 (mX4_placeOf l X σ  t i 0 (by omega) (by omega) (by omega)) q2061 q2062 q86 q2063 (by decide +kernel) rfl ⟨Nat.le_of_ble_eq_true rfl, Nat.le_of_ble_eq_true rfl⟩ ⟨Nat.le_of_ble_eq_true rfl, Nat.le_of_ble_eq_true rfl⟩ (Nat.le_of_ble_eq_true rfl) dX4_rowAt_26 (kI (fun r20 σr20 H locs hp hG hS => ?_))
    obtain ⟨hr20, rfl⟩ := hp
    refine g_iald hx hb hK hG hM.a0 dX4_rowAt_29 (by omega) ?_
    refine g_name (fun w21 ew21 => ?_)
    have hw21 : 0 ≤ w21 ∧ w21 ≤ 30 := by rw [ew21]; exact hT _ (by omega) (by omega)
    refine lv_goto (tgt := 45) hx hb dX4_rowAt_30 (by decide) ?_
    refine lv_iload hx hb dX4_rowAt_45 (lv_at hl 6 rfl) ?_
    refine lv_iload hx hb dX4_rowAt_47 (lv_at hl 0 rfl) ?_
    refine g_callS (As := [.int (iI c), .int (iI 0)]) (rest := [.int (iI w21), .int (iI 0)]) 2 hx hb hml hown hts hK hG hS hl.1 (mX4_power l X σ  c 0 (by omega) (by omega)) q2083 q2084 q86 q2085 (by decide +kernel) rfl ⟨Nat.le_of_ble_eq_true rfl, Nat.le_of_ble_eq_true rfl⟩ ⟨Nat.le_of_ble_eq_true rfl, Nat.le_of_ble_eq_true rfl⟩ (Nat.le_of_ble_eq_true rfl) dX4_rowAt_49 (kI (fun r22 σr22 H locs hp hG hS => ?_))
    obtain ⟨⟨hr22, kr22⟩, rfl⟩ := hp
    have hp23 := mulR (a := w21) (b := r22) (A := 31) (B := 31) (by omega) (by omega)
    refine g_imul hx hb dX4_rowAt_52 ?_
    refine g_iadd hx hb dX4_rowAt_53 ?_
    refine lv_istore (lv' := [(5, .int (iI (0 + (w21 * r22)))), (6, .int (iI 0)), (0, .ref o), (1, .int (iI t)), (2, .int (iI w)), (3, .int (iI i)), (4, .int (iI c))]) hx hb dX4_rowAt_54 hl (by decide) rfl (fun ls hl => ?_)
    refine g_iinc (lv' := [(6, .int (iI (0 + 1))), (5, .int (iI (0 + (w21 * r22)))), (0, .ref o), (1, .int (iI t)), (2, .int (iI w)), (3, .int (iI i)), (4, .int (iI c))]) hx hb dX4_rowAt_56 hl (k := 1) rfl (by decide) rfl (fun ls hl => ?_)
    have hl : lv_has ls 7 [(6, .int (iI 1)), (5, .int (iI (0 + (w21 * r22)))), (0, .ref o), (1, .int (iI t)), (2, .int (iI w)), (3, .int (iI i)), (4, .int (iI c))] := hl
    refine lv_goto (tgt := 6) hx hb dX4_rowAt_59 (by decide) ?_
    refine lv_iload hx hb dX4_rowAt_6 (lv_at hl 0 rfl) ?_
    refine g_iconst hx hb dX4_rowAt_8 ?_
    refine g_icmp_ge (tgt := 62) hx hb dX4_rowAt_9 (by decide) (by omega) (by omega) (fun cq24 => absurd cq24 (by decide)) (fun cq24 => ?_)
    refine lv_iload hx hb dX4_rowAt_12 (lv_at hl 1 rfl) ?_
    refine lv_iload_n hx hb dX4_rowAt_14 rfl (lv_at hl 4 rfl) ?_
    refine g_if_ne (tgt := 33) hx hb dX4_rowAt_15 (by decide) (by omega) (fun cq25 => by omega) (fun cq25 => ?_)
    refine lv_aload_n hx hb dX4_rowAt_18 rfl (lv_at hl 2 rfl) ?_
    refine g_get (C := RX4) (T := TX4) (N := 30) (v := .ref (a 0)) hx hb hts hown hK hG hM.o rfl in_X4 0 (by decide) q1958 rfl rfl dX4_rowAt_19 ?_
    refine lv_iload_n hx hb dX4_rowAt_22 rfl (lv_at hl 3 rfl) ?_
    refine lv_iload_n hx hb dX4_rowAt_23 rfl (lv_at hl 5 rfl) ?_
    refine lv_iload hx hb dX4_rowAt_24 (lv_at hl 0 rfl) ?_
    refine g_callS (As := [.int (iI t), .int (iI i), .int (iI 1)]) (rest := [.ref (a 0), .int (iI (0 + (w21 * r22)))]) 3 hx hb hml hown hts hK hG hS hl.1 (mX4_placeOf l X σ  t i 1 (by omega) (by omega) (by omega)) q2061 q2062 q86 q2063 (by decide +kernel) rfl ⟨Nat.le_of_ble_eq_true rfl, Nat.le_of_ble_eq_true rfl⟩ ⟨Nat.le_of_ble_eq_true rfl, Nat.le_of_ble_eq_true rfl⟩ (Nat.le_of_ble_eq_true rfl) dX4_rowAt_26 (kI (fun r26 σr26 H locs hp hG hS => ?_))
    obtain ⟨hr26, rfl⟩ := hp
    refine g_iald hx hb hK hG hM.a0 dX4_rowAt_29 (by omega) ?_
    refine g_name (fun w27 ew27 => ?_)
    have hw27 : 0 ≤ w27 ∧ w27 ≤ 30 := by rw [ew27]; exact hT _ (by omega) (by omega)
    refine lv_goto (tgt := 45) hx hb dX4_rowAt_30 (by decide) ?_
    refine lv_iload hx hb dX4_rowAt_45 (lv_at hl 6 rfl) ?_
    refine lv_iload hx hb dX4_rowAt_47 (lv_at hl 0 rfl) ?_
    refine g_callS (As := [.int (iI c), .int (iI 1)]) (rest := [.int (iI w27), .int (iI (0 + (w21 * r22)))]) 2 hx hb hml hown hts hK hG hS hl.1 (mX4_power l X σ  c 1 (by omega) (by omega)) q2083 q2084 q86 q2085 (by decide +kernel) rfl ⟨Nat.le_of_ble_eq_true rfl, Nat.le_of_ble_eq_true rfl⟩ ⟨Nat.le_of_ble_eq_true rfl, Nat.le_of_ble_eq_true rfl⟩ (Nat.le_of_ble_eq_true rfl) dX4_rowAt_49 (kI (fun r28 σr28 H locs hp hG hS => ?_))
    obtain ⟨⟨hr28, kr28⟩, rfl⟩ := hp
    have hp29 := mulR (a := w27) (b := r28) (A := 31) (B := 31) (by omega) (by omega)
    refine g_imul hx hb dX4_rowAt_52 ?_
    refine g_iadd hx hb dX4_rowAt_53 ?_
    refine lv_istore (lv' := [(5, .int (iI ((0 + (w21 * r22)) + (w27 * r28)))), (6, .int (iI 1)), (0, .ref o), (1, .int (iI t)), (2, .int (iI w)), (3, .int (iI i)), (4, .int (iI c))]) hx hb dX4_rowAt_54 hl (by decide) rfl (fun ls hl => ?_)
    refine g_iinc (lv' := [(6, .int (iI (1 + 1))), (5, .int (iI ((0 + (w21 * r22)) + (w27 * r28)))), (0, .ref o), (1, .int (iI t)), (2, .int (iI w)), (3, .int (iI i)), (4, .int (iI c))]) hx hb dX4_rowAt_56 hl (k := 1) rfl (by decide) rfl (fun ls hl => ?_)
    have hl : lv_has ls 7 [(6, .int (iI 2)), (5, .int (iI ((0 + (w21 * r22)) + (w27 * r28)))), (0, .ref o), (1, .int (iI t)), (2, .int (iI w)), (3, .int (iI i)), (4, .int (iI c))] := hl
    refine lv_goto (tgt := 6) hx hb dX4_rowAt_59 (by decide) ?_
    refine lv_iload hx hb dX4_rowAt_6 (lv_at hl 0 rfl) ?_
    refine g_iconst hx hb dX4_rowAt_8 ?_
    refine g_icmp_ge (tgt := 62) hx hb dX4_rowAt_9 (by decide) (by omega) (by omega) (fun cq30 => absurd cq30 (by decide)) (fun cq30 => ?_)
    refine lv_iload hx hb dX4_rowAt_12 (lv_at hl 1 rfl) ?_
    refine lv_iload_n hx hb dX4_rowAt_14 rfl (lv_at hl 4 rfl) ?_
    refine g_if_ne (tgt := 33) hx hb dX4_rowAt_15 (by decide) (by omega) (fun cq31 => by omega) (fun cq31 => ?_)
    refine lv_aload_n hx hb dX4_rowAt_18 rfl (lv_at hl 2 rfl) ?_
    refine g_get (C := RX4) (T := TX4) (N := 30) (v := .ref (a 0)) hx hb hts hown hK hG hM.o rfl in_X4 0 (by decide) q1958 rfl rfl dX4_rowAt_19 ?_
    refine lv_iload_n hx hb dX4_rowAt_22 rfl (lv_at hl 3 rfl) ?_
    refine lv_iload_n hx hb dX4_rowAt_23 rfl (lv_at hl 5 rfl) ?_
    refine lv_iload hx hb dX4_rowAt_24 (lv_at hl 0 rfl) ?_
    refine g_callS (As := [.int (iI t), .int (iI i), .int (iI 2)]) (rest := [.ref (a 0), .int (iI ((0 + (w21 * r22)) + (w27 * r28)))]) 3 hx hb hml hown hts hK hG hS hl.1 (mX4_placeOf l X σ  t i 2 (by omega) (by omega) (by omega)) q2061 q2062 q86 q2063 (by decide +kernel) rfl ⟨Nat.le_of_ble_eq_true rfl, Nat.le_of_ble_eq_true rfl⟩ ⟨Nat.le_of_ble_eq_true rfl, Nat.le_of_ble_eq_true rfl⟩ (Nat.le_of_ble_eq_true rfl) dX4_rowAt_26 (kI (fun r32 σr32 H locs hp hG hS => ?_))
    obtain ⟨hr32, rfl⟩ := hp
    refine g_iald hx hb hK hG hM.a0 dX4_rowAt_29 (by omega) ?_
    refine g_name (fun w33 ew33 => ?_)
    have hw33 : 0 ≤ w33 ∧ w33 ≤ 30 := by rw [ew33]; exact hT _ (by omega) (by omega)
    refine lv_goto (tgt := 45) hx hb dX4_rowAt_30 (by decide) ?_
    refine lv_iload hx hb dX4_rowAt_45 (lv_at hl 6 rfl) ?_
    refine lv_iload hx hb dX4_rowAt_47 (lv_at hl 0 rfl) ?_
    refine g_callS (As := [.int (iI c), .int (iI 2)]) (rest := [.int (iI w33), .int (iI ((0 + (w21 * r22)) + (w27 * r28)))]) 2 hx hb hml hown hts hK hG hS hl.1 (mX4_power l X σ  c 2 (by omega) (by omega)) q2083 q2084 q86 q2085 (by decide +kernel) rfl ⟨Nat.le_of_ble_eq_true rfl, Nat.le_of_ble_eq_true rfl⟩ ⟨Nat.le_of_ble_eq_true rfl, Nat.le_of_ble_eq_true rfl⟩ (Nat.le_of_ble_eq_true rfl) dX4_rowAt_49 (kI (fun r34 σr34 H locs hp hG hS => ?_))
    obtain ⟨⟨hr34, kr34⟩, rfl⟩ := hp
    have hp35 := mulR (a := w33) (b := r34) (A := 31) (B := 31) (by omega) (by omega)
    refine g_imul hx hb dX4_rowAt_52 ?_
    refine g_iadd hx hb dX4_rowAt_53 ?_
    refine lv_istore (lv' := [(5, .int (iI (((0 + (w21 * r22)) + (w27 * r28)) + (w33 * r34)))), (6, .int (iI 2)), (0, .ref o), (1, .int (iI t)), (2, .int (iI w)), (3, .int (iI i)), (4, .int (iI c))]) hx hb dX4_rowAt_54 hl (by decide) rfl (fun ls hl => ?_)
    refine g_iinc (lv' := [(6, .int (iI (2 + 1))), (5, .int (iI (((0 + (w21 * r22)) + (w27 * r28)) + (w33 * r34)))), (0, .ref o), (1, .int (iI t)), (2, .int (iI w)), (3, .int (iI i)), (4, .int (iI c))]) hx hb dX4_rowAt_56 hl (k := 1) rfl (by decide) rfl (fun ls hl => ?_)
    have hl : lv_has ls 7 [(6, .int (iI 3)), (5, .int (iI (((0 + (w21 * r22)) + (w27 * r28)) + (w33 * r34)))), (0, .ref o), (1, .int (iI t)), (2, .int (iI w)), (3, .int (iI i)), (4, .int (iI c))] := hl
    refine lv_goto (tgt := 6) hx hb dX4_rowAt_59 (by decide) ?_
    refine lv_iload hx hb dX4_rowAt_6 (lv_at hl 0 rfl) ?_
    refine g_iconst hx hb dX4_rowAt_8 ?_
    refine g_icmp_ge (tgt := 62) hx hb dX4_rowAt_9 (by decide) (by omega) (by omega) (fun cq36 => ?_) (fun cq36 => absurd cq36 (by decide))
    refine lv_iload hx hb dX4_rowAt_62 (lv_at hl 1 rfl) ?_
    refine g_bipush hx hb dX4_rowAt_64 (by decide) ?_
    refine g_irem hx hb dX4_rowAt_66 (by omega) (by omega) ?_
    exact g_iret hx hb hr hlocks hQ hG hS (Nat.zero_le _) (Nat.zero_le _) ⟨_, rfl, ⟨(by
              have e0 : ∀ i j : Int, entZ (V 0) t w i j = if w = 0 then V 0 (9 * t + 3 * i + j) else V 0 (9 * t + 3 * j + i) := fun i j => rfl
              simp only [rowZ, e0]
              first | rw [if_pos (by assumption), if_pos (by assumption), if_pos (by assumption)] | rw [if_neg (by assumption), if_neg (by assumption), if_neg (by assumption)]
              simp only [*]
              omega), (by omega)⟩, rfl⟩ dX4_rowAt_67

set_option maxHeartbeats 4000000 in
theorem mX4_crossed (l : Launch) (X : gX) (σ : gS) (o : Nat) (a : Nat → Nat) (V : Nat → Int → Int) (Iv : Nat → Int) (hM : MW X σ o a V Iv) (hT : okT (V 0)) (w : Int) (c : Int) (a9 : Int) (h0 : -2147483648 ≤ w ∧ w ≤ 2147483647) (h1 : 0 ≤ c ∧ c ≤ 31) (h2 : -2147483648 ≤ a9 ∧ a9 ≤ 2147483647) : gMet l X yX4_crossed cX4_crossed 6 (some .int) 2 0 0 48 σ [.ref o, .int (iI w), .int (iI c), .int (iI a9)] (oI (fun r σ' => (r = crsZ (V 0) w c a9 ∧ (0 ≤ r ∧ r ≤ 30)) ∧ σ = σ')) := by
  refine gMet.of (by decide) (Nat.le_of_ble_eq_true rfl) ?_
  intro pp ee ss mm args below meth cd Q H locs ls hargs hx hb hr hlocks hml hown hnm hts hK hG hS hQ hl
  have hown : ss.vm.findClass RX4 = some mm.cls := hown
  have hl : lv_has ls 6 [(0, .ref o), (1, .int (iI w)), (2, .int (iI c)), (3, .int (iI a9))] := hl
  refine lv_iload_n hx hb dX4_crossed_0 rfl (lv_at hl 3 rfl) ?_
  refine g_iconst hx hb dX4_crossed_1 ?_
  refine g_icmp_ne (tgt := 9) hx hb dX4_crossed_2 (by decide) (by omega) (by omega) (fun cq1 => ?_) (fun cq1 => ?_)
  · refine g_iconst hx hb dX4_crossed_9 ?_
    refine lv_istore (lv' := [(4, .int (iI 2)), (0, .ref o), (1, .int (iI w)), (2, .int (iI c)), (3, .int (iI a9))]) hx hb dX4_crossed_10 hl (by decide) rfl (fun ls hl => ?_)
    refine lv_iload_n hx hb dX4_crossed_12 rfl (lv_at hl 4 rfl) ?_
    refine g_if_ne (tgt := 20) hx hb dX4_crossed_13 (by decide) (by omega) (fun cq2 => ?_) (fun cq2 => ?_)
    · refine g_iconst hx hb dX4_crossed_20 ?_
      refine lv_istore (lv' := [(5, .int (iI 0)), (4, .int (iI 2)), (0, .ref o), (1, .int (iI w)), (2, .int (iI c)), (3, .int (iI a9))]) hx hb dX4_crossed_21 hl (by decide) rfl (fun ls hl => ?_)
      refine lv_aload_n hx hb dX4_crossed_23 rfl (lv_at hl 2 rfl) ?_
      refine g_iconst hx hb dX4_crossed_24 ?_
      refine lv_iload_n hx hb dX4_crossed_25 rfl (lv_at hl 3 rfl) ?_
      refine lv_iload hx hb dX4_crossed_26 (lv_at hl 1 rfl) ?_
      refine lv_iload_n hx hb dX4_crossed_28 rfl (lv_at hl 4 rfl) ?_
      refine g_callV (As := [.int (iI 0), .int (iI w), .int (iI 2), .int (iI c)]) (rest := []) 4 hx hb hml hown hts hK hG hS hl.1 (mX4_rowAt l X σ o a V Iv hM hT 0 w 2 c (by omega) (by omega) (by omega) (by omega)) hM.o rfl q2108 q2110 qs49 q86 q2111 (by decide +kernel) rfl ⟨Nat.le_of_ble_eq_true rfl, Nat.le_of_ble_eq_true rfl⟩ ⟨Nat.le_of_ble_eq_true rfl, Nat.le_of_ble_eq_true rfl⟩ (Nat.le_of_ble_eq_true rfl) dX4_crossed_29 (kI (fun r3 σr3 H locs hp hG hS => ?_))
      obtain ⟨⟨hr3, kr3⟩, rfl⟩ := hp
      refine lv_aload_n hx hb dX4_crossed_32 rfl (lv_at hl 2 rfl) ?_
      refine g_iconst hx hb dX4_crossed_33 ?_
      refine lv_iload_n hx hb dX4_crossed_34 rfl (lv_at hl 3 rfl) ?_
      refine lv_iload hx hb dX4_crossed_35 (lv_at hl 0 rfl) ?_
      refine lv_iload_n hx hb dX4_crossed_37 rfl (lv_at hl 4 rfl) ?_
      refine g_callV (As := [.int (iI 1), .int (iI w), .int (iI 0), .int (iI c)]) (rest := [.int (iI r3)]) 4 hx hb hml hown hts hK hG hS hl.1 (mX4_rowAt l X σ o a V Iv hM hT 1 w 0 c (by omega) (by omega) (by omega) (by omega)) hM.o rfl q2108 q2110 qs49 q86 q2111 (by decide +kernel) rfl ⟨Nat.le_of_ble_eq_true rfl, Nat.le_of_ble_eq_true rfl⟩ ⟨Nat.le_of_ble_eq_true rfl, Nat.le_of_ble_eq_true rfl⟩ (Nat.le_of_ble_eq_true rfl) dX4_crossed_38 (kI (fun r4 σr4 H locs hp hG hS => ?_))
      obtain ⟨⟨hr4, kr4⟩, rfl⟩ := hp
      have hp5 := mulR (a := r3) (b := r4) (A := 30) (B := 30) (by omega) (by omega)
      refine g_imul hx hb dX4_crossed_41 ?_
      refine lv_aload_n hx hb dX4_crossed_42 rfl (lv_at hl 2 rfl) ?_
      refine g_iconst hx hb dX4_crossed_43 ?_
      refine lv_iload_n hx hb dX4_crossed_44 rfl (lv_at hl 3 rfl) ?_
      refine lv_iload hx hb dX4_crossed_45 (lv_at hl 0 rfl) ?_
      refine lv_iload_n hx hb dX4_crossed_47 rfl (lv_at hl 4 rfl) ?_
      refine g_callV (As := [.int (iI 0), .int (iI w), .int (iI 0), .int (iI c)]) (rest := [.int (iI (r3 * r4))]) 4 hx hb hml hown hts hK hG hS hl.1 (mX4_rowAt l X σ o a V Iv hM hT 0 w 0 c (by omega) (by omega) (by omega) (by omega)) hM.o rfl q2108 q2110 qs49 q86 q2111 (by decide +kernel) rfl ⟨Nat.le_of_ble_eq_true rfl, Nat.le_of_ble_eq_true rfl⟩ ⟨Nat.le_of_ble_eq_true rfl, Nat.le_of_ble_eq_true rfl⟩ (Nat.le_of_ble_eq_true rfl) dX4_crossed_48 (kI (fun r6 σr6 H locs hp hG hS => ?_))
      obtain ⟨⟨hr6, kr6⟩, rfl⟩ := hp
      refine lv_aload_n hx hb dX4_crossed_51 rfl (lv_at hl 2 rfl) ?_
      refine g_iconst hx hb dX4_crossed_52 ?_
      refine lv_iload_n hx hb dX4_crossed_53 rfl (lv_at hl 3 rfl) ?_
      refine lv_iload hx hb dX4_crossed_54 (lv_at hl 1 rfl) ?_
      refine lv_iload_n hx hb dX4_crossed_56 rfl (lv_at hl 4 rfl) ?_
      refine g_callV (As := [.int (iI 1), .int (iI w), .int (iI 2), .int (iI c)]) (rest := [.int (iI r6), .int (iI (r3 * r4))]) 4 hx hb hml hown hts hK hG hS hl.1 (mX4_rowAt l X σ o a V Iv hM hT 1 w 2 c (by omega) (by omega) (by omega) (by omega)) hM.o rfl q2108 q2110 qs49 q86 q2111 (by decide +kernel) rfl ⟨Nat.le_of_ble_eq_true rfl, Nat.le_of_ble_eq_true rfl⟩ ⟨Nat.le_of_ble_eq_true rfl, Nat.le_of_ble_eq_true rfl⟩ (Nat.le_of_ble_eq_true rfl) dX4_crossed_57 (kI (fun r7 σr7 H locs hp hG hS => ?_))
      obtain ⟨⟨hr7, kr7⟩, rfl⟩ := hp
      have hp8 := mulR (a := r6) (b := r7) (A := 30) (B := 30) (by omega) (by omega)
      refine g_imul hx hb dX4_crossed_60 ?_
      refine g_isub hx hb dX4_crossed_61 ?_
      refine g_callS (As := [.int (iI ((r3 * r4) - (r6 * r7)))]) (rest := []) 1 hx hb hml hown hts hK hG hS hl.1 (mX4_mod l X σ  ((r3 * r4) - (r6 * r7)) (by omega)) q2112 q2113 q86 q2114 (by decide +kernel) rfl ⟨Nat.le_of_ble_eq_true rfl, Nat.le_of_ble_eq_true rfl⟩ ⟨Nat.le_of_ble_eq_true rfl, Nat.le_of_ble_eq_true rfl⟩ (Nat.le_of_ble_eq_true rfl) dX4_crossed_62 (kI (fun r9 σr9 H locs hp hG hS => ?_))
      obtain ⟨⟨hr9, kr9⟩, rfl⟩ := hp
      exact g_iret hx hb hr hlocks hQ hG hS (Nat.zero_le _) (Nat.zero_le _) ⟨_, rfl, ⟨(by
                have e1 : hiZ a9 = (if a9 = 2 then 1 else 2) := rfl
                have e2 : loZ a9 = (if a9 = 0 then 1 else 0) := rfl
                first | rw [if_pos (by assumption)] at e1 | rw [if_neg (by assumption)] at e1
                first | rw [if_pos (by omega)] at e2 | rw [if_neg (by omega)] at e2
                unfold crsZ
                rw [e1, e2]
                first | (simp only [*]; done) | (exfalso; omega)), (by omega)⟩, rfl⟩ dX4_crossed_65
    · refine g_iconst hx hb dX4_crossed_16 ?_
      refine lv_goto (tgt := 21) hx hb dX4_crossed_17 (by decide) ?_
      refine lv_istore (lv' := [(5, .int (iI 1)), (4, .int (iI 2)), (0, .ref o), (1, .int (iI w)), (2, .int (iI c)), (3, .int (iI a9))]) hx hb dX4_crossed_21 hl (by decide) rfl (fun ls hl => ?_)
      refine lv_aload_n hx hb dX4_crossed_23 rfl (lv_at hl 2 rfl) ?_
      refine g_iconst hx hb dX4_crossed_24 ?_
      refine lv_iload_n hx hb dX4_crossed_25 rfl (lv_at hl 3 rfl) ?_
      refine lv_iload hx hb dX4_crossed_26 (lv_at hl 1 rfl) ?_
      refine lv_iload_n hx hb dX4_crossed_28 rfl (lv_at hl 4 rfl) ?_
      refine g_callV (As := [.int (iI 0), .int (iI w), .int (iI 2), .int (iI c)]) (rest := []) 4 hx hb hml hown hts hK hG hS hl.1 (mX4_rowAt l X σ o a V Iv hM hT 0 w 2 c (by omega) (by omega) (by omega) (by omega)) hM.o rfl q2108 q2110 qs49 q86 q2111 (by decide +kernel) rfl ⟨Nat.le_of_ble_eq_true rfl, Nat.le_of_ble_eq_true rfl⟩ ⟨Nat.le_of_ble_eq_true rfl, Nat.le_of_ble_eq_true rfl⟩ (Nat.le_of_ble_eq_true rfl) dX4_crossed_29 (kI (fun r10 σr10 H locs hp hG hS => ?_))
      obtain ⟨⟨hr10, kr10⟩, rfl⟩ := hp
      refine lv_aload_n hx hb dX4_crossed_32 rfl (lv_at hl 2 rfl) ?_
      refine g_iconst hx hb dX4_crossed_33 ?_
      refine lv_iload_n hx hb dX4_crossed_34 rfl (lv_at hl 3 rfl) ?_
      refine lv_iload hx hb dX4_crossed_35 (lv_at hl 0 rfl) ?_
      refine lv_iload_n hx hb dX4_crossed_37 rfl (lv_at hl 4 rfl) ?_
      refine g_callV (As := [.int (iI 1), .int (iI w), .int (iI 1), .int (iI c)]) (rest := [.int (iI r10)]) 4 hx hb hml hown hts hK hG hS hl.1 (mX4_rowAt l X σ o a V Iv hM hT 1 w 1 c (by omega) (by omega) (by omega) (by omega)) hM.o rfl q2108 q2110 qs49 q86 q2111 (by decide +kernel) rfl ⟨Nat.le_of_ble_eq_true rfl, Nat.le_of_ble_eq_true rfl⟩ ⟨Nat.le_of_ble_eq_true rfl, Nat.le_of_ble_eq_true rfl⟩ (Nat.le_of_ble_eq_true rfl) dX4_crossed_38 (kI (fun r11 σr11 H locs hp hG hS => ?_))
      obtain ⟨⟨hr11, kr11⟩, rfl⟩ := hp
      have hp12 := mulR (a := r10) (b := r11) (A := 30) (B := 30) (by omega) (by omega)
      refine g_imul hx hb dX4_crossed_41 ?_
      refine lv_aload_n hx hb dX4_crossed_42 rfl (lv_at hl 2 rfl) ?_
      refine g_iconst hx hb dX4_crossed_43 ?_
      refine lv_iload_n hx hb dX4_crossed_44 rfl (lv_at hl 3 rfl) ?_
      refine lv_iload hx hb dX4_crossed_45 (lv_at hl 0 rfl) ?_
      refine lv_iload_n hx hb dX4_crossed_47 rfl (lv_at hl 4 rfl) ?_
      refine g_callV (As := [.int (iI 0), .int (iI w), .int (iI 1), .int (iI c)]) (rest := [.int (iI (r10 * r11))]) 4 hx hb hml hown hts hK hG hS hl.1 (mX4_rowAt l X σ o a V Iv hM hT 0 w 1 c (by omega) (by omega) (by omega) (by omega)) hM.o rfl q2108 q2110 qs49 q86 q2111 (by decide +kernel) rfl ⟨Nat.le_of_ble_eq_true rfl, Nat.le_of_ble_eq_true rfl⟩ ⟨Nat.le_of_ble_eq_true rfl, Nat.le_of_ble_eq_true rfl⟩ (Nat.le_of_ble_eq_true rfl) dX4_crossed_48 (kI (fun r13 σr13 H locs hp hG hS => ?_))
      obtain ⟨⟨hr13, kr13⟩, rfl⟩ := hp
      refine lv_aload_n hx hb dX4_crossed_51 rfl (lv_at hl 2 rfl) ?_
      refine g_iconst hx hb dX4_crossed_52 ?_
      refine lv_iload_n hx hb dX4_crossed_53 rfl (lv_at hl 3 rfl) ?_
      refine lv_iload hx hb dX4_crossed_54 (lv_at hl 1 rfl) ?_
      refine lv_iload_n hx hb dX4_crossed_56 rfl (lv_at hl 4 rfl) ?_
      refine g_callV (As := [.int (iI 1), .int (iI w), .int (iI 2), .int (iI c)]) (rest := [.int (iI r13), .int (iI (r10 * r11))]) 4 hx hb hml hown hts hK hG hS hl.1 (mX4_rowAt l X σ o a V Iv hM hT 1 w 2 c (by omega) (by omega) (by omega) (by omega)) hM.o rfl q2108 q2110 qs49 q86 q2111 (by decide +kernel) rfl ⟨Nat.le_of_ble_eq_true rfl, Nat.le_of_ble_eq_true rfl⟩ ⟨Nat.le_of_ble_eq_true rfl, Nat.le_of_ble_eq_true rfl⟩ (Nat.le_of_ble_eq_true rfl) dX4_crossed_57 (kI (fun r14 σr14 H locs hp hG hS => ?_))
      obtain ⟨⟨hr14, kr14⟩, rfl⟩ := hp
      have hp15 := mulR (a := r13) (b := r14) (A := 30) (B := 30) (by omega) (by omega)
      refine g_imul hx hb dX4_crossed_60 ?_
      refine g_isub hx hb dX4_crossed_61 ?_
      refine g_callS (As := [.int (iI ((r10 * r11) - (r13 * r14)))]) (rest := []) 1 hx hb hml hown hts hK hG hS hl.1 (mX4_mod l X σ  ((r10 * r11) - (r13 * r14)) (by omega)) q2112 q2113 q86 q2114 (by decide +kernel) rfl ⟨Nat.le_of_ble_eq_true rfl, Nat.le_of_ble_eq_true rfl⟩ ⟨Nat.le_of_ble_eq_true rfl, Nat.le_of_ble_eq_true rfl⟩ (Nat.le_of_ble_eq_true rfl) dX4_crossed_62 (kI (fun r16 σr16 H locs hp hG hS => ?_))
      obtain ⟨⟨hr16, kr16⟩, rfl⟩ := hp
      exact g_iret hx hb hr hlocks hQ hG hS (Nat.zero_le _) (Nat.zero_le _) ⟨_, rfl, ⟨(by
                have e1 : hiZ a9 = (if a9 = 2 then 1 else 2) := rfl
                have e2 : loZ a9 = (if a9 = 0 then 1 else 0) := rfl
                first | rw [if_pos (by assumption)] at e1 | rw [if_neg (by assumption)] at e1
                first | rw [if_pos (by omega)] at e2 | rw [if_neg (by omega)] at e2
                unfold crsZ
                rw [e1, e2]
                first | (simp only [*]; done) | (exfalso; omega)), (by omega)⟩, rfl⟩ dX4_crossed_65
  · refine g_iconst hx hb dX4_crossed_5 ?_
    refine lv_goto (tgt := 10) hx hb dX4_crossed_6 (by decide) ?_
    refine lv_istore (lv' := [(4, .int (iI 1)), (0, .ref o), (1, .int (iI w)), (2, .int (iI c)), (3, .int (iI a9))]) hx hb dX4_crossed_10 hl (by decide) rfl (fun ls hl => ?_)
    refine lv_iload_n hx hb dX4_crossed_12 rfl (lv_at hl 4 rfl) ?_
    refine g_if_ne (tgt := 20) hx hb dX4_crossed_13 (by decide) (by omega) (fun cq17 => ?_) (fun cq17 => ?_)
    · refine g_iconst hx hb dX4_crossed_20 ?_
      refine lv_istore (lv' := [(5, .int (iI 0)), (4, .int (iI 1)), (0, .ref o), (1, .int (iI w)), (2, .int (iI c)), (3, .int (iI a9))]) hx hb dX4_crossed_21 hl (by decide) rfl (fun ls hl => ?_)
      refine lv_aload_n hx hb dX4_crossed_23 rfl (lv_at hl 2 rfl) ?_
      refine g_iconst hx hb dX4_crossed_24 ?_
      refine lv_iload_n hx hb dX4_crossed_25 rfl (lv_at hl 3 rfl) ?_
      refine lv_iload hx hb dX4_crossed_26 (lv_at hl 1 rfl) ?_
      refine lv_iload_n hx hb dX4_crossed_28 rfl (lv_at hl 4 rfl) ?_
      refine g_callV (As := [.int (iI 0), .int (iI w), .int (iI 1), .int (iI c)]) (rest := []) 4 hx hb hml hown hts hK hG hS hl.1 (mX4_rowAt l X σ o a V Iv hM hT 0 w 1 c (by omega) (by omega) (by omega) (by omega)) hM.o rfl q2108 q2110 qs49 q86 q2111 (by decide +kernel) rfl ⟨Nat.le_of_ble_eq_true rfl, Nat.le_of_ble_eq_true rfl⟩ ⟨Nat.le_of_ble_eq_true rfl, Nat.le_of_ble_eq_true rfl⟩ (Nat.le_of_ble_eq_true rfl) dX4_crossed_29 (kI (fun r18 σr18 H locs hp hG hS => ?_))
      obtain ⟨⟨hr18, kr18⟩, rfl⟩ := hp
      refine lv_aload_n hx hb dX4_crossed_32 rfl (lv_at hl 2 rfl) ?_
      refine g_iconst hx hb dX4_crossed_33 ?_
      refine lv_iload_n hx hb dX4_crossed_34 rfl (lv_at hl 3 rfl) ?_
      refine lv_iload hx hb dX4_crossed_35 (lv_at hl 0 rfl) ?_
      refine lv_iload_n hx hb dX4_crossed_37 rfl (lv_at hl 4 rfl) ?_
      refine g_callV (As := [.int (iI 1), .int (iI w), .int (iI 0), .int (iI c)]) (rest := [.int (iI r18)]) 4 hx hb hml hown hts hK hG hS hl.1 (mX4_rowAt l X σ o a V Iv hM hT 1 w 0 c (by omega) (by omega) (by omega) (by omega)) hM.o rfl q2108 q2110 qs49 q86 q2111 (by decide +kernel) rfl ⟨Nat.le_of_ble_eq_true rfl, Nat.le_of_ble_eq_true rfl⟩ ⟨Nat.le_of_ble_eq_true rfl, Nat.le_of_ble_eq_true rfl⟩ (Nat.le_of_ble_eq_true rfl) dX4_crossed_38 (kI (fun r19 σr19 H locs hp hG hS => ?_))
      obtain ⟨⟨hr19, kr19⟩, rfl⟩ := hp
      have hp20 := mulR (a := r18) (b := r19) (A := 30) (B := 30) (by omega) (by omega)
      refine g_imul hx hb dX4_crossed_41 ?_
      refine lv_aload_n hx hb dX4_crossed_42 rfl (lv_at hl 2 rfl) ?_
      refine g_iconst hx hb dX4_crossed_43 ?_
      refine lv_iload_n hx hb dX4_crossed_44 rfl (lv_at hl 3 rfl) ?_
      refine lv_iload hx hb dX4_crossed_45 (lv_at hl 0 rfl) ?_
      refine lv_iload_n hx hb dX4_crossed_47 rfl (lv_at hl 4 rfl) ?_
      refine g_callV (As := [.int (iI 0), .int (iI w), .int (iI 0), .int (iI c)]) (rest := [.int (iI (r18 * r19))]) 4 hx hb hml hown hts hK hG hS hl.1 (mX4_rowAt l X σ o a V Iv hM hT 0 w 0 c (by omega) (by omega) (by omega) (by omega)) hM.o rfl q2108 q2110 qs49 q86 q2111 (by decide +kernel) rfl ⟨Nat.le_of_ble_eq_true rfl, Nat.le_of_ble_eq_true rfl⟩ ⟨Nat.le_of_ble_eq_true rfl, Nat.le_of_ble_eq_true rfl⟩ (Nat.le_of_ble_eq_true rfl) dX4_crossed_48 (kI (fun r21 σr21 H locs hp hG hS => ?_))
      obtain ⟨⟨hr21, kr21⟩, rfl⟩ := hp
      refine lv_aload_n hx hb dX4_crossed_51 rfl (lv_at hl 2 rfl) ?_
      refine g_iconst hx hb dX4_crossed_52 ?_
      refine lv_iload_n hx hb dX4_crossed_53 rfl (lv_at hl 3 rfl) ?_
      refine lv_iload hx hb dX4_crossed_54 (lv_at hl 1 rfl) ?_
      refine lv_iload_n hx hb dX4_crossed_56 rfl (lv_at hl 4 rfl) ?_
      refine g_callV (As := [.int (iI 1), .int (iI w), .int (iI 1), .int (iI c)]) (rest := [.int (iI r21), .int (iI (r18 * r19))]) 4 hx hb hml hown hts hK hG hS hl.1 (mX4_rowAt l X σ o a V Iv hM hT 1 w 1 c (by omega) (by omega) (by omega) (by omega)) hM.o rfl q2108 q2110 qs49 q86 q2111 (by decide +kernel) rfl ⟨Nat.le_of_ble_eq_true rfl, Nat.le_of_ble_eq_true rfl⟩ ⟨Nat.le_of_ble_eq_true rfl, Nat.le_of_ble_eq_true rfl⟩ (Nat.le_of_ble_eq_true rfl) dX4_crossed_57 (kI (fun r22 σr22 H locs hp hG hS => ?_))
      obtain ⟨⟨hr22, kr22⟩, rfl⟩ := hp
      have hp23 := mulR (a := r21) (b := r22) (A := 30) (B := 30) (by omega) (by omega)
      refine g_imul hx hb dX4_crossed_60 ?_
      refine g_isub hx hb dX4_crossed_61 ?_
      refine g_callS (As := [.int (iI ((r18 * r19) - (r21 * r22)))]) (rest := []) 1 hx hb hml hown hts hK hG hS hl.1 (mX4_mod l X σ  ((r18 * r19) - (r21 * r22)) (by omega)) q2112 q2113 q86 q2114 (by decide +kernel) rfl ⟨Nat.le_of_ble_eq_true rfl, Nat.le_of_ble_eq_true rfl⟩ ⟨Nat.le_of_ble_eq_true rfl, Nat.le_of_ble_eq_true rfl⟩ (Nat.le_of_ble_eq_true rfl) dX4_crossed_62 (kI (fun r24 σr24 H locs hp hG hS => ?_))
      obtain ⟨⟨hr24, kr24⟩, rfl⟩ := hp
      exact g_iret hx hb hr hlocks hQ hG hS (Nat.zero_le _) (Nat.zero_le _) ⟨_, rfl, ⟨(by
                have e1 : hiZ a9 = (if a9 = 2 then 1 else 2) := rfl
                have e2 : loZ a9 = (if a9 = 0 then 1 else 0) := rfl
                first | rw [if_pos (by assumption)] at e1 | rw [if_neg (by assumption)] at e1
                first | rw [if_pos (by omega)] at e2 | rw [if_neg (by omega)] at e2
                unfold crsZ
                rw [e1, e2]
                first | (simp only [*]; done) | (exfalso; omega)), (by omega)⟩, rfl⟩ dX4_crossed_65
    · refine g_iconst hx hb dX4_crossed_16 ?_
      refine lv_goto (tgt := 21) hx hb dX4_crossed_17 (by decide) ?_
      refine lv_istore (lv' := [(5, .int (iI 1)), (4, .int (iI 1)), (0, .ref o), (1, .int (iI w)), (2, .int (iI c)), (3, .int (iI a9))]) hx hb dX4_crossed_21 hl (by decide) rfl (fun ls hl => ?_)
      refine lv_aload_n hx hb dX4_crossed_23 rfl (lv_at hl 2 rfl) ?_
      refine g_iconst hx hb dX4_crossed_24 ?_
      refine lv_iload_n hx hb dX4_crossed_25 rfl (lv_at hl 3 rfl) ?_
      refine lv_iload hx hb dX4_crossed_26 (lv_at hl 1 rfl) ?_
      refine lv_iload_n hx hb dX4_crossed_28 rfl (lv_at hl 4 rfl) ?_
      refine g_callV (As := [.int (iI 0), .int (iI w), .int (iI 1), .int (iI c)]) (rest := []) 4 hx hb hml hown hts hK hG hS hl.1 (mX4_rowAt l X σ o a V Iv hM hT 0 w 1 c (by omega) (by omega) (by omega) (by omega)) hM.o rfl q2108 q2110 qs49 q86 q2111 (by decide +kernel) rfl ⟨Nat.le_of_ble_eq_true rfl, Nat.le_of_ble_eq_true rfl⟩ ⟨Nat.le_of_ble_eq_true rfl, Nat.le_of_ble_eq_true rfl⟩ (Nat.le_of_ble_eq_true rfl) dX4_crossed_29 (kI (fun r25 σr25 H locs hp hG hS => ?_))
      obtain ⟨⟨hr25, kr25⟩, rfl⟩ := hp
      refine lv_aload_n hx hb dX4_crossed_32 rfl (lv_at hl 2 rfl) ?_
      refine g_iconst hx hb dX4_crossed_33 ?_
      refine lv_iload_n hx hb dX4_crossed_34 rfl (lv_at hl 3 rfl) ?_
      refine lv_iload hx hb dX4_crossed_35 (lv_at hl 0 rfl) ?_
      refine lv_iload_n hx hb dX4_crossed_37 rfl (lv_at hl 4 rfl) ?_
      refine g_callV (As := [.int (iI 1), .int (iI w), .int (iI 1), .int (iI c)]) (rest := [.int (iI r25)]) 4 hx hb hml hown hts hK hG hS hl.1 (mX4_rowAt l X σ o a V Iv hM hT 1 w 1 c (by omega) (by omega) (by omega) (by omega)) hM.o rfl q2108 q2110 qs49 q86 q2111 (by decide +kernel) rfl ⟨Nat.le_of_ble_eq_true rfl, Nat.le_of_ble_eq_true rfl⟩ ⟨Nat.le_of_ble_eq_true rfl, Nat.le_of_ble_eq_true rfl⟩ (Nat.le_of_ble_eq_true rfl) dX4_crossed_38 (kI (fun r26 σr26 H locs hp hG hS => ?_))
      obtain ⟨⟨hr26, kr26⟩, rfl⟩ := hp
      have hp27 := mulR (a := r25) (b := r26) (A := 30) (B := 30) (by omega) (by omega)
      refine g_imul hx hb dX4_crossed_41 ?_
      refine lv_aload_n hx hb dX4_crossed_42 rfl (lv_at hl 2 rfl) ?_
      refine g_iconst hx hb dX4_crossed_43 ?_
      refine lv_iload_n hx hb dX4_crossed_44 rfl (lv_at hl 3 rfl) ?_
      refine lv_iload hx hb dX4_crossed_45 (lv_at hl 0 rfl) ?_
      refine lv_iload_n hx hb dX4_crossed_47 rfl (lv_at hl 4 rfl) ?_
      refine g_callV (As := [.int (iI 0), .int (iI w), .int (iI 1), .int (iI c)]) (rest := [.int (iI (r25 * r26))]) 4 hx hb hml hown hts hK hG hS hl.1 (mX4_rowAt l X σ o a V Iv hM hT 0 w 1 c (by omega) (by omega) (by omega) (by omega)) hM.o rfl q2108 q2110 qs49 q86 q2111 (by decide +kernel) rfl ⟨Nat.le_of_ble_eq_true rfl, Nat.le_of_ble_eq_true rfl⟩ ⟨Nat.le_of_ble_eq_true rfl, Nat.le_of_ble_eq_true rfl⟩ (Nat.le_of_ble_eq_true rfl) dX4_crossed_48 (kI (fun r28 σr28 H locs hp hG hS => ?_))
      obtain ⟨⟨hr28, kr28⟩, rfl⟩ := hp
      refine lv_aload_n hx hb dX4_crossed_51 rfl (lv_at hl 2 rfl) ?_
      refine g_iconst hx hb dX4_crossed_52 ?_
      refine lv_iload_n hx hb dX4_crossed_53 rfl (lv_at hl 3 rfl) ?_
      refine lv_iload hx hb dX4_crossed_54 (lv_at hl 1 rfl) ?_
      refine lv_iload_n hx hb dX4_crossed_56 rfl (lv_at hl 4 rfl) ?_
      refine g_callV (As := [.int (iI 1), .int (iI w), .int (iI 1), .int (iI c)]) (rest := [.int (iI r28), .int (iI (r25 * r26))]) 4 hx hb hml hown hts hK hG hS hl.1 (mX4_rowAt l X σ o a V Iv hM hT 1 w 1 c (by omega) (by omega) (by omega) (by omega)) hM.o rfl q2108 q2110 qs49 q86 q2111 (by decide +kernel) rfl ⟨Nat.le_of_ble_eq_true rfl, Nat.le_of_ble_eq_true rfl⟩ ⟨Nat.le_of_ble_eq_true rfl, Nat.le_of_ble_eq_true rfl⟩ (Nat.le_of_ble_eq_true rfl) dX4_crossed_57 (kI (fun r29 σr29 H locs hp hG hS => ?_))
      obtain ⟨⟨hr29, kr29⟩, rfl⟩ := hp
      have hp30 := mulR (a := r28) (b := r29) (A := 30) (B := 30) (by omega) (by omega)
      refine g_imul hx hb dX4_crossed_60 ?_
      refine g_isub hx hb dX4_crossed_61 ?_
      refine g_callS (As := [.int (iI ((r25 * r26) - (r28 * r29)))]) (rest := []) 1 hx hb hml hown hts hK hG hS hl.1 (mX4_mod l X σ  ((r25 * r26) - (r28 * r29)) (by omega)) q2112 q2113 q86 q2114 (by decide +kernel) rfl ⟨Nat.le_of_ble_eq_true rfl, Nat.le_of_ble_eq_true rfl⟩ ⟨Nat.le_of_ble_eq_true rfl, Nat.le_of_ble_eq_true rfl⟩ (Nat.le_of_ble_eq_true rfl) dX4_crossed_62 (kI (fun r31 σr31 H locs hp hG hS => ?_))
      obtain ⟨⟨hr31, kr31⟩, rfl⟩ := hp
      exact g_iret hx hb hr hlocks hQ hG hS (Nat.zero_le _) (Nat.zero_le _) ⟨_, rfl, ⟨(by
                have e1 : hiZ a9 = (if a9 = 2 then 1 else 2) := rfl
                have e2 : loZ a9 = (if a9 = 0 then 1 else 0) := rfl
                first | rw [if_pos (by assumption)] at e1 | rw [if_neg (by assumption)] at e1
                first | rw [if_pos (by omega)] at e2 | rw [if_neg (by omega)] at e2
                unfold crsZ
                rw [e1, e2]
                first | (simp only [*]; done) | (exfalso; omega)), (by omega)⟩, rfl⟩ dX4_crossed_65

set_option maxHeartbeats 4000000 in
theorem mX4_other (l : Launch) (X : gX) (σ : gS) (o : Nat) (a : Nat → Nat) (V : Nat → Int → Int) (Iv : Nat → Int) (hM : MW X σ o a V Iv) (hT : okT (V 0)) (w : Int) (o9 : Int) (c : Int) (h0 : -2147483648 ≤ w ∧ w ≤ 2147483647) (h1 : 0 ≤ o9 ∧ o9 ≤ 31) (h2 : 0 ≤ c ∧ c ≤ 31) : gMet l X yX4_other cX4_other 8 (some .int) 3 0 0 73 σ [.ref o, .int (iI w), .int (iI o9), .int (iI c)] (oI (fun r σ' => (r = othZ (V 0) w o9 c ∧ (r = -7 ∨ (0 ≤ r ∧ r ≤ 31))) ∧ σ = σ')) := by
  refine gMet.of (by decide) (Nat.le_of_ble_eq_true rfl) ?_
  intro pp ee ss mm args below meth cd Q H locs ls hargs hx hb hr hlocks hml hown hnm hts hK hG hS hQ hl
  have hown : ss.vm.findClass RX4 = some mm.cls := hown
  have hl : lv_has ls 8 [(0, .ref o), (1, .int (iI w)), (2, .int (iI o9)), (3, .int (iI c))] := hl
  refine lv_aload_n hx hb dX4_other_0 rfl (lv_at hl 0 rfl) ?_
  refine lv_iload_n hx hb dX4_other_1 rfl (lv_at hl 1 rfl) ?_
  refine lv_iload_n hx hb dX4_other_2 rfl (lv_at hl 3 rfl) ?_
  refine g_iconst hx hb dX4_other_3 ?_
  refine g_callV (As := [.int (iI w), .int (iI c), .int (iI 0)]) (rest := []) 3 hx hb hml hown hts hK hG hS hl.1 (mX4_crossed l X σ o a V Iv hM hT w c 0 (by omega) (by omega) (by omega)) hM.o rfl q2104 q2106 qs48 q86 q2107 (by decide +kernel) rfl ⟨Nat.le_of_ble_eq_true rfl, Nat.le_of_ble_eq_true rfl⟩ ⟨Nat.le_of_ble_eq_true rfl, Nat.le_of_ble_eq_true rfl⟩ (Nat.le_of_ble_eq_true rfl) dX4_other_4 (kI (fun r1 σr1 H locs hp hG hS => ?_))
  obtain ⟨⟨hr1, kr1⟩, rfl⟩ := hp
  refine lv_istore (lv' := [(4, .int (iI r1)), (0, .ref o), (1, .int (iI w)), (2, .int (iI o9)), (3, .int (iI c))]) hx hb dX4_other_7 hl (by decide) rfl (fun ls hl => ?_)
  refine lv_aload_n hx hb dX4_other_9 rfl (lv_at hl 1 rfl) ?_
  refine lv_iload_n hx hb dX4_other_10 rfl (lv_at hl 2 rfl) ?_
  refine lv_iload_n hx hb dX4_other_11 rfl (lv_at hl 4 rfl) ?_
  refine g_iconst hx hb dX4_other_12 ?_
  refine g_callV (As := [.int (iI w), .int (iI c), .int (iI 1)]) (rest := []) 3 hx hb hml hown hts hK hG hS hl.1 (mX4_crossed l X σ o a V Iv hM hT w c 1 (by omega) (by omega) (by omega)) hM.o rfl q2104 q2106 qs48 q86 q2107 (by decide +kernel) rfl ⟨Nat.le_of_ble_eq_true rfl, Nat.le_of_ble_eq_true rfl⟩ ⟨Nat.le_of_ble_eq_true rfl, Nat.le_of_ble_eq_true rfl⟩ (Nat.le_of_ble_eq_true rfl) dX4_other_13 (kI (fun r2 σr2 H locs hp hG hS => ?_))
  obtain ⟨⟨hr2, kr2⟩, rfl⟩ := hp
  refine lv_istore (lv' := [(5, .int (iI r2)), (4, .int (iI r1)), (0, .ref o), (1, .int (iI w)), (2, .int (iI o9)), (3, .int (iI c))]) hx hb dX4_other_16 hl (by decide) rfl (fun ls hl => ?_)
  refine lv_aload_n hx hb dX4_other_18 rfl (lv_at hl 2 rfl) ?_
  refine lv_iload_n hx hb dX4_other_19 rfl (lv_at hl 3 rfl) ?_
  refine lv_iload_n hx hb dX4_other_20 rfl (lv_at hl 5 rfl) ?_
  refine g_iconst hx hb dX4_other_21 ?_
  refine g_callV (As := [.int (iI w), .int (iI c), .int (iI 2)]) (rest := []) 3 hx hb hml hown hts hK hG hS hl.1 (mX4_crossed l X σ o a V Iv hM hT w c 2 (by omega) (by omega) (by omega)) hM.o rfl q2104 q2106 qs48 q86 q2107 (by decide +kernel) rfl ⟨Nat.le_of_ble_eq_true rfl, Nat.le_of_ble_eq_true rfl⟩ ⟨Nat.le_of_ble_eq_true rfl, Nat.le_of_ble_eq_true rfl⟩ (Nat.le_of_ble_eq_true rfl) dX4_other_22 (kI (fun r3 σr3 H locs hp hG hS => ?_))
  obtain ⟨⟨hr3, kr3⟩, rfl⟩ := hp
  refine lv_istore (lv' := [(6, .int (iI r3)), (5, .int (iI r2)), (4, .int (iI r1)), (0, .ref o), (1, .int (iI w)), (2, .int (iI o9)), (3, .int (iI c))]) hx hb dX4_other_25 hl (by decide) rfl (fun ls hl => ?_)
  refine lv_iload_n hx hb dX4_other_27 rfl (lv_at hl 5 rfl) ?_
  refine g_bipush hx hb dX4_other_28 (by decide) ?_
  refine g_icmp_ne (tgt := 47) hx hb dX4_other_30 (by decide) (by omega) (by omega) (fun cq4 => ?_) (fun cq4 => ?_)
  · refine lv_iload hx hb dX4_other_47 (lv_at hl 1 rfl) ?_
    refine lv_iload_n hx hb dX4_other_49 rfl (lv_at hl 5 rfl) ?_
    have hp5 := mulR (a := r2) (b := o9) (A := 30) (B := 31) (by omega) (by omega)
    refine g_imul hx hb dX4_other_50 ?_
    refine lv_iload hx hb dX4_other_51 (lv_at hl 0 rfl) ?_
    refine g_iadd hx hb dX4_other_53 ?_
    refine g_ineg hx hb dX4_other_54 ?_
    refine g_callS (As := [.int (iI (-((r2 * o9) + r3)))]) (rest := []) 1 hx hb hml hown hts hK hG hS hl.1 (mX4_mod l X σ  (-((r2 * o9) + r3)) (by omega)) q2112 q2113 q86 q2114 (by decide +kernel) rfl ⟨Nat.le_of_ble_eq_true rfl, Nat.le_of_ble_eq_true rfl⟩ ⟨Nat.le_of_ble_eq_true rfl, Nat.le_of_ble_eq_true rfl⟩ (Nat.le_of_ble_eq_true rfl) dX4_other_55 (kI (fun r6 σr6 H locs hp hG hS => ?_))
    obtain ⟨⟨hr6, kr6⟩, rfl⟩ := hp
    refine lv_iload hx hb dX4_other_58 (lv_at hl 2 rfl) ?_
    refine lv_iload_n hx hb dX4_other_60 rfl (lv_at hl 5 rfl) ?_
    have hp7 := mulR (a := r1) (b := o9) (A := 30) (B := 31) (by omega) (by omega)
    refine g_imul hx hb dX4_other_61 ?_
    refine lv_iload hx hb dX4_other_62 (lv_at hl 1 rfl) ?_
    refine g_iadd hx hb dX4_other_64 ?_
    refine g_callS (As := [.int (iI ((r1 * o9) + r2))]) (rest := [.int (iI r6)]) 1 hx hb hml hown hts hK hG hS hl.1 (mX4_mod l X σ  ((r1 * o9) + r2) (by omega)) q2112 q2113 q86 q2114 (by decide +kernel) rfl ⟨Nat.le_of_ble_eq_true rfl, Nat.le_of_ble_eq_true rfl⟩ ⟨Nat.le_of_ble_eq_true rfl, Nat.le_of_ble_eq_true rfl⟩ (Nat.le_of_ble_eq_true rfl) dX4_other_65 (kI (fun r8 σr8 H locs hp hG hS => ?_))
    obtain ⟨⟨hr8, kr8⟩, rfl⟩ := hp
    refine g_callS (As := [.int (iI r6), .int (iI r8)]) (rest := []) 2 hx hb hml hown hts hK hG hS hl.1 (mX4_by l X σ  r6 r8 (by omega) (by omega)) q2094 q2095 q86 q2096 (by decide +kernel) rfl ⟨Nat.le_of_ble_eq_true rfl, Nat.le_of_ble_eq_true rfl⟩ ⟨Nat.le_of_ble_eq_true rfl, Nat.le_of_ble_eq_true rfl⟩ (Nat.le_of_ble_eq_true rfl) dX4_other_68 (kI (fun r9 σr9 H locs hp hG hS => ?_))
    obtain ⟨⟨hr9, kr9⟩, rfl⟩ := hp
    refine lv_istore (lv' := [(7, .int (iI r9)), (6, .int (iI r3)), (5, .int (iI r2)), (4, .int (iI r1)), (0, .ref o), (1, .int (iI w)), (2, .int (iI o9)), (3, .int (iI c))]) hx hb dX4_other_71 hl (by decide) rfl (fun ls hl => ?_)
    refine lv_iload hx hb dX4_other_73 (lv_at hl 0 rfl) ?_
    refine g_bipush hx hb dX4_other_75 (by decide) ?_
    refine g_icmp_ne (tgt := 85) hx hb dX4_other_77 (by decide) (by omega) (by omega) (fun cq10 => ?_) (fun cq10 => ?_)
    · refine lv_iload hx hb dX4_other_85 (lv_at hl 0 rfl) ?_
      exact g_iret hx hb hr hlocks hQ hG hS (Nat.zero_le _) (Nat.zero_le _) ⟨_, rfl, ⟨(by
                have e1 : othB (V 0) w o9 c = r9 := by
                  unfold othB
                  first | rw [if_pos (by assumption)] | rw [if_neg (by assumption)]
                  simp only [*]
                unfold othZ
                rw [e1]
                first | rw [if_pos (by omega)] | rw [if_neg (by omega)]), (by omega)⟩, rfl⟩ dX4_other_87
    · refine g_bipush hx hb dX4_other_80 (by decide) ?_
      refine lv_goto (tgt := 87) hx hb dX4_other_82 (by decide) ?_
      exact g_iret hx hb hr hlocks hQ hG hS (Nat.zero_le _) (Nat.zero_le _) ⟨_, rfl, ⟨(by
                have e1 : othB (V 0) w o9 c = r9 := by
                  unfold othB
                  first | rw [if_pos (by assumption)] | rw [if_neg (by assumption)]
                  simp only [*]
                unfold othZ
                rw [e1]
                first | rw [if_pos (by omega)] | rw [if_neg (by omega)]), (by omega)⟩, rfl⟩ dX4_other_87
  · refine lv_iload hx hb dX4_other_33 (lv_at hl 1 rfl) ?_
    refine g_ineg hx hb dX4_other_35 ?_
    refine g_callS (As := [.int (iI (-r2))]) (rest := []) 1 hx hb hml hown hts hK hG hS hl.1 (mX4_mod l X σ  (-r2) (by omega)) q2112 q2113 q86 q2114 (by decide +kernel) rfl ⟨Nat.le_of_ble_eq_true rfl, Nat.le_of_ble_eq_true rfl⟩ ⟨Nat.le_of_ble_eq_true rfl, Nat.le_of_ble_eq_true rfl⟩ (Nat.le_of_ble_eq_true rfl) dX4_other_36 (kI (fun r11 σr11 H locs hp hG hS => ?_))
    obtain ⟨⟨hr11, kr11⟩, rfl⟩ := hp
    refine lv_iload hx hb dX4_other_39 (lv_at hl 2 rfl) ?_
    refine g_callS (As := [.int (iI r11), .int (iI r1)]) (rest := []) 2 hx hb hml hown hts hK hG hS hl.1 (mX4_by l X σ  r11 r1 (by omega) (by omega)) q2094 q2095 q86 q2096 (by decide +kernel) rfl ⟨Nat.le_of_ble_eq_true rfl, Nat.le_of_ble_eq_true rfl⟩ ⟨Nat.le_of_ble_eq_true rfl, Nat.le_of_ble_eq_true rfl⟩ (Nat.le_of_ble_eq_true rfl) dX4_other_41 (kI (fun r12 σr12 H locs hp hG hS => ?_))
    obtain ⟨⟨hr12, kr12⟩, rfl⟩ := hp
    refine lv_goto (tgt := 71) hx hb dX4_other_44 (by decide) ?_
    refine lv_istore (lv' := [(7, .int (iI r12)), (6, .int (iI r3)), (5, .int (iI r2)), (4, .int (iI r1)), (0, .ref o), (1, .int (iI w)), (2, .int (iI o9)), (3, .int (iI c))]) hx hb dX4_other_71 hl (by decide) rfl (fun ls hl => ?_)
    refine lv_iload hx hb dX4_other_73 (lv_at hl 0 rfl) ?_
    refine g_bipush hx hb dX4_other_75 (by decide) ?_
    refine g_icmp_ne (tgt := 85) hx hb dX4_other_77 (by decide) (by omega) (by omega) (fun cq13 => ?_) (fun cq13 => ?_)
    · refine lv_iload hx hb dX4_other_85 (lv_at hl 0 rfl) ?_
      exact g_iret hx hb hr hlocks hQ hG hS (Nat.zero_le _) (Nat.zero_le _) ⟨_, rfl, ⟨(by
                have e1 : othB (V 0) w o9 c = r12 := by
                  unfold othB
                  first | rw [if_pos (by assumption)] | rw [if_neg (by assumption)]
                  simp only [*]
                unfold othZ
                rw [e1]
                first | rw [if_pos (by omega)] | rw [if_neg (by omega)]), (by omega)⟩, rfl⟩ dX4_other_87
    · refine g_bipush hx hb dX4_other_80 (by decide) ?_
      refine lv_goto (tgt := 87) hx hb dX4_other_82 (by decide) ?_
      exact g_iret hx hb hr hlocks hQ hG hS (Nat.zero_le _) (Nat.zero_le _) ⟨_, rfl, ⟨(by
                have e1 : othB (V 0) w o9 c = r12 := by
                  unfold othB
                  first | rw [if_pos (by assumption)] | rw [if_neg (by assumption)]
                  simp only [*]
                unfold othZ
                rw [e1]
                first | rw [if_pos (by omega)] | rw [if_neg (by omega)]), (by omega)⟩, rfl⟩ dX4_other_87

theorem mX4_swapped (l : Launch) (X : gX) (σ : gS) (o : Nat) (a : Nat → Nat) (V : Nat → Int → Int) (Iv : Nat → Int) (hM : MW X σ o a V Iv) (hT : okT (V 0)) (sp : Int) (w : Int) (h0 : 0 ≤ sp ∧ sp ≤ 1023) (h1 : -2147483648 ≤ w ∧ w ≤ 2147483647) : gMet l X yX4_swapped cX4_swapped 6 (some .int) 4 0 0 100 σ [.ref o, .int (iI sp), .int (iI w)] (oI (fun r σ' => (r = swpZ (V 0) sp w ∧ (r = -7 ∨ (0 ≤ r ∧ r ≤ 1023))) ∧ σ = σ')) := by
  refine gMet.of (by decide) (Nat.le_of_ble_eq_true rfl) ?_
  intro pp ee ss mm args below meth cd Q H locs ls hargs hx hb hr hlocks hml hown hnm hts hK hG hS hQ hl
  have hown : ss.vm.findClass RX4 = some mm.cls := hown
  have hl : lv_has ls 6 [(0, .ref o), (1, .int (iI sp)), (2, .int (iI w))] := hl
  refine lv_iload_n hx hb dX4_swapped_0 rfl (lv_at hl 1 rfl) ?_
  refine g_bipush hx hb dX4_swapped_1 (by decide) ?_
  refine g_idiv hx hb dX4_swapped_3 (by omega) (by omega) ?_
  refine lv_istore_n (lv' := [(3, .int (iI (sp / 32))), (0, .ref o), (1, .int (iI sp)), (2, .int (iI w))]) hx hb dX4_swapped_4 rfl hl (by decide) rfl (fun ls hl => ?_)
  refine lv_iload_n hx hb dX4_swapped_5 rfl (lv_at hl 2 rfl) ?_
  refine g_bipush hx hb dX4_swapped_6 (by decide) ?_
  refine g_irem hx hb dX4_swapped_8 (by omega) (by omega) ?_
  refine lv_istore (lv' := [(4, .int (iI (sp % 32))), (3, .int (iI (sp / 32))), (0, .ref o), (1, .int (iI sp)), (2, .int (iI w))]) hx hb dX4_swapped_9 hl (by decide) rfl (fun ls hl => ?_)
  refine lv_iload_n hx hb dX4_swapped_11 rfl (lv_at hl 4 rfl) ?_
  refine g_if_ne (tgt := 26) hx hb dX4_swapped_12 (by decide) (by omega) (fun cq1 => ?_) (fun cq1 => ?_)
  · refine lv_aload_n hx hb dX4_swapped_26 rfl (lv_at hl 2 rfl) ?_
    refine g_iconst hx hb dX4_swapped_27 ?_
    refine lv_iload hx hb dX4_swapped_28 (lv_at hl 0 rfl) ?_
    refine lv_iload_n hx hb dX4_swapped_30 rfl (lv_at hl 1 rfl) ?_
    refine g_callV (As := [.int (iI 1), .int (iI (sp % 32)), .int (iI (sp / 32))]) (rest := []) 3 hx hb hml hown hts hK hG hS hl.1 (mX4_other l X σ o a V Iv hM hT 1 (sp % 32) (sp / 32) (by omega) (by omega) (by omega)) hM.o rfl q2119 q2121 qs50 q86 q2122 (by decide +kernel) rfl ⟨Nat.le_of_ble_eq_true rfl, Nat.le_of_ble_eq_true rfl⟩ ⟨Nat.le_of_ble_eq_true rfl, Nat.le_of_ble_eq_true rfl⟩ (Nat.le_of_ble_eq_true rfl) dX4_swapped_31 (kI (fun r2 σr2 H locs hp hG hS => ?_))
    obtain ⟨⟨hr2, kr2⟩, rfl⟩ := hp
    refine lv_istore (lv' := [(5, .int (iI r2)), (4, .int (iI (sp % 32))), (3, .int (iI (sp / 32))), (0, .ref o), (1, .int (iI sp)), (2, .int (iI w))]) hx hb dX4_swapped_34 hl (by decide) rfl (fun ls hl => ?_)
    refine lv_iload hx hb dX4_swapped_36 (lv_at hl 0 rfl) ?_
    refine g_bipush hx hb dX4_swapped_38 (by decide) ?_
    refine g_icmp_ne (tgt := 48) hx hb dX4_swapped_40 (by decide) (by omega) (by omega) (fun cq3 => ?_) (fun cq3 => ?_)
    · refine lv_iload_n hx hb dX4_swapped_48 rfl (lv_at hl 5 rfl) ?_
      refine g_if_ne (tgt := 63) hx hb dX4_swapped_49 (by decide) (by omega) (fun cq4 => ?_) (fun cq4 => by omega)
      refine g_bipush hx hb dX4_swapped_63 (by decide) ?_
      refine lv_iload_n hx hb dX4_swapped_65 rfl (lv_at hl 2 rfl) ?_
      refine g_imul hx hb dX4_swapped_66 ?_
      refine lv_iload hx hb dX4_swapped_67 (lv_at hl 0 rfl) ?_
      refine g_iadd hx hb dX4_swapped_69 ?_
      exact g_iret hx hb hr hlocks hQ hG hS (Nat.zero_le _) (Nat.zero_le _) ⟨_, rfl, ⟨(by
                unfold swpZ
                first | rw [if_pos (by assumption)] | rw [if_neg (by assumption)]
                rw [← hr2]
                first | rw [if_pos (by omega)] | rw [if_neg (by omega)]), (by omega)⟩, rfl⟩ dX4_swapped_70
    · refine g_bipush hx hb dX4_swapped_43 (by decide) ?_
      refine lv_goto (tgt := 70) hx hb dX4_swapped_45 (by decide) ?_
      exact g_iret hx hb hr hlocks hQ hG hS (Nat.zero_le _) (Nat.zero_le _) ⟨_, rfl, ⟨(by
                unfold swpZ
                first | rw [if_pos (by assumption)] | rw [if_neg (by assumption)]
                rw [← hr2]
                first | rw [if_pos (by omega)] | rw [if_neg (by omega)]), (by omega)⟩, rfl⟩ dX4_swapped_70
  · refine lv_aload_n hx hb dX4_swapped_15 rfl (lv_at hl 2 rfl) ?_
    refine g_iconst hx hb dX4_swapped_16 ?_
    refine lv_iload_n hx hb dX4_swapped_17 rfl (lv_at hl 1 rfl) ?_
    refine lv_iload hx hb dX4_swapped_18 (lv_at hl 0 rfl) ?_
    refine g_callV (As := [.int (iI 0), .int (iI (sp / 32)), .int (iI (sp % 32))]) (rest := []) 3 hx hb hml hown hts hK hG hS hl.1 (mX4_other l X σ o a V Iv hM hT 0 (sp / 32) (sp % 32) (by omega) (by omega) (by omega)) hM.o rfl q2119 q2121 qs50 q86 q2122 (by decide +kernel) rfl ⟨Nat.le_of_ble_eq_true rfl, Nat.le_of_ble_eq_true rfl⟩ ⟨Nat.le_of_ble_eq_true rfl, Nat.le_of_ble_eq_true rfl⟩ (Nat.le_of_ble_eq_true rfl) dX4_swapped_20 (kI (fun r5 σr5 H locs hp hG hS => ?_))
    obtain ⟨⟨hr5, kr5⟩, rfl⟩ := hp
    refine lv_goto (tgt := 34) hx hb dX4_swapped_23 (by decide) ?_
    refine lv_istore (lv' := [(5, .int (iI r5)), (4, .int (iI (sp % 32))), (3, .int (iI (sp / 32))), (0, .ref o), (1, .int (iI sp)), (2, .int (iI w))]) hx hb dX4_swapped_34 hl (by decide) rfl (fun ls hl => ?_)
    refine lv_iload hx hb dX4_swapped_36 (lv_at hl 0 rfl) ?_
    refine g_bipush hx hb dX4_swapped_38 (by decide) ?_
    refine g_icmp_ne (tgt := 48) hx hb dX4_swapped_40 (by decide) (by omega) (by omega) (fun cq6 => ?_) (fun cq6 => ?_)
    · refine lv_iload_n hx hb dX4_swapped_48 rfl (lv_at hl 5 rfl) ?_
      refine g_if_ne (tgt := 63) hx hb dX4_swapped_49 (by decide) (by omega) (fun cq7 => by omega) (fun cq7 => ?_)
      refine g_bipush hx hb dX4_swapped_52 (by decide) ?_
      refine lv_iload hx hb dX4_swapped_54 (lv_at hl 0 rfl) ?_
      refine g_imul hx hb dX4_swapped_56 ?_
      refine lv_iload hx hb dX4_swapped_57 (lv_at hl 1 rfl) ?_
      refine g_iadd hx hb dX4_swapped_59 ?_
      refine lv_goto (tgt := 70) hx hb dX4_swapped_60 (by decide) ?_
      exact g_iret hx hb hr hlocks hQ hG hS (Nat.zero_le _) (Nat.zero_le _) ⟨_, rfl, ⟨(by
                unfold swpZ
                first | rw [if_pos (by assumption)] | rw [if_neg (by assumption)]
                rw [← hr5]
                first | rw [if_pos (by omega)] | rw [if_neg (by omega)]), (by omega)⟩, rfl⟩ dX4_swapped_70
    · refine g_bipush hx hb dX4_swapped_43 (by decide) ?_
      refine lv_goto (tgt := 70) hx hb dX4_swapped_45 (by decide) ?_
      exact g_iret hx hb hr hlocks hQ hG hS (Nat.zero_le _) (Nat.zero_le _) ⟨_, rfl, ⟨(by
                unfold swpZ
                first | rw [if_pos (by assumption)] | rw [if_neg (by assumption)]
                rw [← hr5]
                first | rw [if_pos (by omega)] | rw [if_neg (by omega)]), (by omega)⟩, rfl⟩ dX4_swapped_70

theorem mX4_step (l : Launch) (X : gX) (σ : gS) (o : Nat) (a : Nat → Nat) (V : Nat → Int → Int) (Iv : Nat → Int) (hM : MW X σ o a V Iv) (hT : okT (V 0)) (sp : Int) (b : Int) (h0 : 0 ≤ sp ∧ sp ≤ 1023) (h1 : 0 ≤ b ∧ b ≤ 1) : gMet l X yX4_step cX4_step 4 (some .int) 5 0 0 125 σ [.ref o, .int (iI sp), .int (iI b)] (oI (fun r σ' => (r = stpZ (V 0) sp b ∧ (r = -7 ∨ (0 ≤ r ∧ r ≤ 1023))) ∧ σ = σ')) := by
  refine gMet.of (by decide) (Nat.le_of_ble_eq_true rfl) ?_
  intro pp ee ss mm args below meth cd Q H locs ls hargs hx hb hr hlocks hml hown hnm hts hK hG hS hQ hl
  have hown : ss.vm.findClass RX4 = some mm.cls := hown
  have hl : lv_has ls 4 [(0, .ref o), (1, .int (iI sp)), (2, .int (iI b))] := hl
  refine lv_aload_n hx hb dX4_step_0 rfl (lv_at hl 0 rfl) ?_
  refine lv_iload_n hx hb dX4_step_1 rfl (lv_at hl 1 rfl) ?_
  refine lv_iload_n hx hb dX4_step_2 rfl (lv_at hl 2 rfl) ?_
  refine g_if_eq (tgt := 10) hx hb dX4_step_3 (by decide) (by omega) (fun cq1 => ?_) (fun cq1 => ?_)
  · refine g_iconst hx hb dX4_step_10 ?_
    refine g_callV (As := [.int (iI sp), .int (iI 0)]) (rest := []) 2 hx hb hml hown hts hK hG hS hl.1 (mX4_swapped l X σ o a V Iv hM hT sp 0 (by omega) (by omega)) hM.o rfl q2138 q2140 qs52 q86 q2141 (by decide +kernel) rfl ⟨Nat.le_of_ble_eq_true rfl, Nat.le_of_ble_eq_true rfl⟩ ⟨Nat.le_of_ble_eq_true rfl, Nat.le_of_ble_eq_true rfl⟩ (Nat.le_of_ble_eq_true rfl) dX4_step_11 (kI (fun r2 σr2 H locs hp hG hS => ?_))
    obtain ⟨⟨hr2, kr2⟩, rfl⟩ := hp
    refine lv_istore_n (lv' := [(3, .int (iI r2)), (0, .ref o), (1, .int (iI sp)), (2, .int (iI b))]) hx hb dX4_step_14 rfl hl (by decide) rfl (fun ls hl => ?_)
    refine lv_iload_n hx hb dX4_step_15 rfl (lv_at hl 0 rfl) ?_
    refine g_bipush hx hb dX4_step_16 (by decide) ?_
    refine g_icmp_ne (tgt := 26) hx hb dX4_step_18 (by decide) (by omega) (by omega) (fun cq3 => ?_) (fun cq3 => ?_)
    · refine lv_aload_n hx hb dX4_step_26 rfl (lv_at hl 1 rfl) ?_
      refine lv_iload_n hx hb dX4_step_27 rfl (lv_at hl 0 rfl) ?_
      refine lv_iload_n hx hb dX4_step_28 rfl (lv_at hl 3 rfl) ?_
      refine g_if_eq (tgt := 36) hx hb dX4_step_29 (by decide) (by omega) (fun cq4 => ?_) (fun cq4 => by omega)
      refine g_iconst hx hb dX4_step_36 ?_
      refine g_callV (As := [.int (iI r2), .int (iI 1)]) (rest := []) 2 hx hb hml hown hts hK hG hS hl.1 (mX4_swapped l X σ o a V Iv hM hT r2 1 (by omega) (by omega)) hM.o rfl q2138 q2140 qs52 q86 q2141 (by decide +kernel) rfl ⟨Nat.le_of_ble_eq_true rfl, Nat.le_of_ble_eq_true rfl⟩ ⟨Nat.le_of_ble_eq_true rfl, Nat.le_of_ble_eq_true rfl⟩ (Nat.le_of_ble_eq_true rfl) dX4_step_37 (kI (fun r5 σr5 H locs hp hG hS => ?_))
      obtain ⟨⟨hr5, kr5⟩, rfl⟩ := hp
      exact g_iret hx hb hr hlocks hQ hG hS (Nat.zero_le _) (Nat.zero_le _) ⟨_, rfl, ⟨(by
                have hb0 : b = 0 := by omega
                subst hb0
                unfold stpZ
                rw [← hr2]
                rw [if_neg (by omega)]
                exact hr5), (by omega)⟩, rfl⟩ dX4_step_40
    · refine g_bipush hx hb dX4_step_21 (by decide) ?_
      refine lv_goto (tgt := 40) hx hb dX4_step_23 (by decide) ?_
      exact g_iret hx hb hr hlocks hQ hG hS (Nat.zero_le _) (Nat.zero_le _) ⟨_, rfl, ⟨(by
                have hb0 : b = 0 := by omega
                subst hb0
                unfold stpZ
                rw [← hr2]
                rw [if_pos (by omega)]), (by omega)⟩, rfl⟩ dX4_step_40
  · refine g_iconst hx hb dX4_step_6 ?_
    refine lv_goto (tgt := 11) hx hb dX4_step_7 (by decide) ?_
    refine g_callV (As := [.int (iI sp), .int (iI 1)]) (rest := []) 2 hx hb hml hown hts hK hG hS hl.1 (mX4_swapped l X σ o a V Iv hM hT sp 1 (by omega) (by omega)) hM.o rfl q2138 q2140 qs52 q86 q2141 (by decide +kernel) rfl ⟨Nat.le_of_ble_eq_true rfl, Nat.le_of_ble_eq_true rfl⟩ ⟨Nat.le_of_ble_eq_true rfl, Nat.le_of_ble_eq_true rfl⟩ (Nat.le_of_ble_eq_true rfl) dX4_step_11 (kI (fun r6 σr6 H locs hp hG hS => ?_))
    obtain ⟨⟨hr6, kr6⟩, rfl⟩ := hp
    refine lv_istore_n (lv' := [(3, .int (iI r6)), (0, .ref o), (1, .int (iI sp)), (2, .int (iI b))]) hx hb dX4_step_14 rfl hl (by decide) rfl (fun ls hl => ?_)
    refine lv_iload_n hx hb dX4_step_15 rfl (lv_at hl 0 rfl) ?_
    refine g_bipush hx hb dX4_step_16 (by decide) ?_
    refine g_icmp_ne (tgt := 26) hx hb dX4_step_18 (by decide) (by omega) (by omega) (fun cq7 => ?_) (fun cq7 => ?_)
    · refine lv_aload_n hx hb dX4_step_26 rfl (lv_at hl 1 rfl) ?_
      refine lv_iload_n hx hb dX4_step_27 rfl (lv_at hl 0 rfl) ?_
      refine lv_iload_n hx hb dX4_step_28 rfl (lv_at hl 3 rfl) ?_
      refine g_if_eq (tgt := 36) hx hb dX4_step_29 (by decide) (by omega) (fun cq8 => by omega) (fun cq8 => ?_)
      refine g_iconst hx hb dX4_step_32 ?_
      refine lv_goto (tgt := 37) hx hb dX4_step_33 (by decide) ?_
      refine g_callV (As := [.int (iI r6), .int (iI 0)]) (rest := []) 2 hx hb hml hown hts hK hG hS hl.1 (mX4_swapped l X σ o a V Iv hM hT r6 0 (by omega) (by omega)) hM.o rfl q2138 q2140 qs52 q86 q2141 (by decide +kernel) rfl ⟨Nat.le_of_ble_eq_true rfl, Nat.le_of_ble_eq_true rfl⟩ ⟨Nat.le_of_ble_eq_true rfl, Nat.le_of_ble_eq_true rfl⟩ (Nat.le_of_ble_eq_true rfl) dX4_step_37 (kI (fun r9 σr9 H locs hp hG hS => ?_))
      obtain ⟨⟨hr9, kr9⟩, rfl⟩ := hp
      exact g_iret hx hb hr hlocks hQ hG hS (Nat.zero_le _) (Nat.zero_le _) ⟨_, rfl, ⟨(by
                have hb0 : b = 1 := by omega
                subst hb0
                unfold stpZ
                rw [← hr6]
                rw [if_neg (by omega)]
                exact hr9), (by omega)⟩, rfl⟩ dX4_step_40
    · refine g_bipush hx hb dX4_step_21 (by decide) ?_
      refine lv_goto (tgt := 40) hx hb dX4_step_23 (by decide) ?_
      exact g_iret hx hb hr hlocks hQ hG hS (Nat.zero_le _) (Nat.zero_le _) ⟨_, rfl, ⟨(by
                have hb0 : b = 1 := by omega
                subst hb0
                unfold stpZ
                rw [← hr6]
                rw [if_pos (by omega)]), (by omega)⟩, rfl⟩ dX4_step_40
