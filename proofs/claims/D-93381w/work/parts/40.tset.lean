/-! TreeSet -/
def PR (X : gX) (t : Nat) : Prop := va_Z "java/util/TreeSet" "PRESENT" "Ljava/lang/Object;" (.ref t) (gA X) X.2.2.2.2 X.2.2.2.2.heap
theorem PR.at {X : gX} {t : Nat} {s : State} (h : PR X t) (hK : gIn X s) : va_Z "java/util/TreeSet" "PRESENT" "Ljava/lang/Object;" (.ref t) (gA X) s s.heap := (h.moved hK.2.1.alike).kept hK.kept
theorem PR_ev {t : Term} {cls : String} {A : Array Value} {s : State} (h : (Cond.exactly t cls).before A s = true) : ∃ a, t.eval A s none [] s = some (.ref a) := by
  obtain ⟨a, c, cell, k, h, -⟩ := Cond.exactly_spec h
  exact ⟨a, h⟩
theorem gPR {X : gX} {s : State} (hK : gIn X s) : ∃ t, PR X t := by
  have h1 := hK.flat (Cond.exactly (.static "java/util/TreeSet" "PRESENT" "Ljava/lang/Object;") "java/lang/Object") (by decide +kernel)
  obtain ⟨t, hv⟩ := PR_ev h1
  exact ⟨t, va_Zref (hK.1.1 _ q1523) (hK.1.1 _ (lw_all_tbl q73)) hv (gOut X)⟩
theorem mJ2_init_2 (l : Launch) (X : gX) (σ : gS) (z tz : Nat) (q9 : Nat) (hz : σ z = some (tz, gO 12 [.null])) : gMet l X yJ2_init_2 cJ2_init_2 2 none 3 0 0 60 σ [.ref z, .ref q9] (oV (fun σ' => σ' = gup σ z (tz, gO 12 [.ref q9]))) := by
  refine gMet.of (by decide) (Nat.le_of_ble_eq_true rfl) ?_
  intro pp ee ss mm args below meth cd Q H locs ls hargs hx hb hr hlocks hml hown hnm hts hK hG hS hQ hl
  have hown : ss.vm.findClass RJ2 = some mm.cls := hown
  have hl : lv_has ls 2 [(0, .ref z), (1, .ref q9)] := hl
  refine lv_aload_n hx hb dJ2_init_2_0 rfl (lv_at hl 0 rfl) ?_
  refine g_callI (As := []) (rest := []) 0 hx hb hml hown hts hK hG hS hl.1 (mJ1_init l X σ z) q175 q176 q72 q177 rfl (by decide +kernel) rfl ⟨Nat.le_of_ble_eq_true rfl, Nat.le_of_ble_eq_true rfl⟩ ⟨Nat.le_of_ble_eq_true rfl, Nat.le_of_ble_eq_true rfl⟩ (Nat.le_of_ble_eq_true rfl) dJ2_init_2_1 (kV (fun σr1 H locs hp hG hS => ?_))
  obtain rfl := hp
  refine lv_aload_n hx hb dJ2_init_2_4 rfl (lv_at hl 0 rfl) ?_
  refine lv_aload_n hx hb dJ2_init_2_5 rfl (lv_at hl 1 rfl) ?_
  refine g_put (C := RJ2) (T := TJ2) (N := 1) (ty0 := tyJ2) (v := .ref q9) hx hb hts hown hK hG hS hz rfl in_J2 tyJ2_ok nmJ2 0 (by decide) q182 rfl (by decide) rfl rfl (Nat.le_of_ble_eq_true rfl) dJ2_init_2_6 (fun H locs hG hS => ?_)
  have hs2 : (gup σ z (tz, gO 12 ([.null].set 0 (.ref q9)))) = gup σ z (tz, gO 12 [.ref q9]) := by rfl
  have hL2 : (gup σ z (tz, gO 12 ([.null].set 0 (.ref q9)))) z = some (tz, gO 12 [.ref q9]) := gup_s
  generalize (gup σ z (tz, gO 12 ([.null].set 0 (.ref q9)))) = σ2 at hG hs2 hL2
  exact g_vret hx hb hr hlocks hQ hG hS (Nat.zero_le _) (Nat.zero_le _) ⟨rfl, hs2⟩ dJ2_init_2_9

theorem mJ2_init (l : Launch) (X : gX) (σ : gS) (tg z : Nat) (hz : σ z = some (17, gO 12 [.null])) : gMet l X yJ2_init cJ2_init 1 none 4 1 9 81 σ [.ref z] (oV (fun σ' => ∃ mp, σ mp = none ∧ (∃ pr, PR X pr) ∧ σ' = gup (gup σ mp (tg, gO 13 (tmF none none none 0 0))) z (17, gO 12 [.ref mp]))) := by
  refine gMet.of (by decide) (Nat.le_of_ble_eq_true rfl) ?_
  intro pp ee ss mm args below meth cd Q H locs ls hargs hx hb hr hlocks hml hown hnm hts hK hG hS hQ hl
  have hown : ss.vm.findClass RJ2 = some mm.cls := hown
  have hl : lv_has ls 1 [(0, .ref z)] := hl
  refine lv_aload_n hx hb dJ2_init_0 rfl (lv_at hl 0 rfl) ?_
  refine g_new (ci := 13) (C := RJ4) (T := TJ4) (N := 9) (ty := tyJ4) (fs := [.null, .null, .null, .null, .int (iI 0), .int (iI 0), .null, .null, .null]) hx hb tg hts hown hK hG hS rfl in_J4 tyJ4_ok q136 q137 q75 (fun j hj => match j, hj with | 0, _ => rfl | 1, _ => rfl | 2, _ => rfl | 3, _ => rfl | 4, _ => rfl | 5, _ => rfl | 6, _ => rfl | 7, _ => rfl | 8, _ => rfl | k9 + 9, h => absurd h (by omega)) (Nat.le_of_ble_eq_true rfl) (Nat.le_of_ble_eq_true rfl) dJ2_init_1 (fun nw1 H hznw1 hG hS => ?_)
  have hLnw1 : (gup σ nw1 (tg, gO 13 [.null, .null, .null, .null, .int (iI 0), .int (iI 0), .null, .null, .null])) nw1 = some (tg, gO 13 [.null, .null, .null, .null, .int (iI 0), .int (iI 0), .null, .null, .null]) := gup_s
  have hLf2_0 := (gKeep.new hznw1 : gKeep (fun _ => False) σ (gup σ nw1 (tg, gO 13 [.null, .null, .null, .null, .int (iI 0), .int (iI 0), .null, .null, .null]))) _ _ _ hz (fun h => h)
  generalize hgen2 : (gup σ nw1 (tg, gO 13 [.null, .null, .null, .null, .int (iI 0), .int (iI 0), .null, .null, .null])) = σ2 at hG hLnw1 hLf2_0
  refine lv_dup hx hb dJ2_init_4 rfl ?_
  refine g_callI (As := []) (rest := [.ref nw1, .ref z]) 0 hx hb hml hown hts hK hG hS hl.1 (mJ4_init l X σ2 nw1 _ hLnw1) q138 q139 q75 q140 rfl (by decide +kernel) rfl ⟨Nat.le_of_ble_eq_true rfl, Nat.le_of_ble_eq_true rfl⟩ ⟨Nat.le_of_ble_eq_true rfl, Nat.le_of_ble_eq_true rfl⟩ (Nat.le_of_ble_eq_true rfl) dJ2_init_5 (kV (fun σr3 H locs hp hG hS => ?_))
  have hp : σr3 = (gup σ2 nw1 (tg, gO 13 [.null, .null, .null, .null, .int (iI 0), .int (iI 0), .null, .null, .null])) := hp
  have hL4 : σr3 nw1 = some (tg, gO 13 [.null, .null, .null, .null, .int (iI 0), .int (iI 0), .null, .null, .null]) := by rw [hp]; exact gup_s
  have hp4 : σr3 = (gup σ nw1 (tg, gO 13 [.null, .null, .null, .null, .int (iI 0), .int (iI 0), .null, .null, .null])) := by rw [hp, ← hgen2, gup_gup]
  have hLg4_0 := (gKeep.new hznw1 : gKeep (fun _ => False) σ (gup σ nw1 (tg, gO 13 [.null, .null, .null, .null, .int (iI 0), .int (iI 0), .null, .null, .null]))) _ _ _ hz (fun h => h)
  rw [← hp4] at hLg4_0
  refine g_callI (As := [.ref nw1]) (rest := []) 1 hx hb hml hown hts hK hG hS hl.1 (mJ2_init_2 l X σr3 z _ nw1 hLg4_0) q172 q173 q73 q174 rfl (by decide +kernel) rfl ⟨Nat.le_of_ble_eq_true rfl, Nat.le_of_ble_eq_true rfl⟩ ⟨Nat.le_of_ble_eq_true rfl, Nat.le_of_ble_eq_true rfl⟩ (Nat.le_of_ble_eq_true rfl) dJ2_init_8 (kV (fun σr5 H locs hp hG hS => ?_))
  have hp : σr5 = (gup σr3 z (17, gO 12 [.ref nw1])) := hp
  have hL6 : σr5 z = some (17, gO 12 [.ref nw1]) := by rw [hp]; exact gup_s
  exact g_vret hx hb hr hlocks hQ hG hS (Nat.le_of_ble_eq_true rfl) (Nat.le_of_ble_eq_true rfl) ⟨rfl, nw1, hznw1, gPR hK, (by rw [hp, hp4]; rfl)⟩ dJ2_init_11

set_option maxHeartbeats 4000000 in
theorem mJ2_size (l : Launch) (X : gX) (σ : gS) (tg mp n : Nat) (ad ps : Nat → Nat) (K : Nat → Nat) (Vv l_ r_ p_ : Nat → Option Nat) (C : Nat → Int) (rt es ks : Option Nat) (sz md : Int) (hTH : TH σ tg mp (tIn n ad ps) K Vv l_ r_ p_ C rt es ks sz md) (sa ts : Nat) (hsa : σ sa = some (ts, gO 12 [.ref mp])) : gMet l X yJ2_size cJ2_size 1 (some .int) 1 0 0 20 σ [.ref sa] (oI (fun r σ' => r = sz ∧ σ = σ')) := by
  refine gMet.of (by decide) (Nat.le_of_ble_eq_true rfl) ?_
  intro pp ee ss mm args below meth cd Q H locs ls hargs hx hb hr hlocks hml hown hnm hts hK hG hS hQ hl
  have hown : ss.vm.findClass RJ2 = some mm.cls := hown
  have hl : lv_has ls 1 [(0, .ref sa)] := hl
  have hkp : gKeep (fun t => t = tg) σ σ := gKeep.rf
  refine lv_aload_n hx hb dJ2_size_0 rfl (lv_at hl 0 rfl) ?_
  refine g_get (C := RJ2) (T := TJ2) (N := 1) (v := .ref mp) hx hb hts hown hK hG hsa rfl in_J2 0 (by decide) q182 rfl rfl dJ2_size_1 ?_
  refine g_callM (J := "java/util/Map") (x := nmx "size" "()I") (As := []) (rest := []) 0 hx hb hml hown hts hK hG hS hl.1 (mJ4_size l X σ tg mp n ad ps K Vv l_ r_ p_ C rt es ks sz md hTH) hTH.1 rfl nm_53 nf_53 q1514 q1513 (by decide) (by decide) q1515 q1231 q75 q1233 q1517 q1516 q1324 (by decide +kernel) rfl ⟨Nat.le_of_ble_eq_true rfl, Nat.le_of_ble_eq_true rfl⟩ ⟨Nat.le_of_ble_eq_true rfl, Nat.le_of_ble_eq_true rfl⟩ (Nat.le_of_ble_eq_true rfl) dJ2_size_4 (kI (fun r1 σr1 H locs hp hG hS => ?_))
  obtain ⟨rfl, rfl⟩ := hp
  exact g_iret hx hb hr hlocks hQ hG hS (Nat.zero_le _) (Nat.zero_le _) ⟨_, rfl, rfl, rfl⟩ dJ2_size_9

set_option maxHeartbeats 4000000 in
theorem mJ2_contains (l : Launch) (X : gX) (σ : gS) (tg mp n : Nat) (ad ps : Nat → Nat) (K : Nat → Nat) (Vv l_ r_ p_ : Nat → Option Nat) (C : Nat → Int) (rt es ks : Option Nat) (sz md : Int) (hTH : TH σ tg mp (tIn n ad ps) K Vv l_ r_ p_ C rt es ks sz md) (lo hi : Nat → Nat) (hok : tOk n ad ps l_ r_ p_ lo hi rt) (kt : Nat) (hkt : ¬ kt = tg) (kc : Nat → Int) (hKc : ∀ a, tIn n ad ps a → σ (K a) = some (kt, gO 11 [.int (iI (kc a))]) ∧ 0 ≤ kc a ∧ kc a ≤ 2000) (hko : kOk n ad kc) (κ t9 : Nat) (k9 : Int) (hκ : σ κ = some (t9, gO 11 [.int (iI k9)])) (hκt : ¬ t9 = tg) (hk9 : 0 ≤ k9 ∧ k9 ≤ 2000) (sa ts : Nat) (hsa : σ sa = some (ts, gO 12 [.ref mp])) : gMet l X yJ2_contains cJ2_contains 2 (some .boolean) 5 0 0 108 σ [.ref sa, .ref κ] (oI (fun r σ' => (r = 1 ∧ (∃ a, tIn n ad ps a ∧ kc a = k9) ∨ r = 0 ∧ ∀ a, tIn n ad ps a → kc a ≠ k9) ∧ σ = σ')) := by
  refine gMet.of (by decide) (Nat.le_of_ble_eq_true rfl) ?_
  intro pp ee ss mm args below meth cd Q H locs ls hargs hx hb hr hlocks hml hown hnm hts hK hG hS hQ hl
  have hown : ss.vm.findClass RJ2 = some mm.cls := hown
  have hl : lv_has ls 2 [(0, .ref sa), (1, .ref κ)] := hl
  have hkp : gKeep (fun t => t = tg) σ σ := gKeep.rf
  refine lv_aload_n hx hb dJ2_contains_0 rfl (lv_at hl 0 rfl) ?_
  refine g_get (C := RJ2) (T := TJ2) (N := 1) (v := .ref mp) hx hb hts hown hK hG hsa rfl in_J2 0 (by decide) q182 rfl rfl dJ2_contains_1 ?_
  refine lv_aload_n hx hb dJ2_contains_4 rfl (lv_at hl 1 rfl) ?_
  refine g_callM (J := "java/util/Map") (x := nmx "containsKey" "(Ljava/lang/Object;)Z") (As := [.ref κ]) (rest := []) 1 hx hb hml hown hts hK hG hS hl.1 (mJ4_containsKey l X σ tg mp n ad ps K Vv l_ r_ p_ C rt es ks sz md hTH lo hi hok kt hkt kc hKc hko κ _ k9 (hkp _ _ _ hκ hκt) hκt (by omega)) hTH.1 rfl nm_61 nf_61 q1502 q1501 (by decide) (by decide) q1503 q1505 q75 q1507 q1506 q1504 q1324 (by decide +kernel) rfl ⟨Nat.le_of_ble_eq_true rfl, Nat.le_of_ble_eq_true rfl⟩ ⟨Nat.le_of_ble_eq_true rfl, Nat.le_of_ble_eq_true rfl⟩ (Nat.le_of_ble_eq_true rfl) dJ2_contains_5 (kI (fun r1 σr1 H locs hp hG hS => ?_))
  obtain ⟨hr1, rfl⟩ := hp
  have kr1 : r1 = 0 ∨ r1 = 1 := by rcases hr1 with ⟨h, -⟩ | ⟨h, -⟩ <;> omega
  exact g_zret hx hb hr hlocks hQ hG hS (Nat.zero_le _) (Nat.zero_le _) (gnz (by omega)) ⟨_, rfl, hr1, rfl⟩ dJ2_contains_10

set_option maxHeartbeats 4000000 in
theorem mJ2_clear (l : Launch) (X : gX) (σ : gS) (tg mp n : Nat) (ad ps : Nat → Nat) (K : Nat → Nat) (Vv l_ r_ p_ : Nat → Option Nat) (C : Nat → Int) (rt es ks : Option Nat) (sz md : Int) (hTH : TH σ tg mp (tIn n ad ps) K Vv l_ r_ p_ C rt es ks sz md) (sa ts : Nat) (hsa : σ sa = some (ts, gO 12 [.ref mp])) : gMet l X yJ2_clear cJ2_clear 1 none 1 0 0 20 σ [.ref sa] (oV (fun σ' => TH σ' tg mp (tIn n ad ps) K Vv l_ r_ p_ C none es ks 0 (md + 1) ∧ gKeep (fun t => t = tg) σ σ')) := by
  refine gMet.of (by decide) (Nat.le_of_ble_eq_true rfl) ?_
  intro pp ee ss mm args below meth cd Q H locs ls hargs hx hb hr hlocks hml hown hnm hts hK hG hS hQ hl
  have hown : ss.vm.findClass RJ2 = some mm.cls := hown
  have hl : lv_has ls 1 [(0, .ref sa)] := hl
  have hkp : gKeep (fun t => t = tg) σ σ := gKeep.rf
  refine lv_aload_n hx hb dJ2_clear_0 rfl (lv_at hl 0 rfl) ?_
  refine g_get (C := RJ2) (T := TJ2) (N := 1) (v := .ref mp) hx hb hts hown hK hG hsa rfl in_J2 0 (by decide) q182 rfl rfl dJ2_clear_1 ?_
  refine g_callM (J := "java/util/Map") (x := nmx "clear" "()V") (As := []) (rest := []) 0 hx hb hml hown hts hK hG hS hl.1 (mJ4_clear l X σ tg mp n ad ps K Vv l_ r_ p_ C rt es ks sz md hTH) hTH.1 rfl nm_77 nf_77 q1587 q1586 (by decide) (by decide) q1588 q1590 q75 q1592 q1591 q1589 q1324 (by decide +kernel) rfl ⟨Nat.le_of_ble_eq_true rfl, Nat.le_of_ble_eq_true rfl⟩ ⟨Nat.le_of_ble_eq_true rfl, Nat.le_of_ble_eq_true rfl⟩ (Nat.le_of_ble_eq_true rfl) dJ2_clear_4 (kV (fun σr1 H locs hp hG hS => ?_))
  exact g_vret hx hb hr hlocks hQ hG hS (Nat.zero_le _) (Nat.zero_le _) ⟨rfl, hp⟩ dJ2_clear_9

set_option maxHeartbeats 4000000 in
theorem mJ2_add (l : Launch) (X : gX) (σ : gS) (tg mp n : Nat) (ad ps : Nat → Nat) (K : Nat → Nat) (Vv l_ r_ p_ : Nat → Option Nat) (C : Nat → Int) (rt es ks : Option Nat) (sz md : Int) (hTH : TH σ tg mp (tIn n ad ps) K Vv l_ r_ p_ C rt es ks sz md) (lo hi : Nat → Nat) (hok : tOk n ad ps l_ r_ p_ lo hi rt) (kt : Nat) (hkt : ¬ kt = tg) (kc : Nat → Int) (hKc : ∀ a, tIn n ad ps a → σ (K a) = some (kt, gO 11 [.int (iI (kc a))]) ∧ 0 ≤ kc a ∧ kc a ≤ 2000) (hko : kOk n ad kc) (κ t9 : Nat) (k9 : Int) (hκ : σ κ = some (t9, gO 11 [.int (iI k9)])) (hκt : ¬ t9 = tg) (hk9 : 0 ≤ k9 ∧ k9 ≤ 2000) (sa ts pr : Nat) (hsa : σ sa = some (ts, gO 12 [.ref mp])) (hPR : PR X pr) (hVv : ∀ a, tIn n ad ps a → Vv a = some pr) (hsz : sz = (n : Int)) : gMet l X yJ2_add cJ2_add 2 (some .boolean) 7 1 6 158 σ [.ref sa, .ref κ] (oI (fun r σ' => (r = 0 ∧ ∃ a, tIn n ad ps a ∧ kc a = k9 ∧ TH σ' tg mp (tIn n ad ps) K (va_up Vv a (some pr)) l_ r_ p_ C rt es ks sz md ∧ gKeep (fun t => t = tg) σ σ') ∨ (r = 1 ∧ ∃ (z c : Nat) (l2 r2 p2 : Nat → Option Nat) (C2 : Nat → Int) (rt2 : Option Nat) (lo2 hi2 : Nat → Nat), ¬ tIn n ad ps z ∧ c ≤ n ∧ (∀ i, i < c → kc (ad i) < k9) ∧ (∀ i, c ≤ i → i < n → k9 < kc (ad i)) ∧ TH σ' tg mp (tIn (n + 1) (tAd z c ad) (tPs z c ps)) (va_up K z κ) (va_up Vv z (some pr)) l2 r2 p2 C2 rt2 es ks (((n + 1 : Nat) : Int)) (md + 1) ∧ tOk (n + 1) (tAd z c ad) (tPs z c ps) l2 r2 p2 lo2 hi2 rt2 ∧ gKeep (fun t => t = tg) σ σ'))) := by
  refine gMet.of (by decide) (Nat.le_of_ble_eq_true rfl) ?_
  intro pp ee ss mm args below meth cd Q H locs ls hargs hx hb hr hlocks hml hown hnm hts hK hG hS hQ hl
  have hown : ss.vm.findClass RJ2 = some mm.cls := hown
  have hl : lv_has ls 2 [(0, .ref sa), (1, .ref κ)] := hl
  have hkp : gKeep (fun t => t = tg) σ σ := gKeep.rf
  refine lv_aload_n hx hb dJ2_add_0 rfl (lv_at hl 0 rfl) ?_
  refine g_get (C := RJ2) (T := TJ2) (N := 1) (v := .ref mp) hx hb hts hown hK hG hsa rfl in_J2 0 (by decide) q182 rfl rfl dJ2_add_1 ?_
  refine lv_aload_n hx hb dJ2_add_4 rfl (lv_at hl 1 rfl) ?_
  refine va_gets hx hb (hPR.at hK) hS hown (hts _ q1522) (fun _ h => h) dJ2_add_5 ?_
  refine g_callM (J := "java/util/Map") (x := nmx "put" "(Ljava/lang/Object;Ljava/lang/Object;)Ljava/lang/Object;") (As := [.ref κ, .ref pr]) (rest := []) 2 hx hb hml hown hts hK hG hS hl.1 (mJ4_put_X11 l X σ tg mp n ad ps K Vv l_ r_ p_ C rt es ks sz md hTH lo hi hok kt hkt kc hKc hko κ _ k9 (hkp _ _ _ hκ hκt) hκt (by omega) (some pr) hsz) hTH.1 rfl nm_69 nf_69 q1526 q1525 (by decide) (by decide) q1527 q1154 q75 q1156 q1529 q1528 q1324 (by decide +kernel) rfl ⟨Nat.le_of_ble_eq_true rfl, Nat.le_of_ble_eq_true rfl⟩ ⟨Nat.le_of_ble_eq_true rfl, Nat.le_of_ble_eq_true rfl⟩ (Nat.le_of_ble_eq_true rfl) dJ2_add_8 (kA (fun r1 σr1 H locs hp hG hS => ?_))
  rcases hp with ⟨a9, hDa9, hka9, rfl, hpf⟩ | ⟨rfl, hpn⟩
  · refine g_rwv (v := .ref pr) (congrArg va_rf (hVv a9 hDa9)) ?_
    refine lv_ifnonnull (tgt := 20) hx hb dJ2_add_13 (by decide) ?_
    refine g_iconst hx hb dJ2_add_20 ?_
    exact g_zret hx hb hr hlocks hQ hG hS (Nat.le_of_ble_eq_true rfl) (Nat.le_of_ble_eq_true rfl) (gnz (by omega)) ⟨_, rfl, Or.inl ⟨rfl, a9, hDa9, hka9, hpf⟩⟩ dJ2_add_21
  · refine g_rwv (v := .null) (rfl) ?_
    refine lv_ifnonnullN hx hb dJ2_add_13 ?_
    refine g_iconst hx hb dJ2_add_16 ?_
    refine lv_goto (tgt := 21) hx hb dJ2_add_17 (by decide) ?_
    exact g_zret hx hb hr hlocks hQ hG hS (Nat.le_of_ble_eq_true rfl) (Nat.le_of_ble_eq_true rfl) (gnz (by omega)) ⟨_, rfl, Or.inr ⟨rfl, hpn⟩⟩ dJ2_add_21

set_option maxHeartbeats 4000000 in
theorem mJ2_remove (l : Launch) (X : gX) (σ : gS) (tg mp n : Nat) (ad ps : Nat → Nat) (K : Nat → Nat) (Vv l_ r_ p_ : Nat → Option Nat) (C : Nat → Int) (rt es ks : Option Nat) (sz md : Int) (hTH : TH σ tg mp (tIn n ad ps) K Vv l_ r_ p_ C rt es ks sz md) (lo hi : Nat → Nat) (hok : tOk n ad ps l_ r_ p_ lo hi rt) (kt : Nat) (hkt : ¬ kt = tg) (kc : Nat → Int) (hKc : ∀ a, tIn n ad ps a → σ (K a) = some (kt, gO 11 [.int (iI (kc a))]) ∧ 0 ≤ kc a ∧ kc a ≤ 2000) (hko : kOk n ad kc) (κ t9 : Nat) (k9 : Int) (hκ : σ κ = some (t9, gO 11 [.int (iI k9)])) (hκt : ¬ t9 = tg) (hk9 : 0 ≤ k9 ∧ k9 ≤ 2000) (sa ts pr : Nat) (hsa : σ sa = some (ts, gO 12 [.ref mp])) (hPR : PR X pr) (hVv : ∀ a, tIn n ad ps a → Vv a = some pr) : gMet l X yJ2_remove cJ2_remove 2 (some .boolean) 5 0 0 110 σ [.ref sa, .ref κ] (oI (fun r σ' => (r = 1 ∧ ∃ a, tIn n ad ps a ∧ kc a = k9 ∧ ∃ (ad2 ps2 : Nat → Nat) (K2 : Nat → Nat) (V2 l2 r2 p2 : Nat → Option Nat) (C2 : Nat → Int) (rt2 : Option Nat) (lo2 hi2 : Nat → Nat), TH σ' tg mp (tIn (n - 1) ad2 ps2) K2 V2 l2 r2 p2 C2 rt2 es ks (sz - 1) (md + 1) ∧ tOk (n - 1) ad2 ps2 l2 r2 p2 lo2 hi2 rt2 ∧ gKeep (fun t => t = tg) σ σ' ∧ ∀ i, i < n - 1 → K2 (ad2 i) = K (tAx (ps a) ad i) ∧ V2 (ad2 i) = Vv (tAx (ps a) ad i)) ∨ (r = 0 ∧ (∀ a, tIn n ad ps a → kc a ≠ k9) ∧ σ = σ'))) := by
  refine gMet.of (by decide) (Nat.le_of_ble_eq_true rfl) ?_
  intro pp ee ss mm args below meth cd Q H locs ls hargs hx hb hr hlocks hml hown hnm hts hK hG hS hQ hl
  have hown : ss.vm.findClass RJ2 = some mm.cls := hown
  have hl : lv_has ls 2 [(0, .ref sa), (1, .ref κ)] := hl
  have hkp : gKeep (fun t => t = tg) σ σ := gKeep.rf
  refine lv_aload_n hx hb dJ2_remove_0 rfl (lv_at hl 0 rfl) ?_
  refine g_get (C := RJ2) (T := TJ2) (N := 1) (v := .ref mp) hx hb hts hown hK hG hsa rfl in_J2 0 (by decide) q182 rfl rfl dJ2_remove_1 ?_
  refine lv_aload_n hx hb dJ2_remove_4 rfl (lv_at hl 1 rfl) ?_
  refine g_callM (J := "java/util/Map") (x := nmx "remove" "(Ljava/lang/Object;)Ljava/lang/Object;") (As := [.ref κ]) (rest := []) 1 hx hb hml hown hts hK hG hS hl.1 (mJ4_remove l X σ tg mp n ad ps K Vv l_ r_ p_ C rt es ks sz md hTH lo hi hok kt hkt kc hKc hko κ _ k9 (hkp _ _ _ hκ hκt) hκt (by omega)) hTH.1 rfl nm_73 nf_73 q1540 q1539 (by decide) (by decide) q1541 q1543 q75 q1545 q1544 q1542 q1324 (by decide +kernel) rfl ⟨Nat.le_of_ble_eq_true rfl, Nat.le_of_ble_eq_true rfl⟩ ⟨Nat.le_of_ble_eq_true rfl, Nat.le_of_ble_eq_true rfl⟩ (Nat.le_of_ble_eq_true rfl) dJ2_remove_5 (kA (fun r1 σr1 H locs hp hG hS => ?_))
  rcases hp with ⟨a9, hDa9, hka9, rfl, hpf⟩ | ⟨rfl, hno9, rfl⟩
  · refine g_rwv (v := .ref pr) (congrArg va_rf (hVv a9 hDa9)) ?_
    refine va_gets hx hb (hPR.at hK) hS hown (hts _ q1522) (fun _ h => h) dJ2_remove_10 ?_
    refine lv_acmp_ne (tgt := 20) (rx := (some pr)) (ry := (some pr)) hx hb dJ2_remove_13 (by decide) (fun hq2 => absurd rfl hq2) (fun hq2 => ?_)
    refine g_iconst hx hb dJ2_remove_16 ?_
    refine lv_goto (tgt := 21) hx hb dJ2_remove_17 (by decide) ?_
    exact g_zret hx hb hr hlocks hQ hG hS (Nat.zero_le _) (Nat.zero_le _) (gnz (by omega)) ⟨_, rfl, Or.inl ⟨rfl, a9, hDa9, hka9, hpf⟩⟩ dJ2_remove_21
  · refine g_rwv (v := .null) (rfl) ?_
    refine va_gets hx hb (hPR.at hK) hS hown (hts _ q1522) (fun _ h => h) dJ2_remove_10 ?_
    refine lv_acmp_ne (tgt := 20) (rx := none) (ry := (some pr)) hx hb dJ2_remove_13 (by decide) (fun hq3 => ?_) (fun hq3 => absurd hq3 (by simp))
    refine g_iconst hx hb dJ2_remove_20 ?_
    exact g_zret hx hb hr hlocks hQ hG hS (Nat.zero_le _) (Nat.zero_le _) (gnz (by omega)) ⟨_, rfl, Or.inr ⟨rfl, hno9, rfl⟩⟩ dJ2_remove_21

set_option maxHeartbeats 4000000 in
theorem mJ2_iterator (l : Launch) (X : gX) (σ : gS) (tg mp n : Nat) (ad ps : Nat → Nat) (K : Nat → Nat) (Vv l_ r_ p_ : Nat → Option Nat) (C : Nat → Int) (rt es ks : Option Nat) (sz md : Int) (hTH : TH σ tg mp (tIn n ad ps) K Vv l_ r_ p_ C rt es ks sz md) (lo hi : Nat → Nat) (hok : tOk n ad ps l_ r_ p_ lo hi rt) (htz : ¬ tg = 15) (htg6 : ¬ tg = 16) (sa ts : Nat) (hsa : σ sa = some (ts, gO 12 [.ref mp])) (hks : ∀ z, ks = some z → σ z = some (16, gO 22 [.ref mp])) : gMet l X yJ2_iterator cJ2_iterator 1 (some (.object "java/util/Iterator")) 5 2 5 104 σ [.ref sa] (oA (fun v σ' => ∃ it, v = .ref it ∧ ((σ it = none ∧ ∃ zk, ks = some zk ∧ σ' = gup σ it (15, gO 21 [va_rf (if 0 < n then some (ad (0)) else none), .null, .int (iI md), .ref mp])) ∨ (ks = none ∧ ∃ zk, σ zk = none ∧ ∃ σ1, TH σ1 tg mp (tIn n ad ps) K Vv l_ r_ p_ C rt es (some zk) sz md ∧ σ1 zk = some (16, gO 22 [.ref mp]) ∧ gKeep (fun t => t = tg) σ σ1 ∧ σ1 it = none ∧ σ' = gup σ1 it (15, gO 21 [va_rf (if 0 < n then some (ad (0)) else none), .null, .int (iI md), .ref mp]))))) := by
  refine gMet.of (by decide) (Nat.le_of_ble_eq_true rfl) ?_
  intro pp ee ss mm args below meth cd Q H locs ls hargs hx hb hr hlocks hml hown hnm hts hK hG hS hQ hl
  have hown : ss.vm.findClass RJ2 = some mm.cls := hown
  have hl : lv_has ls 1 [(0, .ref sa)] := hl
  have hkp : gKeep (fun t => t = tg) σ σ := gKeep.rf
  refine lv_aload_n hx hb dJ2_iterator_0 rfl (lv_at hl 0 rfl) ?_
  refine g_get (C := RJ2) (T := TJ2) (N := 1) (v := .ref mp) hx hb hts hown hK hG hsa rfl in_J2 0 (by decide) q182 rfl rfl dJ2_iterator_1 ?_
  refine g_callF (As := []) (rest := []) 0 hx hb hml hown hts hK hG hS hl.1 (mJ4_navigableKeySet l X σ tg mp n ad ps K Vv l_ r_ p_ C rt es ks sz md hTH htg6) hTH.1 rfl q1321 q1325 q1327 q75 q1329 q1323 q1322 q1328 q1326 q1324 (by decide +kernel) rfl ⟨Nat.le_of_ble_eq_true rfl, Nat.le_of_ble_eq_true rfl⟩ ⟨Nat.le_of_ble_eq_true rfl, Nat.le_of_ble_eq_true rfl⟩ (Nat.le_of_ble_eq_true rfl) dJ2_iterator_4 (kA (fun r1 σr1 H locs hp hG hS => ?_))
  obtain ⟨zk, rfl, hp⟩ := hp
  rcases hp with ⟨hzk, rfl⟩ | ⟨hkn9, hzk9, hTHk, hczk, hkpk⟩
  · refine g_callF (As := []) (rest := []) 0 hx hb hml hown hts hK hG hS hl.1 (mJ30_iterator l X σ tg mp n ad ps K Vv l_ r_ p_ C rt es ks sz md hTH lo hi hok htz zk _ (hks zk hzk)) (hks zk hzk) rfl q1341 q1345 q1290 q113 q1292 q1343 q1342 q1291 q1289 q1344 (by decide +kernel) rfl ⟨Nat.le_of_ble_eq_true rfl, Nat.le_of_ble_eq_true rfl⟩ ⟨Nat.le_of_ble_eq_true rfl, Nat.le_of_ble_eq_true rfl⟩ (Nat.le_of_ble_eq_true rfl) dJ2_iterator_9 (kA (fun r2 σr2 H locs hp hG hS => ?_))
    obtain ⟨zi9, rfl, hzi9, hs9⟩ := hp
    exact g_aret hx hb hr (by first | exact Or.inl ⟨_, rfl⟩ | exact Or.inr ⟨_, rfl⟩) (by first | exact Or.inl rfl | exact Or.inr ⟨_, rfl⟩ | assumption | exact va_rf_or _) hlocks hQ hG hS (Nat.le_of_ble_eq_true rfl) (Nat.le_of_ble_eq_true rfl) ⟨_, rfl, zi9, rfl, Or.inl ⟨hzi9, zk, hzk, hs9⟩⟩ dJ2_iterator_14
  · refine g_callF (As := []) (rest := []) 0 hx hb hml hown hts hK hG hS hl.1 (mJ30_iterator l X σr1 tg mp n ad ps K Vv l_ r_ p_ C rt es (some zk) sz md hTHk lo hi hok htz zk _ hczk) hczk rfl q1341 q1345 q1290 q113 q1292 q1343 q1342 q1291 q1289 q1344 (by decide +kernel) rfl ⟨Nat.le_of_ble_eq_true rfl, Nat.le_of_ble_eq_true rfl⟩ ⟨Nat.le_of_ble_eq_true rfl, Nat.le_of_ble_eq_true rfl⟩ (Nat.le_of_ble_eq_true rfl) dJ2_iterator_9 (kA (fun r3 σr3 H locs hp hG hS => ?_))
    obtain ⟨zi9, rfl, hzi9, hs9⟩ := hp
    exact g_aret hx hb hr (by first | exact Or.inl ⟨_, rfl⟩ | exact Or.inr ⟨_, rfl⟩) (by first | exact Or.inl rfl | exact Or.inr ⟨_, rfl⟩ | assumption | exact va_rf_or _) hlocks hQ hG hS (Nat.le_of_ble_eq_true rfl) (Nat.le_of_ble_eq_true rfl) ⟨_, rfl, zi9, rfl, Or.inr ⟨hkn9, zk, hzk9, _, hTHk, hczk, hkpk, hzi9, hs9⟩⟩ dJ2_iterator_14

