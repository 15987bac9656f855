/-! the map of lengths to counts: rising lengths cd, how many of each O -/
set_option maxRecDepth 100000
def MapC (σ : gS) (mp n : Nat) (cd : Nat → Int) (O : Int → Int) (ad ps K : Nat → Nat) (Vv l r p : Nat → Option Nat) (C : Nat → Int) (rt es ks : Option Nat) (md : Int) (lo hi : Nat → Nat) : Prop :=
  TH σ 7 mp (tIn n ad ps) K Vv l r p C rt es ks (n : Int) md ∧ tOk n ad ps l r p lo hi rt ∧
  (∀ a, tIn n ad ps a → σ (K a) = some (8, gO 9 [.int (iI (cd (ps a)))]) ∧ (1 ≤ cd (ps a) ∧ cd (ps a) ≤ 1024) ∧ ∃ v, Vv a = some v ∧ σ v = some (12, gO 10 [.int (iI (O (cd (ps a))))])) ∧
  (∀ i j, i < j → j < n → cd i < cd j) ∧ (∀ a b, tIn n ad ps a → tIn n ad ps b → Vv a = Vv b → a = b) ∧ ∀ z, es = some z → σ z = some (16, gO 19 [.ref mp])
def MapW (σ : gS) (mp n : Nat) (cd : Nat → Int) (O : Int → Int) : Prop := ∃ ad ps K Vv l r p C rt es ks md lo hi, MapC σ mp n cd O ad ps K Vv l r p C rt es ks md lo hi
/-- .. an iterator at place i -/
def MapI (σ : gS) (mp n : Nat) (cd : Nat → Int) (O : Int → Int) (it i : Nat) : Prop := ∃ ad ps K Vv l r p C rt es ks md lo hi ls, MapC σ mp n cd O ad ps K Vv l r p C rt es ks md lo hi ∧ σ it = some (15, gO 20 [va_rf (if i < n then some (ad i) else none), va_rf ls, .int (iI md), .ref mp])
/-- .. an iterator behind place i, whose entry is e -/
def MapE (σ : gS) (mp n : Nat) (cd : Nat → Int) (O : Int → Int) (it i e : Nat) : Prop := ∃ ad ps K Vv l r p C rt es ks md lo hi ls, MapC σ mp n cd O ad ps K Vv l r p C rt es ks md lo hi ∧ σ it = some (15, gO 20 [va_rf (if i + 1 < n then some (ad (i + 1)) else none), va_rf ls, .int (iI md), .ref mp]) ∧ i < n ∧ e = ad i
/-- .. w counts the length c -/
def MapG (σ : gS) (mp n : Nat) (cd : Nat → Int) (O : Int → Int) (c : Int) (w : Nat) : Prop := ∃ ad ps K Vv l r p C rt es ks md lo hi, MapC σ mp n cd O ad ps K Vv l r p C rt es ks md lo hi ∧ ∃ a, tIn n ad ps a ∧ cd (ps a) = c ∧ Vv a = some w
/-- .. w counts nothing yet -/
def MapN (σ : gS) (mp n : Nat) (cd : Nat → Int) (O : Int → Int) (w : Nat) : Prop := ∃ ad ps K Vv l r p C rt es ks md lo hi, MapC σ mp n cd O ad ps K Vv l r p C rt es ks md lo hi ∧ ∀ a, tIn n ad ps a → Vv a ≠ some w
section MW
variable {σ σ' : gS} {mp n : Nat} {cd : Nat → Int} {O : Int → Int}
def mst (t' : Nat → Prop) : Prop := ¬ t' 7 ∧ ¬ t' 8 ∧ ¬ t' 12 ∧ ¬ t' 16
theorem MapC.keep {ad ps K : Nat → Nat} {Vv l r p : Nat → Option Nat} {C : Nat → Int} {rt es ks : Option Nat} {md : Int} {lo hi : Nat → Nat} {t' : Nat → Prop} (h : MapC σ mp n cd O ad ps K Vv l r p C rt es ks md lo hi) (hk : gKeep t' σ σ') (ht : mst t') : MapC σ' mp n cd O ad ps K Vv l r p C rt es ks md lo hi := by
  obtain ⟨h1, h2, h3, h4, h5, h6⟩ := h
  refine ⟨h1.keep hk ht.1, h2, fun a ha => ?_, h4, h5, fun z hz => hk _ _ _ (h6 z hz) ht.2.2.2⟩
  obtain ⟨q1, q2, v, q3, q4⟩ := h3 a ha
  exact ⟨hk _ _ _ q1 ht.2.1, q2, v, q3, hk _ _ _ q4 ht.2.2.1⟩
theorem MapW.keep {t' : Nat → Prop} (h : MapW σ mp n cd O) (hk : gKeep t' σ σ') (ht : mst t') : MapW σ' mp n cd O := by
  obtain ⟨ad, ps, K, Vv, l, r, p, C, rt, es, ks, md, lo, hi, h⟩ := h
  exact ⟨ad, ps, K, Vv, l, r, p, C, rt, es, ks, md, lo, hi, h.keep hk ht⟩
theorem MapN.keep {w : Nat} {t' : Nat → Prop} (h : MapN σ mp n cd O w) (hk : gKeep t' σ σ') (ht : mst t') : MapN σ' mp n cd O w := by
  obtain ⟨ad, ps, K, Vv, l, r, p, C, rt, es, ks, md, lo, hi, h, g⟩ := h
  exact ⟨ad, ps, K, Vv, l, r, p, C, rt, es, ks, md, lo, hi, h.keep hk ht, g⟩
theorem MapG.keep {c : Int} {w : Nat} {t' : Nat → Prop} (h : MapG σ mp n cd O c w) (hk : gKeep t' σ σ') (ht : mst t') : MapG σ' mp n cd O c w := by
  obtain ⟨ad, ps, K, Vv, l, r, p, C, rt, es, ks, md, lo, hi, h, g⟩ := h
  exact ⟨ad, ps, K, Vv, l, r, p, C, rt, es, ks, md, lo, hi, h.keep hk ht, g⟩
theorem MapI.W {it i : Nat} (h : MapI σ mp n cd O it i) : MapW σ mp n cd O := by
  obtain ⟨ad, ps, K, Vv, l, r, p, C, rt, es, ks, md, lo, hi, ls, h, g⟩ := h
  exact ⟨ad, ps, K, Vv, l, r, p, C, rt, es, ks, md, lo, hi, h⟩
theorem MapE.I {it i e : Nat} (h : MapE σ mp n cd O it i e) : MapI σ mp n cd O it (i + 1) := by
  obtain ⟨ad, ps, K, Vv, l, r, p, C, rt, es, ks, md, lo, hi, ls, h, g, -⟩ := h
  exact ⟨ad, ps, K, Vv, l, r, p, C, rt, es, ks, md, lo, hi, ls, h, g⟩
theorem MapI.it {it i : Nat} (h : MapI σ mp n cd O it i) : ∃ fs, σ it = some (15, gO 20 fs) := by
  obtain ⟨ad, ps, K, Vv, l, r, p, C, rt, es, ks, md, lo, hi, ls, h, g⟩ := h
  exact ⟨_, g⟩
theorem MapW.hm (h : MapW σ mp n cd O) : ∃ fs, σ mp = some (7, gO 13 fs) := by
  obtain ⟨ad, ps, K, Vv, l, r, p, C, rt, es, ks, md, lo, hi, h⟩ := h
  exact ⟨_, h.1.1⟩
theorem MapE.he {it i e : Nat} (h : MapE σ mp n cd O it i e) : ∃ fs, σ e = some (7, gO 18 fs) := by
  obtain ⟨ad, ps, K, Vv, l, r, p, C, rt, es, ks, md, lo, hi, ls, h, g, hi', rfl⟩ := h
  exact ⟨_, h.1.2.1 _ (h.2.1.at hi').1⟩
theorem MapW.inc (h : MapW σ mp n cd O) : ∀ i j, i < j → j < n → cd i < cd j := by
  obtain ⟨ad, ps, K, Vv, l, r, p, C, rt, es, ks, md, lo, hi, h⟩ := h
  exact h.2.2.2.1
theorem MapW.rng (h : MapW σ mp n cd O) {i : Nat} (hi : i < n) : 1 ≤ cd i ∧ cd i ≤ 1024 := by
  obtain ⟨ad, ps, K, Vv, l, r, p, C, rt, es, ks, md, lo, hi9, h⟩ := h
  have h1 := h.2.1.at hi
  have h2 := (h.2.2.1 _ h1.1).2.1
  rw [h1.2] at h2
  exact h2
theorem MapG.W {c : Int} {w : Nat} (h : MapG σ mp n cd O c w) : MapW σ mp n cd O := by
  obtain ⟨ad, ps, K, Vv, l, r, p, C, rt, es, ks, md, lo, hi, h, -⟩ := h
  exact ⟨ad, ps, K, Vv, l, r, p, C, rt, es, ks, md, lo, hi, h⟩
theorem MapG.cell {c : Int} {w : Nat} (h : MapG σ mp n cd O c w) : σ w = some (12, gO 10 [.int (iI (O c))]) := by
  obtain ⟨ad, ps, K, Vv, l, r, p, C, rt, es, ks, md, lo, hi, h, a, ha, hc, hv⟩ := h
  obtain ⟨-, -, v, q3, q4⟩ := h.2.2.1 a ha
  rw [hv] at q3
  cases q3
  rw [hc] at q4
  exact q4
/-- the count of c becomes x -/
theorem MapG.put {c x : Int} {w : Nat} (h : MapG σ mp n cd O c w) : MapW (gup σ w (12, gO 10 [.int (iI x)])) mp n cd (iup O c x) := by
  have hw := h.cell
  obtain ⟨ad, ps, K, Vv, l, r, p, C, rt, es, ks, md, lo, hi, h, a, ha, hc, hv⟩ := h
  obtain ⟨h1, h2, h3, h4, h5, h6⟩ := h
  have hk : gKeep (fun t => t = 12) σ (gup σ w (12, gO 10 [.int (iI x)])) := gKeep.up hw rfl
  refine ⟨ad, ps, K, Vv, l, r, p, C, rt, es, ks, md, lo, hi, h1.keep hk (by decide), h2, fun b hb => ?_, h4, h5, fun z hz => hk _ _ _ (h6 z hz) (by decide)⟩
  obtain ⟨q1, q2, v, q3, q4⟩ := h3 b hb
  refine ⟨hk _ _ _ q1 (by decide), q2, v, q3, ?_⟩
  by_cases e : b = a
  · subst e
    rw [hv] at q3
    cases q3
    rw [gup_s, hc, iup_s]
  · have e1 : v ≠ w := fun q => e (h5 b a hb ha (by rw [q3, hv, q]))
    have e2 : cd (ps b) ≠ c := fun q => by
      rw [← hc] at q
      have hp : ps b = ps a := by
        rcases Nat.lt_trichotomy (ps b) (ps a) with z | z | z
        · have := h4 _ _ z ha.1; omega
        · exact z
        · have := h4 _ _ z hb.1; omega
      exact e (by have e5 := hb.2; have e6 := ha.2; rw [hp] at e5; rw [← e5, e6])
    rw [gup_n e1, iup_n e2]
    exact q4
/-- a fresh count -/
theorem MapW.fresh {w : Nat} {y : Nat × gE} (h : MapW σ mp n cd O) (hw : σ w = none) : MapN (gup σ w y) mp n cd O w := by
  obtain ⟨ad, ps, K, Vv, l, r, p, C, rt, es, ks, md, lo, hi, h⟩ := h
  refine ⟨ad, ps, K, Vv, l, r, p, C, rt, es, ks, md, lo, hi, h.keep (gKeep.new hw : gKeep (fun _ => False) _ _) ⟨id, id, id, id⟩, fun a ha hv => ?_⟩
  obtain ⟨-, -, v, q3, q4⟩ := h.2.2.1 a ha
  rw [hv] at q3
  cases q3
  rw [hw] at q4
  cases q4
theorem MapC.ko {ad ps K : Nat → Nat} {Vv l r p : Nat → Option Nat} {C : Nat → Int} {rt es ks : Option Nat} {md : Int} {lo hi : Nat → Nat} (h : MapC σ mp n cd O ad ps K Vv l r p C rt es ks md lo hi) : kOk n ad (fun a => cd (ps a)) := by
  intro i j h1 h2
  show cd (ps (ad i)) < cd (ps (ad j))
  rw [h.2.1.1 i (by omega), h.2.1.1 j h2]
  exact h.2.2.2.1 i j h1 h2
theorem MapC.kc {ad ps K : Nat → Nat} {Vv l r p : Nat → Option Nat} {C : Nat → Int} {rt es ks : Option Nat} {md : Int} {lo hi : Nat → Nat} (h : MapC σ mp n cd O ad ps K Vv l r p C rt es ks md lo hi) : ∀ a, tIn n ad ps a → σ (K a) = some (8, gO 9 [.int (iI ((fun a => cd (ps a)) a))]) ∧ 0 ≤ (fun a => cd (ps a)) a ∧ (fun a => cd (ps a)) a ≤ 2000 := by
  intro a ha
  obtain ⟨h1, h2, -⟩ := h.2.2.1 a ha
  exact ⟨h1, by show 0 ≤ cd (ps a); omega, by show cd (ps a) ≤ 2000; omega⟩
variable {l : Launch} {X : gX}
theorem mM_init {z : Nat} (hz : σ z = some (7, gO 13 [.null, .null, .null, .null, .int (iI 0), .int (iI 0), .null, .null, .null])) (cd : Nat → Int) (O : Int → Int) : gMet l X yJ4_init cJ4_init 1 none 2 0 0 40 σ [.ref z] (oV (fun σ' => σ' = gup σ z (7, gO 13 [.null, .null, .null, .null, .int (iI 0), .int (iI 0), .null, .null, .null]) ∧ MapW σ' z 0 cd O)) := by
  refine (mJ4_init l X σ z 7 hz).mono (fun v σ' hp => ?_)
  obtain ⟨rfl, rfl⟩ := hp
  exact ⟨rfl, rfl, fun _ => 0, fun _ => 0, fun _ => 0, fun _ => none, fun _ => none, fun _ => none, fun _ => none, fun _ => 0, none, none, none, 0, fun _ => 0, fun _ => 0, ⟨gup_s, fun a ha => absurd ha.1 (Nat.not_lt_zero _), fun a ha => absurd ha.1 (Nat.not_lt_zero _)⟩, tOk.nil, fun a ha => absurd ha.1 (Nat.not_lt_zero _), fun i j _ hj => absurd hj (Nat.not_lt_zero _), fun a b ha => absurd ha.1 (Nat.not_lt_zero _), fun y hy => by cases hy⟩
theorem mM_size (h : MapW σ mp n cd O) : gMet l X yJ4_size cJ4_size 1 (some .int) 0 0 0 0 σ [.ref mp] (oI (fun r σ' => r = (n : Int) ∧ σ = σ')) := by
  obtain ⟨ad, ps, K, Vv, l', r, p, C, rt, es, ks, md, lo, hi, h⟩ := h
  exact mJ4_size l X σ 7 mp n ad ps K Vv l' r p C rt es ks _ md h.1
theorem mM_get (h : MapW σ mp n cd O) {κ : Nat} {c : Int} (hκ : σ κ = some (8, gO 9 [.int (iI c)])) (hc : 1 ≤ c ∧ c ≤ 1024) : gMet l X yJ4_get cJ4_get 3 (some (.object "java/lang/Object")) 4 0 0 87 σ [.ref mp, .ref κ] (oA (fun v σ' => ((∃ w, v = .ref w ∧ inQ n cd c ∧ MapG σ mp n cd O c w) ∨ v = .null ∧ ¬ inQ n cd c) ∧ σ = σ')) := by
  obtain ⟨ad, ps, K, Vv, l', r, p, C, rt, es, ks, md, lo, hi, hC⟩ := h
  refine (mJ4_get l X σ 7 mp n ad ps K Vv l' r p C rt es ks _ md hC.1 lo hi hC.2.1 8 (by decide) (fun a => cd (ps a)) hC.kc hC.ko κ 8 c hκ (by decide) (by omega)).mono (fun v σ' hp => ?_)
  obtain ⟨v1, rfl, hp, rfl⟩ := hp
  refine ⟨v1, rfl, ?_, rfl⟩
  rcases hp with ⟨a, ha, hk, hv⟩ | ⟨hv, hn⟩
  · obtain ⟨-, -, w, q3, q4⟩ := hC.2.2.1 a ha
    exact Or.inl ⟨w, by rw [hv, q3]; rfl, ⟨ps a, ha.1, hk⟩, ad, ps, K, Vv, l', r, p, C, rt, es, ks, md, lo, hi, hC, a, ha, hk, q3⟩
  · refine Or.inr ⟨hv, fun ⟨i, hi, hk⟩ => ?_⟩
    have hat := hC.2.1.at hi
    have := hn _ hat.1
    rw [hat.2] at this
    exact this hk
theorem mM_put {κ w : Nat} {c : Int} (h : MapN σ mp n cd O w) (hn : ¬ inQ n cd c) (hκ : σ κ = some (8, gO 9 [.int (iI c)])) (hc : 1 ≤ c ∧ c ≤ 1024) (hw : σ w = some (12, gO 10 [.int (iI 0)])) : gMet l X yJ4_put cJ4_put 3 (some (.object "java/lang/Object")) 6 1 6 136 σ [.ref mp, .ref κ, .ref w]
    (oA (fun v σ' => v = .null ∧ gKeep (fun t => t = 7) σ σ' ∧ ∃ cd', MapG σ' mp (n + 1) cd' (iup O c 0) c w ∧ ∀ v, inQ (n + 1) cd' v ↔ inQ n cd v ∨ v = c)) := by
  obtain ⟨ad, ps, K, Vv, l', r, p, C, rt, es, ks, md, lo, hi, hC, hN⟩ := h
  refine (mJ4_put_X9 l X σ 7 mp n ad ps K Vv l' r p C rt es ks _ md hC.1 lo hi hC.2.1 8 (by decide) (fun a => cd (ps a)) hC.kc hC.ko κ 8 c hκ (by decide) (by omega) (some w) rfl).mono (fun v σ' hp => ?_)
  obtain ⟨v1, rfl, hp⟩ := hp
  refine ⟨v1, rfl, ?_⟩
  obtain ⟨h1, h2, h3, h4, h5, h6⟩ := hC
  rcases hp with ⟨a, ha, hk, -⟩ | ⟨hv, z, k, l2, r2, p2, C2, rt2, lo2, hi2, hz, hkn, hlo, hhi, hT, hok, kp⟩
  · exact absurd ⟨ps a, ha.1, hk⟩ hn
  · have hlo' : ∀ i, i < k → cd i < c := fun i hi => by
      have := hlo i hi
      rw [h2.1 i (by omega)] at this
      exact this
    have hhi' : ∀ i, k ≤ i → i < n → c < cd i := fun i h8 h9 => by
      have := hhi i h8 h9
      rw [h2.1 i h9] at this
      exact this
    have hne : ∀ b, tIn n ad ps b → b ≠ z := fun b hb q => hz (by rw [← q]; exact hb)
    have hzin : tIn (n + 1) (tAd z k ad) (tPs z k ps) z := (tPs_in h2.1 hz hkn).mpr (Or.inl rfl)
    have hpz : tPs z k ps z = k := if_pos rfl
    have hpo : ∀ b, tIn n ad ps b → insQ k c cd (tPs z k ps b) = cd (ps b) := fun b hb => by
      unfold tPs
      rw [if_neg (hne b hb)]
      by_cases e4 : ps b < k
      · rw [if_pos e4, insQ_lt e4]
      · rw [if_neg e4, insQ_gt (by omega)]; rfl
    refine ⟨hv, kp, insQ k c cd, ⟨tAd z k ad, tPs z k ps, va_up K z κ, va_up Vv z (some w), l2, r2, p2, C2, rt2, es, ks, md + 1, lo2, hi2, ⟨hT, hok, fun b hb => ?_, insQ_inc h4 hlo' hhi' hkn, fun a b ha hb hab => ?_, fun y hy => kp _ _ _ (h6 y hy) (by decide)⟩, z, hzin, by rw [hpz, insQ_eq], va_up_self _ _ _⟩, insQ_in hkn⟩
    · rcases (tPs_in h2.1 hz hkn).mp hb with e2 | hb
      · subst e2
        rw [va_up_self, va_up_self, hpz, insQ_eq, iup_s]
        exact ⟨kp _ _ _ hκ (by decide), hc, w, rfl, kp _ _ _ hw (by decide)⟩
      · rw [va_up_ne _ _ (hne b hb), va_up_ne _ _ (hne b hb), hpo b hb]
        obtain ⟨q1, q2, v, q3, q4⟩ := h3 b hb
        have : cd (ps b) ≠ c := fun q => hn ⟨ps b, hb.1, q⟩
        exact ⟨kp _ _ _ q1 (by decide), q2, v, q3, by rw [iup_n this]; exact kp _ _ _ q4 (by decide)⟩
    · rcases (tPs_in h2.1 hz hkn).mp ha with e2 | ha
      · rcases (tPs_in h2.1 hz hkn).mp hb with e3 | hb
        · rw [e2, e3]
        · rw [e2, va_up_self, va_up_ne _ _ (hne b hb)] at hab
          exact absurd hab.symm (hN b hb)
      · rcases (tPs_in h2.1 hz hkn).mp hb with e3 | hb
        · rw [e3, va_up_self, va_up_ne _ _ (hne a ha)] at hab
          exact absurd hab (hN a ha)
        · rw [va_up_ne _ _ (hne a ha), va_up_ne _ _ (hne b hb)] at hab
          exact h5 a b ha hb hab
/-- the view of the entries -/
def MapS (σ : gS) (mp n : Nat) (cd : Nat → Int) (O : Int → Int) (z : Nat) : Prop := MapW σ mp n cd O ∧ σ z = some (16, gO 19 [.ref mp])
theorem mM_entrySet (h : MapW σ mp n cd O) : gMet l X yJ4_entrySet cJ4_entrySet 2 (some (.object "java/util/Set")) 4 1 1 81 σ [.ref mp] (oA (fun v σ' => ∃ z, v = .ref z ∧ MapS σ' mp n cd O z ∧ gKeep (fun t => t = 7) σ σ')) := by
  obtain ⟨ad, ps, K, Vv, l', r, p, C, rt, es, ks, md, lo, hi, hC⟩ := h
  have hC0 := hC
  obtain ⟨h1, h2, h3, h4, h5, h6⟩ := hC
  refine (mJ4_entrySet l X σ 7 mp n ad ps K Vv l' r p C rt es ks _ md h1 (by decide)).mono (fun v σ' hp => ?_)
  obtain ⟨v1, rfl, z, rfl, hp⟩ := hp
  refine ⟨_, rfl, z, rfl, ?_⟩
  rcases hp with ⟨he, rfl⟩ | ⟨he, hz, hT, hcz, kp⟩
  · exact ⟨⟨⟨ad, ps, K, Vv, l', r, p, C, rt, es, ks, md, lo, hi, hC0⟩, h6 z he⟩, gKeep.rf⟩
  · refine ⟨⟨⟨ad, ps, K, Vv, l', r, p, C, rt, some z, ks, md, lo, hi, hT, h2, fun a ha => ?_, h4, h5, fun y hy => by cases hy; exact hcz⟩, hcz⟩, kp⟩
    obtain ⟨q1, q2, v, q3, q4⟩ := h3 a ha
    exact ⟨kp _ _ _ q1 (by decide), q2, v, q3, kp _ _ _ q4 (by decide)⟩
theorem mM_iterator {z : Nat} (h : MapS σ mp n cd O z) : gMet l X yJ26_iterator cJ26_iterator 1 (some (.object "java/util/Iterator")) 3 1 4 64 σ [.ref z] (oA (fun v σ' => ∃ it, v = .ref it ∧ MapI σ' mp n cd O it 0 ∧ gKeep (fun t => t = 15) σ σ')) := by
  obtain ⟨⟨ad, ps, K, Vv, l', r, p, C, rt, es, ks, md, lo, hi, hC⟩, hz⟩ := h
  refine (mJ26_iterator l X σ 7 mp n ad ps K Vv l' r p C rt es ks _ md hC.1 lo hi hC.2.1 (by decide) z 16 hz).mono (fun v σ' hp => ?_)
  obtain ⟨v1, rfl, it, rfl, hit, rfl⟩ := hp
  exact ⟨_, rfl, it, rfl, ⟨ad, ps, K, Vv, l', r, p, C, rt, es, ks, md, lo, hi, none, hC.keep (gKeep.new hit : gKeep (fun _ => False) _ _) ⟨id, id, id, id⟩, gup_s⟩, gKeep.new hit⟩
theorem mM_hasNext {it i : Nat} (h : MapI σ mp n cd O it i) : gMet l X yJ27_hasNext cJ27_hasNext 1 (some .boolean) 0 0 0 0 σ [.ref it] (oI (fun r σ' => (r = 1 ∧ i < n ∨ r = 0 ∧ ¬ i < n) ∧ σ = σ')) := by
  obtain ⟨ad, ps, K, Vv, l', r, p, C, rt, es, ks, md, lo, hi, ls, hC, hit⟩ := h
  refine (mJ27_hasNext_e l X σ it 15 mp md _ ls hit).mono (fun v σ' hp => ?_)
  obtain ⟨r1, rfl, hp, rfl⟩ := hp
  refine ⟨r1, rfl, ?_, rfl⟩
  rcases hp with ⟨e, z, hz⟩ | ⟨e, hz⟩
  · split at hz
    · exact Or.inl ⟨e, by assumption⟩
    · cases hz
  · split at hz
    · cases hz
    · exact Or.inr ⟨e, by assumption⟩
theorem mM_next {it i : Nat} (h : MapI σ mp n cd O it i) (hi : i < n) : gMet l X yJ28_next cJ28_next 1 (some (.object "java/lang/Object")) 3 0 0 63 σ [.ref it] (oA (fun v σ' => ∃ e, v = .ref e ∧ MapE σ' mp n cd O it i e ∧ gKeep (fun t => t = 15) σ σ')) := by
  obtain ⟨ad, ps, K, Vv, l', r, p, C, rt, es, ks, md, lo, hi9, ls, hC, hit⟩ := h
  have hat := hC.2.1.at hi
  rw [if_pos hi] at hit
  refine (mJ28_next l X σ 7 mp n ad ps K Vv l' r p C rt es ks _ md hC.1 lo hi9 hC.2.1 (ad i) hat.1 it 15 ls hit).mono (fun v σ' hp => ?_)
  obtain ⟨v1, rfl, rfl, rfl⟩ := hp
  have hk : gKeep (fun t => t = 15) σ (gup σ it (15, gO 20 [va_rf (if ps (ad i) + 1 < n then some (ad (ps (ad i) + 1)) else none), .ref (ad i), .int (iI md), .ref mp])) := gKeep.up hit rfl
  refine ⟨_, rfl, _, rfl, ⟨ad, ps, K, Vv, l', r, p, C, rt, es, ks, md, lo, hi9, some (ad i), hC.keep hk ⟨by decide, by decide, by decide, by decide⟩, ?_, hi, rfl⟩, hk⟩
  rw [gup_s, hat.2]
  rfl
theorem mM_getKey {it i e : Nat} (h : MapE σ mp n cd O it i e) : gMet l X yJ25_getKey cJ25_getKey 1 (some (.object "java/lang/Object")) 0 0 0 0 σ [.ref e] (oA (fun v σ' => (∃ κ, v = .ref κ ∧ σ κ = some (8, gO 9 [.int (iI (cd i))])) ∧ σ = σ')) := by
  obtain ⟨ad, ps, K, Vv, l', r, p, C, rt, es, ks, md, lo, hi, ls, hC, -, hi', rfl⟩ := h
  have hat := hC.2.1.at hi'
  refine (mJ25_getKey l X σ 7 mp n ad ps K Vv l' r p C rt es ks _ md hC.1 (ad i) hat.1).mono (fun v σ' hp => ?_)
  obtain ⟨v1, rfl, rfl, rfl⟩ := hp
  have := (hC.2.2.1 _ hat.1).1
  rw [hat.2] at this
  exact ⟨_, rfl, ⟨_, rfl, this⟩, rfl⟩
theorem mM_getValue {it i e : Nat} (h : MapE σ mp n cd O it i e) : gMet l X yJ25_getValue cJ25_getValue 1 (some (.object "java/lang/Object")) 0 0 0 0 σ [.ref e] (oA (fun v σ' => (∃ w, v = .ref w ∧ σ w = some (12, gO 10 [.int (iI (O (cd i)))])) ∧ σ = σ')) := by
  obtain ⟨ad, ps, K, Vv, l', r, p, C, rt, es, ks, md, lo, hi, ls, hC, -, hi', rfl⟩ := h
  have hat := hC.2.1.at hi'
  refine (mJ25_getValue l X σ 7 mp n ad ps K Vv l' r p C rt es ks _ md hC.1 (ad i) hat.1).mono (fun v σ' hp => ?_)
  obtain ⟨v1, rfl, hv, rfl⟩ := hp
  obtain ⟨-, -, w, q3, q4⟩ := hC.2.2.1 _ hat.1
  rw [hat.2] at q4
  exact ⟨_, rfl, ⟨w, by rw [hv, q3]; rfl, q4⟩, rfl⟩
end MW
