/-! the set as a rising row of codes -/
set_option maxRecDepth 100000
theorem gMet.mono {l : Launch} {X : gX} {y : MethodName} {cc : ByteArray} {L : Nat} {ret : Option FieldType} {fr mc ms lo : Nat} {σ : gS} {av : List Value} {post post' : Option Value → gS → Prop} (h : gMet l X y cc L ret fr mc ms lo σ av post) (hp : ∀ v σ', post v σ' → post' v σ') : gMet l X y cc L ret fr mc ms lo σ av post' := by
  intro p e ha hc hk s m args below h1 h2 h3 h4
  obtain ⟨n, o, a1, a2, a3, ⟨⟨⟨v, σ', b1, b2, b3⟩, b4⟩, a5⟩⟩ := h p e ha hc hk s m args below h1 h2 h3 h4
  exact ⟨n, o, a1, a2, a3, ⟨⟨⟨v, σ', b1, hp v σ' b2, b3⟩, b4⟩, a5⟩⟩
def SetC (X : gX) (σ : gS) (tg sa n : Nat) (cd : Nat → Int) (mp : Nat) (ad ps K : Nat → Nat) (Vv l r p : Nat → Option Nat) (C : Nat → Int) (rt es ks : Option Nat) (md : Int) (lo hi : Nat → Nat) (pr : Nat) : Prop :=
  (tg = 2 ∨ tg = 3 ∨ tg = 6) ∧ σ sa = some (17, gO 12 [.ref mp]) ∧ TH σ tg mp (tIn n ad ps) K Vv l r p C rt es ks (n : Int) md ∧ tOk n ad ps l r p lo hi rt ∧
  (∀ a, tIn n ad ps a → σ (K a) = some (5, gO 11 [.int (iI (cd (ps a)))]) ∧ (0 ≤ cd (ps a) ∧ cd (ps a) ≤ 1023) ∧ Vv a = some pr) ∧ (∀ i j, i < j → j < n → cd i < cd j) ∧ PR X pr ∧ ∀ z, ks = some z → σ z = some (16, gO 22 [.ref mp])
def SetW (X : gX) (σ : gS) (tg sa n : Nat) (cd : Nat → Int) : Prop := ∃ mp ad ps K Vv l r p C rt es ks md lo hi pr, SetC X σ tg sa n cd mp ad ps K Vv l r p C rt es ks md lo hi pr
/-- .. and an iterator over it, at place i -/
def SetI (X : gX) (σ : gS) (tg sa n : Nat) (cd : Nat → Int) (it i : Nat) : Prop := ∃ mp ad ps K Vv l r p C rt es ks md lo hi pr ls, SetC X σ tg sa n cd mp ad ps K Vv l r p C rt es ks md lo hi pr ∧ σ it = some (15, gO 21 [va_rf (if i < n then some (ad i) else none), va_rf ls, .int (iI md), .ref mp])
section SW
variable {X : gX} {σ σ' : gS} {tg sa n : Nat} {cd : Nat → Int}
/-- writers that leave the sets' lasting cells alone -/
def stb (tg' : Nat → Prop) : Prop := ¬ tg' 5 ∧ ¬ tg' 15 ∧ ¬ tg' 16 ∧ ¬ tg' 17
theorem SetC.keep {mp : Nat} {ad ps K : Nat → Nat} {Vv l r p : Nat → Option Nat} {C : Nat → Int} {rt es ks : Option Nat} {md : Int} {lo hi : Nat → Nat} {pr : Nat} {tg' : Nat → Prop} (h : SetC X σ tg sa n cd mp ad ps K Vv l r p C rt es ks md lo hi pr) (hk : gKeep tg' σ σ') (h1 : ¬ tg' tg) (h5 : ¬ tg' 5) (h6 : ¬ tg' 16) (h7 : ¬ tg' 17) : SetC X σ' tg sa n cd mp ad ps K Vv l r p C rt es ks md lo hi pr := by
  obtain ⟨a0, a1, a2, a3, a4, a5, a6, a7⟩ := h
  exact ⟨a0, hk _ _ _ a1 h7, a2.keep hk h1, a3, fun a ha => ⟨hk _ _ _ (a4 a ha).1 h5, (a4 a ha).2⟩, a5, a6, fun z hz => hk _ _ _ (a7 z hz) h6⟩
theorem SetW.keep {tg' : Nat → Prop} (h : SetW X σ tg sa n cd) (hk : gKeep tg' σ σ') (h1 : ¬ tg' tg) (h5 : ¬ tg' 5) (h6 : ¬ tg' 16) (h7 : ¬ tg' 17) : SetW X σ' tg sa n cd := by
  obtain ⟨mp, ad, ps, K, Vv, l, r, p, C, rt, es, ks, md, lo, hi, pr, h⟩ := h
  exact ⟨mp, ad, ps, K, Vv, l, r, p, C, rt, es, ks, md, lo, hi, pr, h.keep hk h1 h5 h6 h7⟩
theorem SetI.keep {it i : Nat} {tg' : Nat → Prop} (h : SetI X σ tg sa n cd it i) (hk : gKeep tg' σ σ') (h1 : ¬ tg' tg) (hs : stb tg') : SetI X σ' tg sa n cd it i := by
  obtain ⟨mp, ad, ps, K, Vv, l, r, p, C, rt, es, ks, md, lo, hi, pr, ls, h, g⟩ := h
  exact ⟨mp, ad, ps, K, Vv, l, r, p, C, rt, es, ks, md, lo, hi, pr, ls, h.keep hk h1 hs.1 hs.2.2.1 hs.2.2.2, hk _ _ _ g hs.2.1⟩
theorem SetI.W {it i : Nat} (h : SetI X σ tg sa n cd it i) : SetW X σ tg sa n cd := by
  obtain ⟨mp, ad, ps, K, Vv, l, r, p, C, rt, es, ks, md, lo, hi, pr, ls, h, g⟩ := h
  exact ⟨mp, ad, ps, K, Vv, l, r, p, C, rt, es, ks, md, lo, hi, pr, h⟩
theorem SetW.htg (h : SetW X σ tg sa n cd) : tg = 2 ∨ tg = 3 ∨ tg = 6 := by
  obtain ⟨mp, ad, ps, K, Vv, l, r, p, C, rt, es, ks, md, lo, hi, pr, h⟩ := h
  exact h.1
theorem SetW.hsa (h : SetW X σ tg sa n cd) : ∃ mp, σ sa = some (17, gO 12 [.ref mp]) := by
  obtain ⟨mp, ad, ps, K, Vv, l, r, p, C, rt, es, ks, md, lo, hi, pr, h⟩ := h
  exact ⟨mp, h.2.1⟩
theorem SetI.it {it i : Nat} (h : SetI X σ tg sa n cd it i) : ∃ fs, σ it = some (15, gO 21 fs) := by
  obtain ⟨mp, ad, ps, K, Vv, l, r, p, C, rt, es, ks, md, lo, hi, pr, ls, h, g⟩ := h
  exact ⟨_, g⟩
theorem SetW.inc (h : SetW X σ tg sa n cd) : ∀ i j, i < j → j < n → cd i < cd j := by
  obtain ⟨mp, ad, ps, K, Vv, l, r, p, C, rt, es, ks, md, lo, hi, pr, h⟩ := h
  exact h.2.2.2.2.2.1
theorem SetW.rng (h : SetW X σ tg sa n cd) {i : Nat} (hi : i < n) : 0 ≤ cd i ∧ cd i ≤ 1023 := by
  obtain ⟨mp, ad, ps, K, Vv, l, r, p, C, rt, es, ks, md, lo, hi9, pr, h⟩ := h
  have h1 := h.2.2.2.1.at hi
  have h2 := (h.2.2.2.2.1 _ h1.1).2.1
  rw [h1.2] at h2
  exact h2
theorem SetC.ko {mp : Nat} {ad ps K : Nat → Nat} {Vv l r p : Nat → Option Nat} {C : Nat → Int} {rt es ks : Option Nat} {md : Int} {lo hi : Nat → Nat} {pr : Nat} (h : SetC X σ tg sa n cd mp ad ps K Vv l r p C rt es ks md lo hi pr) : kOk n ad (fun a => cd (ps a)) := by
  intro i j h1 h2
  show cd (ps (ad i)) < cd (ps (ad j))
  rw [h.2.2.2.1.1 i (by omega), h.2.2.2.1.1 j h2]
  exact h.2.2.2.2.2.1 i j h1 h2
theorem SetC.kc {mp : Nat} {ad ps K : Nat → Nat} {Vv l r p : Nat → Option Nat} {C : Nat → Int} {rt es ks : Option Nat} {md : Int} {lo hi : Nat → Nat} {pr : Nat} (h : SetC X σ tg sa n cd mp ad ps K Vv l r p C rt es ks md lo hi pr) : ∀ a, tIn n ad ps a → σ (K a) = some (5, gO 11 [.int (iI ((fun a => cd (ps a)) a))]) ∧ 0 ≤ (fun a => cd (ps a)) a ∧ (fun a => cd (ps a)) a ≤ 2000 := by
  intro a ha
  obtain ⟨h1, h2, -⟩ := h.2.2.2.2.1 a ha
  exact ⟨h1, h2.1, by show cd (ps a) ≤ 2000; omega⟩
/-- a code more, at place k -/
def insQ (k : Nat) (x : Int) (cd : Nat → Int) : Nat → Int := fun i => if i < k then cd i else if i = k then x else cd (i - 1)
/-- the code at place k less -/
def delQ (k : Nat) (cd : Nat → Int) : Nat → Int := fun i => if i < k then cd i else cd (i + 1)
theorem insQ_lt {k i : Nat} {x : Int} (h : i < k) : insQ k x cd i = cd i := if_pos h
theorem insQ_eq {k : Nat} {x : Int} : insQ k x cd k = x := by unfold insQ; rw [if_neg (by omega), if_pos rfl]
theorem insQ_gt {k i : Nat} {x : Int} (h : k < i) : insQ k x cd i = cd (i - 1) := by unfold insQ; rw [if_neg (by omega), if_neg (by omega)]
theorem insQ_inc {k : Nat} {x : Int} (h : ∀ i j, i < j → j < n → cd i < cd j) (h1 : ∀ i, i < k → cd i < x) (h2 : ∀ i, k ≤ i → i < n → x < cd i) (hk : k ≤ n) : ∀ i j, i < j → j < n + 1 → insQ k x cd i < insQ k x cd j := by
  intro i j hij hj
  rcases Nat.lt_trichotomy j k with e | e | e
  · rw [insQ_lt e, insQ_lt (by omega)]; exact h i j hij (by omega)
  · rw [e, insQ_eq, insQ_lt (by omega)]; exact h1 i (by omega)
  · rw [insQ_gt e]
    rcases Nat.lt_trichotomy i k with e2 | e2 | e2
    · rw [insQ_lt e2]
      by_cases e3 : i = j - 1
      · omega
      · exact h i (j - 1) (by omega) (by omega)
    · rw [e2, insQ_eq]; exact h2 (j - 1) (by omega) (by omega)
    · rw [insQ_gt e2]; exact h (i - 1) (j - 1) (by omega) (by omega)
theorem delQ_inc {k : Nat} (h : ∀ i j, i < j → j < n → cd i < cd j) : ∀ i j, i < j → j < n - 1 → delQ k cd i < delQ k cd j := by
  intro i j hij hj
  unfold delQ
  split <;> split
  · exact h i j hij (by omega)
  · exact h i (j + 1) (by omega) (by omega)
  · omega
  · exact h (i + 1) (j + 1) (by omega) (by omega)
variable {l : Launch}
theorem mS_size (h : SetW X σ tg sa n cd) : gMet l X yJ2_size cJ2_size 1 (some .int) 1 0 0 20 σ [.ref sa] (oI (fun r σ' => r = (n : Int) ∧ σ = σ')) := by
  obtain ⟨mp, ad, ps, K, Vv, l', r, p, C, rt, es, ks, md, lo, hi, pr, h0, h1, h2, h3, h4, h5, h6, h7⟩ := h
  exact mJ2_size l X σ tg mp n ad ps K Vv l' r p C rt es ks _ md h2 sa _ h1
theorem mS_contains (h : SetW X σ tg sa n cd) {κ : Nat} {c9 : Int} (hκ : σ κ = some (5, gO 11 [.int (iI c9)])) (hc : 0 ≤ c9 ∧ c9 ≤ 1023) : gMet l X yJ2_contains cJ2_contains 2 (some .boolean) 5 0 0 108 σ [.ref sa, .ref κ] (oI (fun r σ' => (r = 1 ∧ (∃ i, i < n ∧ cd i = c9) ∨ r = 0 ∧ ∀ i, i < n → cd i ≠ c9) ∧ σ = σ')) := by
  obtain ⟨mp, ad, ps, K, Vv, l', r, p, C, rt, es, ks, md, lo, hi, pr, hC⟩ := h
  have hkc := hC.kc
  have hko := hC.ko
  obtain ⟨h0, h1, h2, h3, h4, h5, h6, h7⟩ := hC
  refine (mJ2_contains l X σ tg mp n ad ps K Vv l' r p C rt es ks _ md h2 lo hi h3 5 (by omega) (fun a => cd (ps a)) hkc hko κ 5 c9 hκ (by omega) (by omega) sa _ h1).mono (fun v σ' hp => ?_)
  obtain ⟨r1, rfl, hp, rfl⟩ := hp
  refine ⟨r1, rfl, ?_, rfl⟩
  rcases hp with ⟨e, a, ha, hk⟩ | ⟨e, hn⟩
  · exact Or.inl ⟨e, ps a, ha.1, hk⟩
  · refine Or.inr ⟨e, fun i hi hk => ?_⟩
    have := hn _ (h3.at hi).1
    rw [(h3.at hi).2] at this
    exact this hk
theorem mS_add (h : SetW X σ tg sa n cd) {κ : Nat} {c9 : Int} (hκ : σ κ = some (5, gO 11 [.int (iI c9)])) (hc : 0 ≤ c9 ∧ c9 ≤ 1023) : gMet l X yJ2_add cJ2_add 2 (some .boolean) 7 1 6 158 σ [.ref sa, .ref κ]
    (oI (fun r σ' => gKeep (fun t => t = tg) σ σ' ∧ ((r = 0 ∧ (∃ i, i < n ∧ cd i = c9) ∧ SetW X σ' tg sa n cd) ∨ (r = 1 ∧ ∃ k, k ≤ n ∧ (∀ i, i < k → cd i < c9) ∧ (∀ i, k ≤ i → i < n → c9 < cd i) ∧ SetW X σ' tg sa (n + 1) (insQ k c9 cd))))) := by
  obtain ⟨mp, ad, ps, K, Vv, l', r, p, C, rt, es, ks, md, lo, hi, pr, hC⟩ := h
  have hkc := hC.kc
  have hko := hC.ko
  obtain ⟨h0, h1, h2, h3, h4, h5, h6, h7⟩ := hC
  refine (mJ2_add l X σ tg mp n ad ps K Vv l' r p C rt es ks _ md h2 lo hi h3 5 (by omega) (fun a => cd (ps a)) hkc hko κ 5 c9 hκ (by omega) (by omega) sa _ pr h1 h6 (fun a ha => (h4 a ha).2.2) rfl).mono (fun v σ' hp => ?_)
  obtain ⟨r1, rfl, hp⟩ := hp
  refine ⟨r1, rfl, ?_⟩
  have t5 : ¬ (5 : Nat) = tg := by omega
  have t16 : ¬ (16 : Nat) = tg := by omega
  rcases hp with ⟨e, a, ha, hk, hT, kp⟩ | ⟨e, z, k, l2, r2, p2, C2, rt2, lo2, hi2, hz, hkn, hlo, hhi, hT, hok, kp⟩
  · have hT1 := hT.1
    have hV : va_up Vv a (some pr) = Vv := by
      funext b
      by_cases e2 : b = a
      · rw [e2, va_up_self]; exact ((h4 a ha).2.2).symm
      · rw [va_up_ne _ _ e2]
    rw [hV] at hT
    exact ⟨kp, Or.inl ⟨e, ⟨ps a, ha.1, hk⟩, mp, ad, ps, K, Vv, l', r, p, C, rt, es, ks, md, lo, hi, pr, h0, kp _ _ _ h1 (by omega), hT, h3, fun b hb => ⟨kp _ _ _ (h4 b hb).1 t5, (h4 b hb).2⟩, h5, h6, fun y hy => kp _ _ _ (h7 y hy) t16⟩⟩
  · refine ⟨kp, Or.inr ⟨e, k, hkn, fun i hi => ?_, fun i h8 h9 => ?_, mp, tAd z k ad, tPs z k ps, va_up K z κ, va_up Vv z (some pr), l2, r2, p2, C2, rt2, es, ks, md + 1, lo2, hi2, pr, h0, kp _ _ _ h1 (by omega), hT, hok, fun b hb => ?_, ?_, h6, fun y hy => kp _ _ _ (h7 y hy) t16⟩⟩
    · have := hlo i hi
      rw [h3.1 i (by omega)] at this
      exact this
    · have := hhi i h8 h9
      rw [h3.1 i h9] at this
      exact this
    · rcases (tPs_in h3.1 hz hkn).mp hb with e2 | hb
      · subst e2
        rw [va_up_self, va_up_self, show tPs b k ps b = k from if_pos rfl, insQ_eq]
        exact ⟨kp _ _ _ hκ t5, hc, rfl⟩
      · have e2 : b ≠ z := fun q => hz (by rw [← q]; exact hb)
        have e3 : insQ k c9 cd (tPs z k ps b) = cd (ps b) := by
          unfold tPs
          rw [if_neg e2]
          by_cases e4 : ps b < k
          · rw [if_pos e4, insQ_lt e4]
          · rw [if_neg e4, insQ_gt (by omega)]; rfl
        rw [va_up_ne _ _ e2, va_up_ne _ _ e2, e3]
        exact ⟨kp _ _ _ (h4 b hb).1 t5, (h4 b hb).2⟩
    · refine insQ_inc h5 (fun i hi => ?_) (fun i h8 h9 => ?_) hkn
      · have := hlo i hi
        rw [h3.1 i (by omega)] at this
        exact this
      · have := hhi i h8 h9
        rw [h3.1 i h9] at this
        exact this
theorem mS_remove (h : SetW X σ tg sa n cd) {κ : Nat} {c9 : Int} (hκ : σ κ = some (5, gO 11 [.int (iI c9)])) (hc : 0 ≤ c9 ∧ c9 ≤ 1023) : gMet l X yJ2_remove cJ2_remove 2 (some .boolean) 5 0 0 110 σ [.ref sa, .ref κ]
    (oI (fun r σ' => gKeep (fun t => t = tg) σ σ' ∧ ((r = 0 ∧ (∀ i, i < n → cd i ≠ c9) ∧ SetW X σ' tg sa n cd) ∨ (r = 1 ∧ ∃ k, k < n ∧ cd k = c9 ∧ SetW X σ' tg sa (n - 1) (delQ k cd))))) := by
  obtain ⟨mp, ad, ps, K, Vv, l', r, p, C, rt, es, ks, md, lo, hi, pr, hC⟩ := h
  have hkc := hC.kc
  have hko := hC.ko
  obtain ⟨h0, h1, h2, h3, h4, h5, h6, h7⟩ := hC
  refine (mJ2_remove l X σ tg mp n ad ps K Vv l' r p C rt es ks _ md h2 lo hi h3 5 (by omega) (fun a => cd (ps a)) hkc hko κ 5 c9 hκ (by omega) (by omega) sa _ pr h1 h6 (fun a ha => (h4 a ha).2.2)).mono (fun v σ' hp => ?_)
  obtain ⟨r1, rfl, hp⟩ := hp
  refine ⟨r1, rfl, ?_⟩
  have t5 : ¬ (5 : Nat) = tg := by omega
  have t16 : ¬ (16 : Nat) = tg := by omega
  rcases hp with ⟨e, a, ha, hk, ad2, ps2, K2, V2, l2, r2, p2, C2, rt2, lo2, hi2, hT, hok, kp, hkv⟩ | ⟨e, hn, rfl⟩
  · have hn1 := ha.1
    rw [show (n : Int) - 1 = ((n - 1 : Nat) : Int) by omega] at hT
    refine ⟨kp, Or.inr ⟨e, ps a, ha.1, hk, mp, ad2, ps2, K2, V2, l2, r2, p2, C2, rt2, es, ks, md + 1, lo2, hi2, pr, h0, kp _ _ _ h1 (by omega), hT, hok, fun b hb => ?_, delQ_inc h5, h6, fun y hy => kp _ _ _ (h7 y hy) t16⟩⟩
    obtain ⟨q1, q2⟩ := hkv (ps2 b) hb.1
    rw [hb.2] at q1 q2
    have q3 : tIn n ad ps (tAx (ps a) ad (ps2 b)) ∧ cd (ps (tAx (ps a) ad (ps2 b))) = delQ (ps a) cd (ps2 b) := by
      have := hb.1
      unfold tAx delQ
      split
      · have q := h3.at (i := ps2 b) (by omega)
        exact ⟨q.1, by rw [q.2]⟩
      · have q := h3.at (i := ps2 b + 1) (by omega)
        exact ⟨q.1, by rw [q.2]⟩
    rw [q1, q2, ← q3.2]
    exact ⟨kp _ _ _ (h4 _ q3.1).1 t5, (h4 _ q3.1).2⟩
  · refine ⟨gKeep.rf, Or.inl ⟨e, fun i hi hk => ?_, mp, ad, ps, K, Vv, l', r, p, C, rt, es, ks, md, lo, hi, pr, h0, h1, h2, h3, h4, h5, h6, h7⟩⟩
    have := hn _ (h3.at hi).1
    rw [(h3.at hi).2] at this
    exact this hk
theorem mS_clear (h : SetW X σ tg sa n cd) (cd' : Nat → Int) : gMet l X yJ2_clear cJ2_clear 1 none 1 0 0 20 σ [.ref sa] (oV (fun σ' => gKeep (fun t => t = tg) σ σ' ∧ SetW X σ' tg sa 0 cd')) := by
  obtain ⟨mp, ad, ps, K, Vv, l', r, p, C, rt, es, ks, md, lo, hi, pr, h0, h1, h2, h3, h4, h5, h6, h7⟩ := h
  refine (mJ2_clear l X σ tg mp n ad ps K Vv l' r p C rt es ks _ md h2 sa _ h1).mono (fun v σ' hp => ?_)
  obtain ⟨rfl, hT, kp⟩ := hp
  refine ⟨rfl, kp, mp, ad, ps, K, Vv, l', r, p, C, none, es, ks, md + 1, lo, hi, pr, h0, kp _ _ _ h1 (by omega), hT.sub (fun a ha => absurd ha.1 (Nat.not_lt_zero _)), tOk.nil, fun a ha => absurd ha.1 (Nat.not_lt_zero _), fun i j _ hj => absurd hj (Nat.not_lt_zero _), h6, fun y hy => kp _ _ _ (h7 y hy) (by omega)⟩
theorem mS_init {z : Nat} (hz : σ z = some (17, gO 12 [.null])) (htg : tg = 2 ∨ tg = 3 ∨ tg = 6) (cd : Nat → Int) : gMet l X yJ2_init cJ2_init 1 none 4 1 9 81 σ [.ref z] (oV (fun σ' => gKeep (fun t => t = 17) σ σ' ∧ SetW X σ' tg z 0 cd ∧ ∃ mp, σ mp = none ∧ σ' = gup (gup σ mp (tg, gO 13 (tmF none none none 0 0))) z (17, gO 12 [.ref mp]))) := by
  refine (mJ2_init l X σ tg z hz).mono (fun v σ' hp => ?_)
  obtain ⟨rfl, mp, hmp, ⟨pr, hpr⟩, rfl⟩ := hp
  have hzm : z ≠ mp := fun e => by rw [e, hmp] at hz; cases hz
  have hk1 : gKeep (fun t => t = 17) σ (gup σ mp (tg, gO 13 (tmF none none none 0 0))) := gKeep.new hmp
  refine ⟨rfl, hk1.tr (gKeep.up (by rw [gup_n hzm]; exact hz) rfl), ⟨mp, fun _ => 0, fun _ => 0, fun _ => 0, fun _ => none, fun _ => none, fun _ => none, fun _ => none, fun _ => 0, none, none, none, 0, fun _ => 0, fun _ => 0, pr, htg, gup_s, ⟨?_, fun a ha => absurd ha.1 (Nat.not_lt_zero _), fun a ha => absurd ha.1 (Nat.not_lt_zero _)⟩, tOk.nil, fun a ha => absurd ha.1 (Nat.not_lt_zero _), fun i j _ hj => absurd hj (Nat.not_lt_zero _), hpr, fun y hy => by cases hy⟩, mp, hmp, rfl⟩
  rw [gup_n hzm.symm, gup_s]
  rfl
theorem mS_iterator (h : SetW X σ tg sa n cd) : gMet l X yJ2_iterator cJ2_iterator 1 (some (.object "java/util/Iterator")) 5 2 5 104 σ [.ref sa] (oA (fun v σ' => ∃ it, v = .ref it ∧ SetI X σ' tg sa n cd it 0 ∧ gKeep (fun t => t = tg) σ σ')) := by
  obtain ⟨mp, ad, ps, K, Vv, l', r, p, C, rt, es, ks, md, lo, hi, pr, hC⟩ := h
  have hC0 := hC
  obtain ⟨h0, h1, h2, h3, h4, h5, h6, h7⟩ := hC0
  refine (mJ2_iterator l X σ tg mp n ad ps K Vv l' r p C rt es ks _ md h2 lo hi h3 (by omega) (by omega) sa _ h1 h7).mono (fun v σ' hp => ?_)
  obtain ⟨v1, rfl, it, rfl, hp⟩ := hp
  rcases hp with ⟨hit, zk, hzk, rfl⟩ | ⟨hks, zk, hzk, σ1, hT, hcz, kp, hit, rfl⟩
  · exact ⟨_, rfl, it, rfl, ⟨mp, ad, ps, K, Vv, l', r, p, C, rt, es, ks, md, lo, hi, pr, none, hC.keep (tg' := fun _ => False) (gKeep.new hit) (fun h => h) (fun h => h) (fun h => h) (fun h => h), gup_s⟩, gKeep.new hit⟩
  · have hC1 : SetC X σ1 tg sa n cd mp ad ps K Vv l' r p C rt es (some zk) md lo hi pr := ⟨h0, kp _ _ _ h1 (by omega), hT, h3, fun a ha => ⟨kp _ _ _ (h4 a ha).1 (by omega), (h4 a ha).2⟩, h5, h6, fun y hy => by cases hy; exact hcz⟩
    exact ⟨_, rfl, it, rfl, ⟨mp, ad, ps, K, Vv, l', r, p, C, rt, es, some zk, md, lo, hi, pr, none, hC1.keep (tg' := fun _ => False) (gKeep.new hit) (fun h => h) (fun h => h) (fun h => h) (fun h => h), gup_s⟩, kp.tr (gKeep.new hit)⟩
theorem mS_hasNext {it i : Nat} (h : SetI X σ tg sa n cd it i) : gMet l X yJ27_hasNext cJ27_hasNext 1 (some .boolean) 0 0 0 0 σ [.ref it] (oI (fun r σ' => (r = 1 ∧ i < n ∨ r = 0 ∧ ¬ i < n) ∧ σ = σ')) := by
  obtain ⟨mp, ad, ps, K, Vv, l', r, p, C, rt, es, ks, md, lo, hi, pr, ls, hC, hit⟩ := h
  refine (mJ27_hasNext_k l X σ it 15 mp md _ ls hit).mono (fun v σ' hp => ?_)
  obtain ⟨r1, rfl, hp, rfl⟩ := hp
  refine ⟨r1, rfl, ?_, rfl⟩
  rcases hp with ⟨e, z, hz⟩ | ⟨e, hz⟩
  · split at hz
    · exact Or.inl ⟨e, by assumption⟩
    · cases hz
  · split at hz
    · cases hz
    · exact Or.inr ⟨e, by assumption⟩
theorem mS_next {it i : Nat} (h : SetI X σ tg sa n cd it i) (hi : i < n) : gMet l X yJ29_next cJ29_next 1 (some (.object "java/lang/Object")) 2 0 0 43 σ [.ref it] (oA (fun v σ' => ∃ κ, v = .ref κ ∧ σ' κ = some (5, gO 11 [.int (iI (cd i))]) ∧ SetI X σ' tg sa n cd it (i + 1) ∧ gKeep (fun t => t = 15) σ σ')) := by
  obtain ⟨mp, ad, ps, K, Vv, l', r, p, C, rt, es, ks, md, lo, hi9, pr, ls, hC, hit⟩ := h
  have h3 := hC.2.2.2.1
  have hat := h3.at hi
  rw [if_pos hi] at hit
  have h0 := hC.1
  refine (mJ29_next l X σ tg mp n ad ps K Vv l' r p C rt es ks _ md hC.2.2.1 lo hi9 h3 (ad i) hat.1 it 15 ls hit (by omega)).mono (fun v σ' hp => ?_)
  obtain ⟨v1, rfl, rfl, rfl⟩ := hp
  have hk : gKeep (fun t => t = 15) σ (gup σ it (15, gO 21 [va_rf (if ps (ad i) + 1 < n then some (ad (ps (ad i) + 1)) else none), .ref (ad i), .int (iI md), .ref mp])) := gKeep.up hit rfl
  have hC' := hC.keep hk (by omega) (by omega) (by omega) (by omega)
  have hK := (hC'.2.2.2.2.1 _ hat.1).1
  refine ⟨_, rfl, _, rfl, by rw [hK, hat.2], ⟨mp, ad, ps, K, Vv, l', r, p, C, rt, es, ks, md, lo, hi9, pr, some (ad i), hC', ?_⟩, hk⟩
  rw [gup_s, hat.2]
  rfl
end SW
