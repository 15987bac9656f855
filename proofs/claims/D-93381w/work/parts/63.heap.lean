/-! heaps: the pure law of a priority queue -/
set_option maxRecDepth 100000
/-- a is ahead of b: fuller, or as full and lesser -/
def aH (S : Int → Int) (a b : Int) : Prop := S b < S a ∨ (S a = S b ∧ a < b)
theorem aH.asym {S : Int → Int} {a b : Int} (h : aH S a b) : ¬ aH S b a := by unfold aH at *; omega
theorem aH.tr {S : Int → Int} {a b c : Int} (h : aH S a b) (h2 : aH S b c) : aH S a c := by unfold aH at *; omega
theorem aH.nt {S : Int → Int} {a b c : Int} (h : ¬ aH S a b) (h2 : ¬ aH S b c) : ¬ aH S a c := by unfold aH at *; omega
theorem aH.or {S : Int → Int} {a b : Int} (h : a ≠ b) : aH S a b ∨ aH S b a := by unfold aH; omega
theorem aH.ir {S : Int → Int} {a : Int} : ¬ aH S a a := by unfold aH; omega
def hpp (i : Nat) : Nat := (i - 1) / 2
def hOk (S : Int → Int) (n : Nat) (f : Nat → Int) : Prop := ∀ i, 0 < i → i < n → ¬ aH S (f i) (f (hpp i))
def hUp (S : Int → Int) (n : Nat) (f : Nat → Int) (k : Nat) : Prop :=
  (∀ i, 0 < i → i < n → i ≠ k → hpp i ≠ k → ¬ aH S (f i) (f (hpp i))) ∧ (∀ i, 0 < i → i < n → hpp i = k → ¬ aH S (f i) (f k)) ∧ ∀ i, 0 < i → i < n → hpp i = k → 0 < k → ¬ aH S (f i) (f (hpp k))
def hDn (S : Int → Int) (n : Nat) (f : Nat → Int) (k : Nat) : Prop :=
  (∀ i, 0 < i → i < n → i ≠ k → hpp i ≠ k → ¬ aH S (f i) (f (hpp i))) ∧ (∀ i, 0 < i → i < n → hpp i = k → 0 < k → ¬ aH S (f i) (f (hpp k))) ∧ (0 < k → ¬ aH S (f k) (f (hpp k)))
def swp (f : Nat → Int) (a b : Nat) : Nat → Int := fun i => if i = a then f b else if i = b then f a else f i
theorem swp_a {f : Nat → Int} {a b : Nat} : swp f a b a = f b := if_pos rfl
theorem swp_b {f : Nat → Int} {a b : Nat} : swp f a b b = f a := by
  unfold swp
  by_cases h : b = a
  · rw [if_pos h, h]
  · rw [if_neg h, if_pos rfl]
theorem swp_n {f : Nat → Int} {a b i : Nat} (h : i ≠ a) (h2 : i ≠ b) : swp f a b i = f i := by unfold swp; rw [if_neg h, if_neg h2]
theorem hpp_lt {i : Nat} (h : 0 < i) : hpp i < i := by unfold hpp; omega
theorem hUp.step {S : Int → Int} {n k : Nat} {f : Nat → Int} (h : hUp S n f k) (hk : 0 < k) (hkn : k < n) (ha : aH S (f k) (f (hpp k))) : hUp S n (swp f k (hpp k)) (hpp k) := by
  obtain ⟨h1, h2, h3⟩ := h
  have hp := hpp_lt hk
  refine ⟨fun i i0 hi ne np => ?_, fun i i0 hi np => ?_, fun i i0 hi np p0 => ?_⟩
  · have hik : i ≠ k := fun q => np (by rw [q])
    rw [swp_n hik ne]
    by_cases e : hpp i = k
    · rw [e, swp_a]; exact h3 i i0 hi e hk
    · rw [swp_n e np]; exact h1 i i0 hi hik e
  · have hip := hpp_lt i0
    rw [np] at hip
    rw [swp_b]
    by_cases e : i = k
    · rw [e, swp_a]; exact ha.asym
    · rw [swp_n e (by omega)]
      intro q
      refine h1 i i0 hi e (by omega) ?_
      rw [np]; exact q.tr ha
  · have hip := hpp_lt i0
    rw [np] at hip
    have hpp' := hpp_lt p0
    rw [swp_n (show hpp (hpp k) ≠ k by omega) (by omega)]
    have hb := h1 (hpp k) p0 (by omega) (by omega) (by omega)
    by_cases e : i = k
    · rw [e, swp_a]; exact hb
    · rw [swp_n e (by omega)]
      have ha2 := h1 i i0 hi e (by omega)
      rw [np] at ha2
      exact aH.nt ha2 hb
theorem hUp.done {S : Int → Int} {n k : Nat} {f : Nat → Int} (h : hUp S n f k) (he : k = 0 ∨ ¬ aH S (f k) (f (hpp k))) : hOk S n f := by
  obtain ⟨h1, h2, h3⟩ := h
  intro i i0 hi
  by_cases e : i = k
  · rcases he with q | q
    · omega
    · rw [e]; exact q
  · by_cases e2 : hpp i = k
    · rw [e2]; exact h2 i i0 hi e2
    · exact h1 i i0 hi e e2
theorem hDn.step {S : Int → Int} {n k c : Nat} {f : Nat → Int} (h : hDn S n f k) (c0 : 0 < c) (hc : c < n) (hp : hpp c = k) (hs : ∀ i, 0 < i → i < n → hpp i = k → ¬ aH S (f i) (f c)) (ha : aH S (f c) (f k)) : hDn S n (swp f k c) c := by
  obtain ⟨h1, h3, h4⟩ := h
  have hkc := hpp_lt c0
  rw [hp] at hkc
  refine ⟨fun i i0 hi ne np => ?_, fun i i0 hi np p0 => ?_, fun p0 => ?_⟩
  · by_cases e : i = k
    · subst e
      have hpi := hpp_lt i0
      rw [swp_a, swp_n (by omega) (by omega)]
      exact h3 c c0 hc hp i0
    · rw [swp_n e ne]
      by_cases e2 : hpp i = k
      · rw [e2, swp_a]; exact hs i i0 hi e2
      · rw [swp_n e2 np]; exact h1 i i0 hi e e2
  · have hip := hpp_lt i0
    rw [np] at hip
    rw [swp_n (by omega) (by omega), hp, swp_a]
    have := h1 i i0 hi (by omega) (by omega)
    rw [np] at this
    exact this
  · rw [swp_b, hp, swp_a]; exact ha.asym
theorem hDn.done {S : Int → Int} {n k : Nat} {f : Nat → Int} (h : hDn S n f k) (he : ∀ i, 0 < i → i < n → hpp i = k → ¬ aH S (f i) (f k)) : hOk S n f := by
  obtain ⟨h1, h3, h4⟩ := h
  intro i i0 hi
  by_cases e : i = k
  · rw [e]; exact h4 (by omega)
  · by_cases e2 : hpp i = k
    · rw [e2]; exact he i i0 hi e2
    · exact h1 i i0 hi e e2
theorem hOk.up {S : Int → Int} {n : Nat} {f : Nat → Int} (h : hOk S n f) (x : Int) : hUp S (n + 1) (va_up f n x) n := by
  refine ⟨fun i i0 hi ne np => ?_, fun i i0 hi np => ?_, fun i i0 hi np => ?_⟩
  · rw [va_up_ne _ _ ne, va_up_ne _ _ np]; exact h i i0 (by omega)
  · have := hpp_lt i0; omega
  · have := hpp_lt i0; omega
theorem hOk.dn {S : Int → Int} {m : Nat} {f : Nat → Int} (h : hOk S (m + 1) f) : hDn S m (va_up f 0 (f m)) 0 := by
  refine ⟨fun i i0 hi ne np => ?_, fun i i0 hi np p0 => absurd p0 (Nat.lt_irrefl 0), fun p0 => absurd p0 (Nat.lt_irrefl 0)⟩
  rw [va_up_ne _ _ ne, va_up_ne _ _ np]
  exact h i i0 (by omega)
/-- nothing is ahead of the root -/
theorem hOk.root {S : Int → Int} {n : Nat} {f : Nat → Int} (h : hOk S n f) : ∀ i, i < n → ¬ aH S (f i) (f 0) := by
  intro i
  induction i using Nat.strongRecOn with
  | ind i ih =>
    intro hi
    by_cases e : i = 0
    · rw [e]; exact aH.ir
    · have hp := hpp_lt (show 0 < i by omega)
      exact aH.nt (h i (by omega) hi) (ih (hpp i) hp (by omega))
/-! what is in it -/
def hInj (n : Nat) (f : Nat → Int) : Prop := ∀ i j, i < n → j < n → f i = f j → i = j
theorem swp_in {n a b : Nat} {f : Nat → Int} (ha : a < n) (hb : b < n) (v : Int) : inQ n (swp f a b) v ↔ inQ n f v := by
  constructor
  · rintro ⟨i, hi, rfl⟩
    by_cases e : i = a
    · rw [e, swp_a]; exact ⟨b, hb, rfl⟩
    · by_cases e2 : i = b
      · rw [e2, swp_b]; exact ⟨a, ha, rfl⟩
      · rw [swp_n e e2]; exact ⟨i, hi, rfl⟩
  · rintro ⟨i, hi, rfl⟩
    by_cases e : i = a
    · exact ⟨b, hb, by rw [swp_b, e]⟩
    · by_cases e2 : i = b
      · exact ⟨a, ha, by rw [swp_a, e2]⟩
      · exact ⟨i, hi, swp_n e e2⟩
theorem swp_inj {n a b : Nat} {f : Nat → Int} (h : hInj n f) (ha : a < n) (hb : b < n) : hInj n (swp f a b) := by
  intro i j hi hj he
  by_cases e : i = a
  · by_cases e2 : j = a
    · rw [e, e2]
    · by_cases e3 : j = b
      · rw [e, e3, swp_a, swp_b] at he
        have := h b a hb ha he
        rw [e, e3, this]
      · rw [e, swp_a, swp_n e2 e3] at he
        exact absurd (h b j hb hj he).symm e3
  · by_cases e4 : i = b
    · by_cases e2 : j = a
      · rw [e4, e2, swp_a, swp_b] at he
        have := h a b ha hb he
        rw [e4, e2, this]
      · by_cases e3 : j = b
        · rw [e4, e3]
        · rw [e4, swp_b, swp_n e2 e3] at he
          exact absurd (h a j ha hj he).symm e2
    · rw [swp_n e e4] at he
      by_cases e2 : j = a
      · rw [e2, swp_a] at he
        exact absurd (h i b hi hb he) e4
      · by_cases e3 : j = b
        · rw [e3, swp_b] at he
          exact absurd (h i a hi ha he) e
        · rw [swp_n e2 e3] at he
          exact h i j hi hj he
theorem add_in {n : Nat} {f : Nat → Int} {x : Int} (v : Int) : inQ (n + 1) (va_up f n x) v ↔ inQ n f v ∨ v = x := by
  constructor
  · rintro ⟨i, hi, rfl⟩
    by_cases e : i = n
    · rw [e, va_up_self]; exact Or.inr rfl
    · rw [va_up_ne _ _ e]; exact Or.inl ⟨i, by omega, rfl⟩
  · rintro (⟨i, hi, rfl⟩ | rfl)
    · exact ⟨i, by omega, va_up_ne _ _ (by omega)⟩
    · exact ⟨n, by omega, va_up_self _ _ _⟩
theorem add_inj {n : Nat} {f : Nat → Int} {x : Int} (h : hInj n f) (hx : ¬ inQ n f x) : hInj (n + 1) (va_up f n x) := by
  intro i j hi hj he
  by_cases e : i = n
  · by_cases e2 : j = n
    · rw [e, e2]
    · rw [e, va_up_self, va_up_ne _ _ e2] at he
      exact absurd ⟨j, by omega, he.symm⟩ hx
  · by_cases e2 : j = n
    · rw [e2, va_up_self, va_up_ne _ _ e] at he
      exact absurd ⟨i, by omega, he⟩ hx
    · rw [va_up_ne _ _ e, va_up_ne _ _ e2] at he
      exact h i j (by omega) (by omega) he
theorem pop_in {m : Nat} {f : Nat → Int} (h : hInj (m + 1) f) (v : Int) : inQ m (va_up f 0 (f m)) v ↔ inQ (m + 1) f v ∧ v ≠ f 0 := by
  constructor
  · rintro ⟨i, hi, rfl⟩
    by_cases e : i = 0
    · rw [e, va_up_self]
      exact ⟨⟨m, by omega, rfl⟩, fun q => by have := h m 0 (by omega) (by omega) q; omega⟩
    · rw [va_up_ne _ _ e]
      exact ⟨⟨i, by omega, rfl⟩, fun q => e (h i 0 (by omega) (by omega) q)⟩
  · rintro ⟨⟨i, hi, rfl⟩, hn⟩
    have i0 : i ≠ 0 := fun q => hn (by rw [q])
    by_cases e : i = m
    · exact ⟨0, by omega, by rw [va_up_self, e]⟩
    · exact ⟨i, by omega, va_up_ne _ _ i0⟩
theorem pop_inj {m : Nat} {f : Nat → Int} (h : hInj (m + 1) f) : hInj m (va_up f 0 (f m)) := by
  intro i j hi hj he
  by_cases e : i = 0
  · by_cases e2 : j = 0
    · rw [e, e2]
    · rw [e, va_up_self, va_up_ne _ _ e2] at he
      have := h m j (by omega) (by omega) he
      omega
  · by_cases e2 : j = 0
    · rw [e2, va_up_self, va_up_ne _ _ e] at he
      have := h i m (by omega) (by omega) he
      omega
    · rw [va_up_ne _ _ e, va_up_ne _ _ e2] at he
      exact h i j (by omega) (by omega) he
