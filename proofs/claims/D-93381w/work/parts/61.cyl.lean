/-! the lengths as a row -/
set_option maxRecDepth 100000
theorem getD_l {L : List Int} {x : Int} {i : Nat} (h : i < L.length) : (L ++ [x]).getD i 0 = L.getD i 0 := by
  simp only [List.getD_eq_getElem?_getD]
  rw [List.getElem?_append_left h]
theorem getD_r {L : List Int} {x : Int} : (L ++ [x]).getD L.length 0 = x := by simp
theorem lnL_in (O : Int → Int) (n : Nat) (v : Int) : inQ (lnL O n).length (fun i => (lnL O n).getD i 0) v ↔ (1 ≤ v ∧ v ≤ n) ∧ 0 < O v := by
  induction n with
  | zero => exact ⟨fun ⟨i, h, _⟩ => absurd h (Nat.not_lt_zero _), fun h => by omega⟩
  | succ n ih =>
    by_cases e : 0 < O ((n : Int) + 1)
    · have hl : lnL O (n + 1) = lnL O n ++ [(n : Int) + 1] := by rw [lnL, if_pos e]
      rw [hl]
      constructor
      · rintro ⟨i, hi, hv⟩
        rw [List.length_append] at hi
        have hi : i < (lnL O n).length + 1 := hi
        by_cases e2 : i = (lnL O n).length
        · rw [e2] at hv
          have hv : (lnL O n ++ [(n : Int) + 1]).getD (lnL O n).length 0 = v := hv
          rw [getD_r] at hv
          subst hv
          exact ⟨by omega, e⟩
        · have hv : (lnL O n ++ [(n : Int) + 1]).getD i 0 = v := hv
          rw [getD_l (by omega)] at hv
          have := ih.mp ⟨i, by omega, hv⟩
          exact ⟨by omega, this.2⟩
      · rintro ⟨h1, h2⟩
        rw [List.length_append]
        by_cases e2 : v = (n : Int) + 1
        · exact ⟨(lnL O n).length, by show _ < _ + 1; omega, by show (lnL O n ++ [(n : Int) + 1]).getD (lnL O n).length 0 = v; rw [getD_r, e2]⟩
        · obtain ⟨i, hi, hv⟩ := ih.mpr ⟨by omega, h2⟩
          exact ⟨i, by show i < _ + 1; omega, by show (lnL O n ++ [(n : Int) + 1]).getD i 0 = v; rw [getD_l hi]; exact hv⟩
    · have hl : lnL O (n + 1) = lnL O n := by rw [lnL, if_neg e]
      rw [hl, ih]
      constructor
      · rintro ⟨h1, h2⟩; exact ⟨by omega, h2⟩
      · rintro ⟨h1, h2⟩
        refine ⟨?_, h2⟩
        have : v ≠ (n : Int) + 1 := fun q => e (by rw [← q]; exact h2)
        omega
theorem lnL_inc (O : Int → Int) (n : Nat) : ∀ i j, i < j → j < (lnL O n).length → (lnL O n).getD i 0 < (lnL O n).getD j 0 := by
  induction n with
  | zero => intro i j _ h; exact absurd h (Nat.not_lt_zero _)
  | succ n ih =>
    by_cases e : 0 < O ((n : Int) + 1)
    · have hl : lnL O (n + 1) = lnL O n ++ [(n : Int) + 1] := by rw [lnL, if_pos e]
      rw [hl]
      intro i j hij hj
      rw [List.length_append] at hj
      have hj : j < (lnL O n).length + 1 := hj
      by_cases e2 : j = (lnL O n).length
      · rw [e2, getD_r, getD_l (by omega)]
        have := ((lnL_in O n _).mp ⟨i, by omega, rfl⟩).1
        have h3 := this.2
        show (lnL O n).getD i 0 < _
        have h4 : (fun i => (lnL O n).getD i 0) i = (lnL O n).getD i 0 := rfl
        rw [h4] at h3
        omega
      · rw [getD_l (by omega), getD_l (by omega)]
        exact ih i j hij (by omega)
    · have hl : lnL O (n + 1) = lnL O n := by rw [lnL, if_neg e]
      rw [hl]
      exact ih
/-- a map's keys are the row of lengths -/
theorem cyK_L {σ : gS} {mp n : Nat} {cd : Nat → Int} {O : Int → Int} (h : MapW σ mp n cd O) (hk : cyK n cd O) : n = (lnL O 1024).length ∧ ∀ i, i < n → cd i = (lnL O 1024).getD i 0 := by
  refine srtU h.inc (lnL_inc O 1024) (fun v => ?_)
  rw [lnL_in]
  constructor
  · intro q
    obtain ⟨i, hi, rfl⟩ := q
    have := h.rng hi
    exact ⟨by omega, (hk _).mp ⟨i, hi, rfl⟩⟩
  · intro q; exact (hk v).mpr q.2
def suQ (f : Int → Int) (cd : Nat → Int) : Nat → Int
  | 0 => 0
  | i + 1 => suQ f cd i + f (cd i)
theorem suQ_eq {f : Int → Int} {c d : Nat → Int} : ∀ n, (∀ i, i < n → c i = d i) → suQ f c n = suQ f d n := by
  intro n
  induction n with
  | zero => intro _; rfl
  | succ n ih => intro h; rw [suQ, suQ, ih (fun i hi => h i (by omega)), h n (by omega)]
theorem suQ_L (f : Int → Int) (L : List Int) : suQ f (fun i => L.getD i 0) L.length = smL f L := by
  have key : ∀ n, n ≤ L.length → suQ f (fun i => L.getD i 0) n = smL f (L.take n) := by
    intro n
    induction n with
    | zero => intro _; rw [List.take_zero]; rfl
    | succ n ih =>
      intro hn
      have hg : L[n]? = some (L.getD n 0) := by
        rw [List.getD_eq_getElem?_getD, List.getElem?_eq_getElem (by omega)]
        rfl
      rw [suQ, ih (by omega), List.take_add_one, hg]
      show _ = smL f (L.take n ++ [L.getD n 0])
      rw [smL_app]
  have := key L.length (Nat.le_refl _)
  rw [List.take_length] at this
  exact this
