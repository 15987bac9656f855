/-! moved sets, growth -/
/-- the flagged spots below n, rising -/
def flL (F : Int → Int) : Nat → List Int
  | 0 => []
  | n + 1 => if F n = 0 then flL F n else flL F n ++ [(n : Int)]
theorem flL_len (F : Int → Int) (n : Nat) : (flL F n).length ≤ n := by
  induction n with
  | zero => exact Nat.le_refl _
  | succ n ih =>
    rw [flL]
    split
    · omega
    · rw [List.length_append]; simp; omega
theorem flL_pre (F : Int → Int) {n m : Nat} (h : n ≤ m) : flL F n <+: flL F m := by
  induction m with
  | zero => rw [show n = 0 by omega]; exact List.prefix_refl _
  | succ m ih =>
    by_cases e : n = m + 1
    · rw [e]; exact List.prefix_refl _
    · refine List.IsPrefix.trans (ih (by omega)) ?_
      rw [flL]
      split
      · exact List.prefix_refl _
      · exact List.prefix_append _ _
theorem flL_y {F : Int → Int} {n : Nat} {x : Int} (hx : (n : Int) = x) (h : ¬ F x = 0) : flL F (n + 1) = flL F n ++ [x] := by
  subst hx
  rw [flL, if_neg h]
theorem flL_n {F : Int → Int} {n : Nat} {x : Int} (hx : (n : Int) = x) (h : F x = 0) : flL F (n + 1) = flL F n := by
  subst hx
  rw [flL, if_pos h]
theorem flL_congr {F F2 : Int → Int} {n : Nat} (h : ∀ q : Int, 0 ≤ q → q < n → F q = F2 q) : flL F n = flL F2 n := by
  induction n with
  | zero => rfl
  | succ n ih =>
    rw [flL, flL, ih (fun q h1 h2 => h q h1 (by omega)), h n (by omega) (by omega)]
theorem flL_up (F : Int → Int) (x : Int) (n : Nat) : (flL (iup F x 1) n).length ≤ (flL F n).length + (if 0 ≤ x ∧ x < n then 1 else 0) := by
  induction n with
  | zero => show 0 ≤ _; omega
  | succ n ih =>
    rw [flL, flL]
    by_cases e : (n : Int) = x
    · subst e
      have h1 : ¬ (0 ≤ (n : Int) ∧ (n : Int) < n) := by omega
      have h2 : 0 ≤ (n : Int) ∧ (n : Int) < ((n + 1 : Nat) : Int) := by omega
      rw [iup_s, if_neg (show ¬ (1 : Int) = 0 by decide), if_pos h2, List.length_append]
      rw [if_neg h1] at ih
      show _ + 1 ≤ _
      split
      · omega
      · rw [List.length_append]
        show _ + 1 ≤ _ + 1 + 1
        omega
    · rw [iup_n e]
      have hh : (if 0 ≤ x ∧ x < (n : Int) then 1 else 0 : Nat) ≤ (if 0 ≤ x ∧ x < ((n + 1 : Nat) : Int) then 1 else 0 : Nat) := by
        by_cases h : 0 ≤ x ∧ x < (n : Int)
        · rw [if_pos h, if_pos (by omega)]; exact Nat.le_refl _
        · rw [if_neg h]; exact Nat.zero_le _
      have ih' := Nat.le_trans ih (Nat.add_le_add_left hh _)
      split
      · exact ih'
      · rw [List.length_append, List.length_append]
        show _ + 1 ≤ _ + 1 + _
        omega
theorem flL_mem (F : Int → Int) (n : Nat) (x : Int) : x ∈ flL F n ↔ (0 ≤ x ∧ x < n) ∧ ¬ F x = 0 := by
  induction n with
  | zero => exact ⟨(fun h => by cases h), (fun h => by omega)⟩
  | succ n ih =>
    rw [flL]
    split
    · rename_i hz
      rw [ih]
      constructor
      · intro h; exact ⟨by omega, h.2⟩
      · intro h
        refine ⟨?_, h.2⟩
        have : x ≠ n := fun e => h.2 (by rw [e]; exact hz)
        omega
    · rename_i hz
      rw [List.mem_append, ih, List.mem_singleton]
      constructor
      · rintro (h | h)
        · exact ⟨by omega, h.2⟩
        · subst h; exact ⟨by omega, hz⟩
      · intro h
        by_cases e : x = n
        · exact Or.inr e
        · exact Or.inl ⟨by omega, h.2⟩
/-- where steps bring the first n of the set -/
def mvA (T G : Int → Int) : Nat → Int → Int
  | 0 => fun _ => 0
  | n + 1 => if stpZ T (G (19 + n)) 0 = -7 then mvA T G n else iup (mvA T G n) (stpZ T (G (19 + n)) 0) 1
theorem mvA_len (T G : Int → Int) (n m : Nat) : (flL (mvA T G n) m).length ≤ n := by
  induction n with
  | zero =>
    show (flL (fun _ => 0) m).length ≤ 0
    induction m with
    | zero => exact Nat.le_refl _
    | succ m ih => rw [flL, if_pos rfl]; exact ih
  | succ n ih =>
    rw [mvA]
    split
    · omega
    · have := flL_up (mvA T G n) (stpZ T (G (19 + n)) 0) m
      split at this <;> omega
theorem mvA_b (T G : Int → Int) (n : Nat) (q : Int) : mvA T G n q = 0 ∨ mvA T G n q = 1 := by
  induction n with
  | zero => exact Or.inl rfl
  | succ n ih =>
    rw [mvA]
    split
    · exact ih
    · by_cases e : q = stpZ T (G (19 + n)) 0
      · rw [e, iup_s]; exact Or.inr rfl
      · rw [iup_n e]; exact ih
theorem mvA_mem (T G : Int → Int) (n : Nat) (q : Int) : ¬ mvA T G n q = 0 ↔ q ≠ -7 ∧ ∃ j : Nat, j < n ∧ stpZ T (G (19 + j)) 0 = q ∨ (q = -7 ∧ False) := by
  induction n with
  | zero => exact ⟨fun h => absurd rfl h, fun h => by obtain ⟨-, j, (h | h)⟩ := h; exact absurd h.1 (Nat.not_lt_zero _); exact absurd h.2 id⟩
  | succ n ih =>
    rw [mvA]
    split
    · rename_i hz
      rw [ih]
      constructor
      · rintro ⟨h, j, (h2 | h2)⟩
        · exact ⟨h, j, Or.inl ⟨by omega, h2.2⟩⟩
        · exact absurd h2.2 id
      · rintro ⟨h, j, (h2 | h2)⟩
        · refine ⟨h, j, Or.inl ⟨?_, h2.2⟩⟩
          by_cases e : j = n
          · rw [e, hz] at h2; exact absurd h2.2.symm h
          · omega
        · exact absurd h2.2 id
    · rename_i hz
      by_cases e : q = stpZ T (G (19 + n)) 0
      · rw [e, iup_s]
        exact ⟨fun _ => ⟨hz, n, Or.inl ⟨by omega, rfl⟩⟩, fun _ => by decide⟩
      · rw [iup_n e, ih]
        constructor
        · rintro ⟨h, j, (h2 | h2)⟩
          · exact ⟨h, j, Or.inl ⟨by omega, h2.2⟩⟩
          · exact absurd h2.2 id
        · rintro ⟨h, j, (h2 | h2)⟩
          · refine ⟨h, j, Or.inl ⟨?_, h2.2⟩⟩
            by_cases e2 : j = n
            · rw [e2] at h2; exact absurd h2.2.symm e
            · omega
          · exact absurd h2.2 id
def movZ (T G : Int → Int) : List Int := flL (mvA T G (G 18).toNat) 1024
/-! growth: flags, spots as they came, how many -/
abbrev gSt : Type := (Int → Int) × (Int → Int) × Int
def seeA (s : Int) (x : gSt) : gSt := if x.1 s = 0 then (iup x.1 s 1, iup x.2.1 x.2.2 s, x.2.2 + 1) else x
def setA (G : Int → Int) : Nat → gSt
  | 0 => (fun _ => 0, fun _ => 0, 0)
  | n + 1 => seeA (G (19 + n)) (setA G n)
def lvS (T : Int → Int) (i : Int) (y : gSt) : gSt := if stpZ T (y.2.1 i) 0 = -7 then y else seeA (stpZ T (y.2.1 i) 0) y
def lvA (T : Int → Int) (fr : Int) : Nat → gSt → gSt
  | 0, x => x
  | n + 1, x => lvS T (fr + n) (lvA T fr n x)
def grA (T : Int → Int) : Nat → Int → gSt → gSt
  | 0, _, x => x
  | n + 1, fr, x => grA T n x.2.2 (lvA T fr (x.2.2 - fr).toNat x)
def grZ (T G : Int → Int) (n : Int) : Int := if 0 ≤ n ∧ n ≤ 40 then (grA T n.toNat 0 (setA G (G 18).toNat)).2.2 else -2
def gWf (x : gSt) : Prop := (∀ q, x.1 q = 0 ∨ x.1 q = 1) ∧ x.2.2 = nzZ x.1 1024 ∧ ∀ q : Int, 0 ≤ q → q < x.2.2 → 0 ≤ x.2.1 q ∧ x.2.1 q ≤ 1023
/-- the arrays hold the state -/
def gHd (x : gSt) (F A : Int → Int) (m : Int) : Prop := m = x.2.2 ∧ (∀ q : Int, 0 ≤ q → q < 1024 → F q = x.1 q) ∧ ∀ q : Int, 0 ≤ q → q < m → A q = x.2.1 q
theorem nzZ_r (G : Int → Int) (n : Nat) : 0 ≤ nzZ G n ∧ nzZ G n ≤ n := by
  induction n with
  | zero => exact ⟨Int.le_refl 0, Int.le_refl 0⟩
  | succ n ih =>
    rw [nzZ]
    split <;> omega
theorem nzZ_up {G : Int → Int} {s : Int} (h0 : G s = 0) (n : Nat) : nzZ (iup G s 1) n = nzZ G n + (if 0 ≤ s ∧ s < n then 1 else 0) := by
  induction n with
  | zero => rw [if_neg (by omega)]; rfl
  | succ n ih =>
    rw [nzZ, nzZ, ih]
    by_cases e : (n : Int) = s
    · subst e
      have h1 : ¬ (0 ≤ (n : Int) ∧ (n : Int) < n) := by omega
      have h2 : 0 ≤ (n : Int) ∧ (n : Int) < ((n + 1 : Nat) : Int) := by omega
      rw [iup_s, h0, if_neg h1, if_pos h2, if_pos rfl, if_neg (show ¬ (1 : Int) = 0 by decide)]
      all_goals omega
    · rw [iup_n e]
      by_cases h : 0 ≤ s ∧ s < (n : Int)
      · have h2 : 0 ≤ s ∧ s < ((n + 1 : Nat) : Int) := by omega
        rw [if_pos h, if_pos h2]
        omega
      · have h2 : ¬ (0 ≤ s ∧ s < ((n + 1 : Nat) : Int)) := by omega
        rw [if_neg h, if_neg h2]
        omega
theorem nzZ_lt {G : Int → Int} {s : Int} (h0 : G s = 0) {n : Nat} (h : 0 ≤ s ∧ s < n) : nzZ G n < n := by
  have h1 := nzZ_up h0 n
  rw [if_pos h] at h1
  have := nzZ_r (iup G s 1) n
  omega
theorem gWf.lt {x : gSt} (h : gWf x) {s : Int} (hs : 0 ≤ s ∧ s ≤ 1023) (h0 : x.1 s = 0) : 0 ≤ x.2.2 ∧ x.2.2 < 1024 := by
  have h1 := nzZ_r x.1 1024
  have h2 := nzZ_lt h0 (n := 1024) (by omega)
  have := h.2.1
  omega
theorem gWf.le {x : gSt} (h : gWf x) : 0 ≤ x.2.2 ∧ x.2.2 ≤ 1024 := by
  have h1 := nzZ_r x.1 1024
  have := h.2.1
  omega
theorem gWf.see {x : gSt} (h : gWf x) {s : Int} (hs : 0 ≤ s ∧ s ≤ 1023) : gWf (seeA s x) := by
  unfold seeA
  split
  · rename_i h0
    refine ⟨fun q => ?_, ?_, fun q h1 h2 => ?_⟩
    · by_cases e : q = s
      · rw [e]; show iup _ _ _ _ = 0 ∨ iup _ _ _ _ = 1; rw [iup_s]; exact Or.inr rfl
      · show iup _ _ _ _ = 0 ∨ iup _ _ _ _ = 1; rw [iup_n e]; exact h.1 q
    · show x.2.2 + 1 = nzZ (iup x.1 s 1) 1024
      rw [nzZ_up h0, if_pos (by omega), h.2.1]
    · show 0 ≤ iup x.2.1 x.2.2 s q ∧ iup x.2.1 x.2.2 s q ≤ 1023
      have h2 : q < x.2.2 + 1 := h2
      by_cases e : q = x.2.2
      · rw [e, iup_s]; exact hs
      · rw [iup_n e]; exact h.2.2 q h1 (by omega)
  · exact h
theorem gHd.see {x : gSt} {F A : Int → Int} {m s : Int} (hw : gWf x) (h : gHd x F A m) (hs : 0 ≤ s ∧ s ≤ 1023) (h0 : F s = 0) : gHd (seeA s x) (iup F s 1) (iup A m s) (m + 1) := by
  have h1 : x.1 s = 0 := by rw [← h.2.1 s hs.1 (by omega)]; exact h0
  unfold seeA
  rw [if_pos h1]
  refine ⟨by show m + 1 = x.2.2 + 1; rw [h.1], fun q q1 q2 => ?_, fun q q1 q2 => ?_⟩
  · show _ = iup x.1 s 1 q
    by_cases e : q = s
    · rw [e, iup_s, iup_s]
    · rw [iup_n e, iup_n e]; exact h.2.1 q q1 q2
  · show _ = iup x.2.1 x.2.2 s q
    rw [← h.1]
    by_cases e : q = m
    · rw [e, iup_s, iup_s]
    · rw [iup_n e, iup_n e]; exact h.2.2 q q1 (by omega)
theorem gHd.not {x : gSt} {F A : Int → Int} {m s : Int} (h : gHd x F A m) (hs : 0 ≤ s ∧ s ≤ 1023) (h0 : ¬ F s = 0) : gHd (seeA s x) F A m := by
  have h1 : ¬ x.1 s = 0 := by rw [← h.2.1 s hs.1 (by omega)]; exact h0
  unfold seeA
  rw [if_neg h1]
  exact h
theorem gWf_0 : gWf (fun _ => 0, fun _ => 0, 0) := by
  refine ⟨fun q => Or.inl rfl, ?_, fun q h1 h2 => ?_⟩
  · have : ∀ n : Nat, nzZ (fun _ => 0) n = 0 := by
      intro n
      induction n with
      | zero => rfl
      | succ n ih => rw [nzZ, ih]; rfl
    exact (this 1024).symm
  · have : q < 0 := h2; omega
theorem setA_wf {G : Int → Int} (hG : okS G) : ∀ n : Nat, (n : Int) ≤ G 18 → gWf (setA G n) := by
  intro n
  induction n with
  | zero => intro _; exact gWf_0
  | succ n ih => intro h; exact (ih (by omega)).see (hG.2.2 n (by omega) (by omega))
theorem setA_fl (G : Int → Int) (n : Nat) (q : Int) (h : ¬ (setA G n).1 q = 0) : ∃ j : Nat, j < n ∧ G (19 + j) = q := by
  induction n with
  | zero => exact absurd rfl h
  | succ n ih =>
    rw [setA, seeA] at h
    split at h
    · have h : ¬ iup (setA G n).1 (G (19 + n)) 1 q = 0 := h
      by_cases e : q = G (19 + n)
      · exact ⟨n, by omega, e.symm⟩
      · rw [iup_n e] at h
        obtain ⟨j, h1, h2⟩ := ih h
        exact ⟨j, by omega, h2⟩
    · obtain ⟨j, h1, h2⟩ := ih h
      exact ⟨j, by omega, h2⟩
theorem setA_new {G : Int → Int} (hG : okS G) {n : Nat} (h : (n : Int) < G 18) : (setA G n).1 (G (19 + n)) = 0 := by
  apply Classical.byContradiction
  intro hn
  obtain ⟨j, h1, h2⟩ := setA_fl G n _ hn
  have := hG.2.1 j n (by omega) (by omega) h
  omega
theorem lvS_wf {T : Int → Int} {y : gSt} (h : gWf y) {i : Int} (hi : 0 ≤ i ∧ i < y.2.2) : gWf (lvS T i y) := by
  unfold lvS
  split
  · exact h
  · rcases stpZ_r T (h.2.2 i hi.1 hi.2) 0 with h1 | h1
    · contradiction
    · exact h.see h1
theorem lvS_le {T : Int → Int} (y : gSt) (i : Int) : y.2.2 ≤ (lvS T i y).2.2 := by
  unfold lvS seeA
  split
  · exact Int.le_refl _
  · split
    · show y.2.2 ≤ y.2.2 + 1; omega
    · exact Int.le_refl _
theorem lvA_wf {T : Int → Int} {x : gSt} (h : gWf x) {fr : Int} (hf : 0 ≤ fr) : ∀ n : Nat, fr + n ≤ x.2.2 → gWf (lvA T fr n x) ∧ x.2.2 ≤ (lvA T fr n x).2.2 := by
  intro n
  induction n with
  | zero => intro _; exact ⟨h, Int.le_refl _⟩
  | succ n ih =>
    intro h2
    obtain ⟨h3, h4⟩ := ih (by omega)
    refine ⟨lvS_wf h3 (by omega), Int.le_trans h4 (lvS_le _ _)⟩
theorem grA_s {T : Int → Int} {n : Nat} {fr : Int} {x : gSt} (hn : 0 < n) : grA T (n - 1) x.2.2 (lvA T fr (x.2.2 - fr).toNat x) = grA T n fr x := by
  conv => rhs; rw [show n = (n - 1) + 1 by omega, grA]
theorem lvA_l {T : Int → Int} {fr i : Int} {n : Nat} {x : gSt} (hi : fr + (n : Int) = i) (h : stpZ T ((lvA T fr n x).2.1 i) 0 = -7) : lvA T fr (n + 1) x = lvA T fr n x := by
  subst hi
  rw [lvA, lvS, if_pos h]
theorem lvA_s {T : Int → Int} {fr i s : Int} {n : Nat} {x : gSt} (hi : fr + (n : Int) = i) (hs : s = stpZ T ((lvA T fr n x).2.1 i) 0) (h : ¬ s = -7) : lvA T fr (n + 1) x = seeA s (lvA T fr n x) := by
  subst hi
  subst hs
  rw [lvA, lvS, if_neg h]
