/-! a table read from the tape -/
def hrZ (t : Int → Int) (n p : Int) : Int := if p < n then t p else 0
def cntZ (t : Int → Int) (n c p : Int) : Int := if hrZ t n p = c then (if hrZ t n (p + 1) = c then 2 else 1) else 0
/-- the powers behind a number v: (1, the place behind, which number, v) -/
def tfZ (t : Int → Int) (n v p : Int) : Int × Int × Int × Int := (1, p + cntZ t n 120 p + cntZ t n 121 (p + cntZ t n 120 p), 3 * cntZ t n 120 p + cntZ t n 121 (p + cntZ t n 120 p), v)
def trmZ (t : Int → Int) (n p : Int) : Int × Int × Int × Int :=
  if 49 ≤ hrZ t n p ∧ hrZ t n p ≤ 57 then (if 48 ≤ hrZ t n (p + 1) ∧ hrZ t n (p + 1) ≤ 57 then (if 10 * (hrZ t n p - 48) + hrZ t n (p + 1) - 48 < 31 then tfZ t n (10 * (hrZ t n p - 48) + hrZ t n (p + 1) - 48) (p + 2) else (0, p + 1, 0, 0)) else tfZ t n (hrZ t n p - 48) (p + 1)) else (0, p, 0, 0)
def addR (R : Int → Int) (x : Int × Int × Int × Int) : Int → Int := iup R x.2.2.1 ((R x.2.2.1 + x.2.2.2) % 31)
def tabA (t : Int → Int) (n : Int) : Nat → Int → Int → (Int → Int) → Int × Int × Int × (Int → Int)
  | 0, k, p, R => (1, k, p, R)
  | f + 1, k, p, R => if p < n then (if hrZ t n p = 43 then (if (trmZ t n (p + 1)).1 = 1 then tabA t n f (k + 1) (trmZ t n (p + 1)).2.1 (addR R (trmZ t n (p + 1))) else (0, k + 1, (trmZ t n (p + 1)).2.1, R)) else (0, k + 1, p, R)) else (1, k, p, R)
def tabZ (t : Int → Int) (n : Int) : Int × Int × Int × (Int → Int) :=
  if (trmZ t n 0).1 = 1 then tabA t n 60 1 (trmZ t n 0).2.1 (addR (fun _ => 0) (trmZ t n 0)) else (0, 1, (trmZ t n 0).2.1, fun _ => 0)
theorem hrZ_lt {t : Int → Int} {n p : Int} (h : hrZ t n p ≠ 0) : p < n := by
  unfold hrZ at h
  split at h
  · assumption
  · exact absurd rfl h
theorem cntZ_r (t : Int → Int) (n : Int) {c p : Int} (hc : c ≠ 0) (hp : p ≤ n) : 0 ≤ cntZ t n c p ∧ cntZ t n c p ≤ 2 ∧ p + cntZ t n c p ≤ n := by
  unfold cntZ
  split
  · rename_i h1
    have := hrZ_lt (t := t) (n := n) (p := p) (by omega)
    split
    · rename_i h2
      have := hrZ_lt (t := t) (n := n) (p := p + 1) (by omega)
      omega
    · omega
  · omega
theorem tfZ_r (t : Int → Int) {n v p : Int} (hp : p ≤ n) : p ≤ (tfZ t n v p).2.1 ∧ (tfZ t n v p).2.1 ≤ n ∧ 0 ≤ (tfZ t n v p).2.2.1 ∧ (tfZ t n v p).2.2.1 ≤ 8 := by
  have h1 := cntZ_r t n (c := 120) (by decide) hp
  have h2 := cntZ_r t n (c := 121) (p := p + cntZ t n 120 p) (by decide) h1.2.2
  show p ≤ p + cntZ t n 120 p + cntZ t n 121 (p + cntZ t n 120 p) ∧ p + cntZ t n 120 p + cntZ t n 121 (p + cntZ t n 120 p) ≤ n ∧ 0 ≤ 3 * cntZ t n 120 p + cntZ t n 121 (p + cntZ t n 120 p) ∧ 3 * cntZ t n 120 p + cntZ t n 121 (p + cntZ t n 120 p) ≤ 8
  omega
theorem trmZ_r (t : Int → Int) {n p : Int} (hp : p ≤ n) : ((trmZ t n p).1 = 1 ∧ p < (trmZ t n p).2.1 ∨ (trmZ t n p).1 = 0 ∧ p ≤ (trmZ t n p).2.1) ∧ (trmZ t n p).2.1 ≤ n ∧ 0 ≤ (trmZ t n p).2.2.1 ∧ (trmZ t n p).2.2.1 ≤ 8 := by
  unfold trmZ
  split
  · rename_i h1
    have l1 := hrZ_lt (t := t) (n := n) (p := p) (by omega)
    split
    · rename_i h2
      have l2 := hrZ_lt (t := t) (n := n) (p := p + 1) (by omega)
      split
      · have h := tfZ_r t (n := n) (v := 10 * (hrZ t n p - 48) + hrZ t n (p + 1) - 48) (p := p + 2) (by omega)
        exact ⟨Or.inl ⟨rfl, by omega⟩, h.2.1, h.2.2⟩
      · exact ⟨Or.inr ⟨rfl, by show p ≤ p + 1; omega⟩, by show p + 1 ≤ n; omega, Int.le_refl 0, by show (0 : Int) ≤ 8; decide⟩
    · have h := tfZ_r t (n := n) (v := hrZ t n p - 48) (p := p + 1) (by omega)
      exact ⟨Or.inl ⟨rfl, by omega⟩, h.2.1, h.2.2⟩
  · exact ⟨Or.inr ⟨rfl, Int.le_refl p⟩, hp, Int.le_refl 0, by show (0 : Int) ≤ 8; decide⟩
/-! a table written -/
def wrS (v k : Int) (L : List Int) : List Int := L ++ List.replicate (if 0 < L.length then 1 else 0) 43 ++ List.replicate (if 9 < v then 1 else 0) (48 + v / 10) ++ List.replicate 1 (48 + v % 10) ++ List.replicate (k / 3).toNat 120 ++ List.replicate (k % 3).toNat 121
def wrA (G : Int → Int) (t : Int) : Nat → List Int
  | 0 => []
  | n + 1 => if 0 < G (9 * t + (8 - (n : Int))) then wrS (G (9 * t + (8 - (n : Int)))) (8 - (n : Int)) (wrA G t n) else wrA G t n
theorem wrS_len {v k : Int} (hk : 0 ≤ k ∧ k ≤ 8) (L : List Int) : (wrS v k L).length ≤ L.length + 7 := by
  unfold wrS
  simp only [List.length_append, List.length_replicate]
  have h1 : (if 0 < L.length then 1 else 0 : Nat) ≤ 1 := by split <;> omega
  have h2 : (if 9 < v then 1 else 0 : Nat) ≤ 1 := by split <;> omega
  omega
theorem wrA_len (G : Int → Int) (t : Int) (n : Nat) (hn : n ≤ 9) : (wrA G t n).length ≤ 7 * n := by
  induction n with
  | zero => exact Nat.le_refl _
  | succ n ih =>
    rw [wrA]
    have := ih (by omega)
    split
    · have h2 := wrS_len (v := G (9 * t + (8 - (n : Int)))) (k := 8 - (n : Int)) (by omega) (wrA G t n)
      omega
    · omega
