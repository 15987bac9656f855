/-! cycles -/
theorem goZ_1 {T : Int → Int} {b sp : Int} (h : sp ≠ -7) : goZ T b 1 sp = stpZ T sp b := by
  rw [goZ, if_neg h, goZ]
theorem goZ_add {T : Int → Int} {b : Int} (n : Nat) : ∀ (m : Nat) (sp : Int), goZ T b (m + n) sp = goZ T b n (goZ T b m sp) := by
  intro m
  induction m with
  | zero => intro sp; rw [Nat.zero_add]; rfl
  | succ m ih =>
    intro sp
    rw [show m + 1 + n = (m + n) + 1 by omega, goZ, goZ]
    split
    · exact (goZ_lost _ _ _).symm
    · exact ih _
theorem goZ_snoc {T : Int → Int} {b sp : Int} {n : Nat} (h : goZ T b n sp ≠ -7) : goZ T b (n + 1) sp = stpZ T (goZ T b n sp) b := by
  rw [goZ_add 1 n sp, goZ_1 h]
/-- along a period nothing is lost, and it ends where it began -/
theorem perA_way (T : Int → Int) (s0 : Int) : ∀ (f : Nat) (m a : Int), 0 ≤ a ∧ a ≤ 1023 → 1 ≤ m → 1 ≤ perA T s0 f m a →
    m ≤ perA T s0 f m a ∧ (∀ i : Nat, (i : Int) ≤ perA T s0 f m a - m → 0 ≤ goZ T 0 i a ∧ goZ T 0 i a ≤ 1023) := by
  intro f
  induction f with
  | zero => intro m a _ _ h; exact absurd (show (1 : Int) ≤ -5 from h) (by decide)
  | succ f ih =>
    intro m a ha hm h
    by_cases e1 : stpZ T a 0 = -7
    · rw [perA, if_pos e1] at h
      exact absurd h (by decide)
    · have hr : 0 ≤ stpZ T a 0 ∧ stpZ T a 0 ≤ 1023 := by
        rcases stpZ_r T ha 0 with h1 | h1
        · exact absurd h1 e1
        · exact h1
      by_cases e2 : stpZ T a 0 = s0
      · rw [perA, if_neg e1, if_pos e2]
        refine ⟨Int.le_refl _, fun i hi => ?_⟩
        rw [show i = 0 by omega]
        exact ha
      · rw [perA, if_neg e1, if_neg e2] at h ⊢
        obtain ⟨h1, h2⟩ := ih (m + 1) _ hr (by omega) h
        refine ⟨by omega, fun i hi => ?_⟩
        cases i with
        | zero => exact ha
        | succ i =>
          rw [goZ, if_neg (by omega)]
          exact h2 i (by omega)
theorem perZ_way {T : Int → Int} {s0 : Int} (h : 0 ≤ s0 ∧ s0 ≤ 1023) (hp : 1 ≤ perZ T s0) {i : Nat} (hi : (i : Int) < perZ T s0) : 0 ≤ goZ T 0 i s0 ∧ goZ T 0 i s0 ≤ 1023 :=
  (perA_way T s0 1024 1 s0 h (Int.le_refl 1) hp).2 i (by unfold perZ at hi; omega)
theorem perA_le (T : Int → Int) (s0 : Int) : ∀ (f : Nat) (m a : Int), perA T s0 f m a < 1 ∨ perA T s0 f m a ≤ m + f - 1 := by
  intro f
  induction f with
  | zero => intro m a; exact Or.inl (show (-5 : Int) < 1 by decide)
  | succ f ih =>
    intro m a
    rw [perA]
    split
    · exact Or.inl (by decide)
    · split
      · omega
      · have := ih (m + 1) (stpZ T a 0); omega
theorem perZ_le (T : Int → Int) (s0 : Int) : perZ T s0 ≤ 1024 := by
  have := perA_le T s0 1024 1 s0
  unfold perZ
  omega
/-- how long the cycle is; 0: none -/
def lenZ (T : Int → Int) (s : Int) : Int := if 1 ≤ perZ T s then perZ T s else 0
/-- the first n spots of a way are marked -/
def mkN (T : Int → Int) (s : Int) (S : Int → Int) : Nat → Int → Int
  | 0 => S
  | n + 1 => iup (mkN T s S n) (goZ T 0 n s) 1
/-- which are seen, and how often each length, behind the spots below n -/
def cyA (T : Int → Int) (k : Int) : Nat → (Int → Int) × (Int → Int)
  | 0 => (fun _ => 0, fun _ => 0)
  | n + 1 => if kepZ T ((n : Int) / 32) ((n : Int) % 32) = k ∧ (cyA T k n).1 n = 0 ∧ 1 ≤ perZ T n then (mkN T n (cyA T k n).1 (perZ T n).toNat, iup (cyA T k n).2 (perZ T n) ((cyA T k n).2 (perZ T n) + 1)) else cyA T k n
theorem cyA_r (T : Int → Int) (k : Int) (n : Nat) (j : Int) : 0 ≤ (cyA T k n).2 j ∧ (cyA T k n).2 j ≤ n := by
  induction n with
  | zero => exact ⟨Int.le_refl 0, Int.le_refl 0⟩
  | succ n ih =>
    rw [cyA]
    split
    · show 0 ≤ iup _ _ _ j ∧ iup _ _ _ j ≤ _
      by_cases e : j = perZ T n
      · rw [e, iup_s]; rw [e] at ih; omega
      · rw [iup_n e]; omega
    · omega
theorem mkN_b (T : Int → Int) (s : Int) {S : Int → Int} (hS : ∀ q, S q = 0 ∨ S q = 1) (n : Nat) (q : Int) : mkN T s S n q = 0 ∨ mkN T s S n q = 1 := by
  induction n with
  | zero => exact hS q
  | succ n ih =>
    rw [mkN]
    by_cases e : q = goZ T 0 n s
    · rw [e, iup_s]; exact Or.inr rfl
    · rw [iup_n e]; exact ih
theorem cyA_b (T : Int → Int) (k : Int) (n : Nat) : ∀ q, (cyA T k n).1 q = 0 ∨ (cyA T k n).1 q = 1 := by
  induction n with
  | zero => intro q; exact Or.inl rfl
  | succ n ih =>
    intro q
    rw [cyA]
    split
    · exact mkN_b T n ih _ q
    · exact ih q
/-- the lengths up to n, rising -/
def lnL (O : Int → Int) : Nat → List Int
  | 0 => []
  | n + 1 => if 0 < O ((n : Int) + 1) then lnL O n ++ [(n : Int) + 1] else lnL O n
theorem lnL_len (O : Int → Int) (n : Nat) : (lnL O n).length ≤ n := by
  induction n with
  | zero => exact Nat.le_refl _
  | succ n ih =>
    rw [lnL]
    split
    · rw [List.length_append]; simp; omega
    · omega
def smL (f : Int → Int) : List Int → Int
  | [] => 0
  | x :: l => f x + smL f l
theorem smL_app (f : Int → Int) (l : List Int) (x : Int) : smL f (l ++ [x]) = smL f l + f x := by
  induction l with
  | nil => show f x + 0 = 0 + f x; omega
  | cons y l ih => show f y + smL f (l ++ [x]) = f y + smL f l + f x; omega
theorem lnL_pre (O : Int → Int) {n m : Nat} (h : n ≤ m) : lnL O n <+: lnL O m := by
  induction m with
  | zero => rw [show n = 0 by omega]; exact List.prefix_refl _
  | succ m ih =>
    by_cases e : n = m + 1
    · rw [e]; exact List.prefix_refl _
    · refine List.IsPrefix.trans (ih (by omega)) ?_
      show lnL O m <+: (if _ then _ else _)
      split
      · exact List.prefix_append _ _
      · exact List.prefix_refl _
/-- what a call of cycles answers, by how often each length is -/
def cycA (O : Int → Int) (L : List Int) (what : Int) : Int :=
  if what = 0 then smL O L else if what = 1 then smL (fun j => j * O j) L else if what = 2 then L.length
  else if what < 50 then (if what - 10 < L.length then L.getD (what - 10).toNat 0 else -5) else (if what - 50 < L.length then O (L.getD (what - 50).toNat 0) else -5)
def cycZ (T : Int → Int) (k what : Int) : Int := cycA (cyA T k 1024).2 (lnL (cyA T k 1024).2 1024) what
theorem lenZ_pos {T : Int → Int} {s : Int} (h : 0 < lenZ T s) : 1 ≤ perZ T s ∧ lenZ T s = perZ T s := by
  unfold lenZ at h ⊢
  split at h
  · rename_i h1; exact ⟨h1, if_pos h1⟩
  · omega
theorem lenZ_no {T : Int → Int} {s : Int} (h : lenZ T s ≤ 0) : ¬ 1 ≤ perZ T s := by
  unfold lenZ at h
  split at h
  · omega
  · assumption
theorem lenZ_r (T : Int → Int) (s : Int) : 0 ≤ lenZ T s ∧ lenZ T s ≤ 1024 := by
  have := perZ_le T s
  unfold lenZ
  split <;> omega
theorem cyA_n {T : Int → Int} {k : Int} {n : Nat} (h : ¬ (kepZ T ((n : Int) / 32) ((n : Int) % 32) = k ∧ (cyA T k n).1 n = 0 ∧ 1 ≤ perZ T n)) : cyA T k (n + 1) = cyA T k n := by rw [cyA, if_neg h]
theorem cyA_y {T : Int → Int} {k : Int} {n : Nat} (h : kepZ T ((n : Int) / 32) ((n : Int) % 32) = k ∧ (cyA T k n).1 n = 0 ∧ 1 ≤ perZ T n) : cyA T k (n + 1) = (mkN T n (cyA T k n).1 (perZ T n).toNat, iup (cyA T k n).2 (perZ T n) ((cyA T k n).2 (perZ T n) + 1)) := by rw [cyA, if_pos h]
def tlA (O : Int → Int) (L : List Int) (what wn : Int) : Int := if 0 ≤ wn ∧ wn < L.length then (if what < 50 then L.getD wn.toNat 0 else O (L.getD wn.toNat 0)) else -5
theorem tlA_app (O : Int → Int) (L : List Int) (x what wn : Int) : tlA O (L ++ [x]) what wn = if (L.length : Int) = wn then (if what < 50 then x else O x) else tlA O L what wn := by
  unfold tlA
  by_cases e : (L.length : Int) = wn
  · rw [if_pos e, if_pos (by simp; omega)]
    have : (L ++ [x]).getD wn.toNat 0 = x := by rw [← e]; simp
    rw [this]
  · rw [if_neg e]
    by_cases h : 0 ≤ wn ∧ wn < L.length
    · rw [if_pos h, if_pos (by simp; omega)]
      have : (L ++ [x]).getD wn.toNat 0 = L.getD wn.toNat 0 := by
        simp only [List.getD_eq_getElem?_getD]
        rw [List.getElem?_append_left (by omega)]
      rw [this]
    · rw [if_neg h, if_neg (by simp; omega)]
theorem lnL_y {O : Int → Int} {n : Nat} {x : Int} (hx : (n : Int) + 1 = x) (h : 0 < O x) : lnL O (n + 1) = lnL O n ++ [x] := by
  subst hx
  rw [lnL, if_pos h]
theorem lnL_n {O : Int → Int} {n : Nat} {x : Int} (hx : (n : Int) + 1 = x) (h : ¬ 0 < O x) : lnL O (n + 1) = lnL O n := by
  subst hx
  rw [lnL, if_neg h]
