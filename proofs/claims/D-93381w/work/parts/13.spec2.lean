/-! the pure law, further: what each call answers -/
abbrev okSp (x y : Int) : Prop := (0 ≤ x ∧ x ≤ 31) ∧ (0 ≤ y ∧ y ≤ 31)
/-- n steps (b 1: back) -/
def goZ (T : Int → Int) (b : Int) : Nat → Int → Int
  | 0, sp => sp
  | n + 1, sp => if sp = -7 then -7 else goZ T b n (stpZ T sp b)
theorem goZ_lost (T : Int → Int) (b : Int) (n : Nat) : goZ T b n (-7) = -7 := by
  cases n with
  | zero => rfl
  | succ n => exact if_pos rfl
def behZ (T : Int → Int) (x y n : Int) : Int :=
  if okSp x y then (if -99 ≤ n ∧ n ≤ 99 then goZ T (if n < 0 then 1 else 0) n.natAbs (32 * x + y) else -2) else -1
/-- the period: fuel, the step's number, the spot -/
def perA (T : Int → Int) (s0 : Int) : Nat → Int → Int → Int
  | 0, _, _ => -5
  | f + 1, n, a => if stpZ T a 0 = -7 then -7 else if stpZ T a 0 = s0 then n else perA T s0 f (n + 1) (stpZ T a 0)
def perZ (T : Int → Int) (s0 : Int) : Int := perA T s0 1024 1 s0
def bitL (z : Int) : Int64 := lI 1 <<< ((iI z).toInt64 &&& 63)
def pinA (T : Int → Int) (w : Int) : Nat → Int64
  | 0 => lI 0
  | n + 1 => pinA T w n ||| (if crsZ T w n 1 * crsZ T w n 1 % 31 = crsZ T w n 0 * crsZ T w n 2 % 31 then bitL n else lI 0)
def noL : Int64 := lI (-9223372036854775808)
def werA (T : Int → Int) (p x y k : Int) : Nat → Int64
  | 0 => lI 0
  | n + 1 => werA T p x y k n ||| (if kepZ (iup T p n) x y = k then bitL n else lI 0)
theorem iup_id {α : Type} {g : Int → α} {z : Int} {v w : α} (h : w = g z) : iup (iup g z v) z w = g := by
  funext j
  unfold iup
  by_cases e : j = z
  · rw [if_pos e, h, e]
  · rw [if_neg e, if_neg e]
theorem iup_2 {α : Type} {g : Int → α} {z : Int} {v w : α} : iup (iup g z v) z w = iup g z w := by
  funext j
  unfold iup
  by_cases e : j = z
  · rw [if_pos e, if_pos e]
  · rw [if_neg e, if_neg e, if_neg e]
theorem va_up_2 {α : Type} (f : Nat → α) (k : Nat) (v w : α) : va_up (va_up f k v) k w = va_up f k w := by
  funext j
  unfold va_up
  by_cases e : j = k
  · rw [if_pos e, if_pos e]
  · rw [if_neg e, if_neg e, if_neg e]
theorem va_up_id {α : Type} {f : Nat → α} {k : Nat} {w : α} (h : w = f k) : va_up f k w = f := by
  funext j
  unfold va_up
  by_cases e : j = k
  · rw [if_pos e, h, e]
  · rw [if_neg e]
theorem okT_up {T : Int → Int} (h : okT T) (p v : Int) (hv : 0 ≤ v ∧ v ≤ 30) : okT (iup T p v) := by
  intro j h0 h1
  unfold iup
  split
  · exact hv
  · exact h j h0 h1
def d16 (z : Int) : Int := z % 4294967296 / 65536
theorem d16_r (z : Int) : 0 ≤ d16 z ∧ d16 z ≤ 65535 := by unfold d16; omega
theorem iI_d16 (z : Int) : ((iI z).toUInt32 >>> ((iI 16).toUInt32 &&& Int32.toUInt32 31)).toInt32 = iI (d16 z) := by
  have h1 := pk_ushr (iI z) (iI 16) 16 (by decide)
  have h2 : (iI z).toBitVec.toNat = (z % 4294967296).toNat := by
    show (BitVec.ofInt 32 z).toNat = _
    rw [BitVec.toNat_ofInt]
    rfl
  have h3 : (iI (d16 z)).toBitVec.toNat = (d16 z).toNat := by
    have := d16_r z
    show (BitVec.ofInt 32 (d16 z)).toNat = _
    rw [BitVec.toNat_ofInt]
    show (d16 z % 4294967296).toNat = _
    omega
  have h4 : (((iI z).toUInt32 >>> ((iI 16).toUInt32 &&& Int32.toUInt32 31)).toInt32).toBitVec = (iI (d16 z)).toBitVec := by
    apply BitVec.eq_of_toNat_eq
    rw [h1, h2, h3]
    unfold d16
    omega
  exact Int32.toBitVec.inj h4
def drwZ (s : Int) : Int := s * 1103515245 + 12345
def oddA (T : Int → Int) (k seed : Int) : Nat → Int
  | 0 => 0
  | n + 1 => oddA T k seed n + (if kepZ T (d16 (drwZ (seed + n)) % 32) (d16 (drwZ (drwZ (seed + n))) % 32) = k then 1 else 0)
theorem oddA_r (T : Int → Int) (k seed : Int) (n : Nat) : 0 ≤ oddA T k seed n ∧ oddA T k seed n ≤ n := by
  induction n with
  | zero => exact ⟨Int.le_refl 0, Int.le_refl 0⟩
  | succ n ih =>
    unfold oddA
    split <;> omega
/-- Euclid, fuel first -/
def gcA : Nat → Int → Int → Int
  | 0, a, _ => a
  | f + 1, a, b => if b = 0 then a else gcA f b (a % b)
/-- one more unlike spot in a row: the spots below n whose kept is k, rising -/
def fibL (T : Int → Int) (k : Int) : Nat → List Int
  | 0 => []
  | n + 1 => if kepZ T ((n : Int) / 32) ((n : Int) % 32) = k then fibL T k n ++ [(n : Int)] else fibL T k n
def nthL (l : List Int) (i : Int) : Int := if i = -1 then l.length else if 0 ≤ i ∧ i < l.length then l.getD i.toNat 0 else -5
theorem fibL_pre (T : Int → Int) (k : Int) {n m : Nat} (h : n ≤ m) : fibL T k n <+: fibL T k m := by
  induction m with
  | zero => rw [show n = 0 by omega]; exact List.prefix_refl _
  | succ m ih =>
    by_cases e : n = m + 1
    · rw [e]; exact List.prefix_refl _
    · refine List.IsPrefix.trans (ih (by omega)) ?_
      show fibL T k m <+: (if _ then _ else _)
      split
      · exact List.prefix_append _ _
      · exact List.prefix_refl _
theorem nthL_pre {l l1 : List Int} {x : Int} {i : Int} (h : l1 ++ [x] <+: l) (hi : i = l1.length) : nthL l i = x := by
  obtain ⟨t, ht⟩ := h
  subst ht
  subst hi
  unfold nthL
  rw [if_neg (by omega), if_pos (by simp; omega)]
  simp
theorem fibL_len (T : Int → Int) (k : Int) (n : Nat) : (fibL T k n).length ≤ n := by
  induction n with
  | zero => exact Nat.le_refl _
  | succ n ih =>
    show (if _ then _ else _ : List Int).length ≤ _
    split
    · rw [List.length_append]; simp; omega
    · omega
theorem goZ_s {T : Int → Int} {b sp : Int} {k : Nat} (h : sp ≠ -7) (hk : 0 < k) : goZ T b (k - 1) (stpZ T sp b) = goZ T b k sp := by
  conv => rhs; rw [show k = (k - 1) + 1 by omega, goZ, if_neg h]
theorem perA_s {T : Int → Int} {s0 a n : Int} {f : Nat} (h1 : stpZ T a 0 ≠ -7) (h2 : stpZ T a 0 ≠ s0) (hf : 0 < f) : perA T s0 (f - 1) (n + 1) (stpZ T a 0) = perA T s0 f n a := by
  conv => rhs; rw [show f = (f - 1) + 1 by omega, perA, if_neg h1, if_neg h2]
theorem perA_l {T : Int → Int} {s0 a n : Int} {f : Nat} (h1 : stpZ T a 0 = -7) (hf : 0 < f) : perA T s0 f n a = -7 := by
  rw [show f = (f - 1) + 1 by omega, perA, if_pos h1]
theorem perA_b {T : Int → Int} {s0 a n : Int} {f : Nat} (h1 : stpZ T a 0 ≠ -7) (h2 : stpZ T a 0 = s0) (hf : 0 < f) : perA T s0 f n a = n := by
  rw [show f = (f - 1) + 1 by omega, perA, if_neg h1, if_pos h2]
theorem perA_0 {T : Int → Int} {s0 a n : Int} {f : Nat} (hf : f = 0) : perA T s0 f n a = -5 := by
  rw [hf]; rfl
/-- until it is lost -/
def unG (f : Int → Int) : Nat → Int → Int
  | 0, sp => sp
  | n + 1, sp => if f sp = -7 then sp else unG f n (f sp)
def acZ (T : Int → Int) (w v sp : Int) : Int := if w < 2 then stpZ T sp (if w = 1 then 1 else 0) else if w = 2 then swpZ T sp v else 32 * (sp % 32) + sp / 32
def actZ (T : Int → Int) (w v sp : Int) : Int := unG (acZ T w v) (if w < 2 then v.toNat else 1) sp
def endA (T : Int → Int) (wh vs : Int → Int) : Nat → Int → Int → Int
  | 0, _, sp => sp
  | f + 1, k, sp => endA T wh vs f (k + 1) (actZ T (wh k) (vs k) sp)
theorem unG_s {f : Int → Int} {n : Nat} {sp : Int} (h : ¬ f sp = -7) (hn : 0 < n) : unG f (n - 1) (f sp) = unG f n sp := by
  conv => rhs; rw [show n = (n - 1) + 1 by omega, unG, if_neg h]
theorem unG_l {f : Int → Int} {n : Nat} {sp : Int} (h : f sp = -7) : unG f n sp = sp := by
  cases n with
  | zero => rfl
  | succ n => exact if_pos h
theorem unG_0 {f : Int → Int} {n : Nat} {sp : Int} (h : n = 0) : unG f n sp = sp := by rw [h]; rfl
theorem endA_s {T wh vs : Int → Int} {f : Nat} {k sp : Int} (hf : 0 < f) : endA T wh vs (f - 1) (k + 1) (actZ T (wh k) (vs k) sp) = endA T wh vs f k sp := by
  conv => rhs; rw [show f = (f - 1) + 1 by omega, endA]
theorem endA_0 {T wh vs : Int → Int} {f : Nat} {k sp : Int} (hf : f = 0) : endA T wh vs f k sp = sp := by rw [hf]; rfl
theorem acZ_r (T : Int → Int) (w v : Int) {sp : Int} (h : 0 ≤ sp ∧ sp ≤ 1023) : acZ T w v sp = -7 ∨ (0 ≤ acZ T w v sp ∧ acZ T w v sp ≤ 1023) := by
  unfold acZ
  split
  · exact stpZ_r T h _
  · split
    · exact swpZ_r T h _
    · omega
/-- judged: the place from which it is otherwise -/
def jdN (T : Int → Int) (k a : Int) : Int := if k % 2 = 0 ∧ ¬ a = -7 then stpZ T a 0 else a
def jdD (k a : Int) : Int := if a = -7 then -1 else if k % 2 = 0 then a / 32 else a % 32
def jdA (T R : Int → Int) : Nat → Int → Int → Int
  | 0, _, _ => -5
  | f + 1, k, a => if R k = jdD k (jdN T k a) then jdA T R f (k + 1) (jdN T k a) else k
theorem jdA_s {T R : Int → Int} {f : Nat} {k a : Int} (h : R k = jdD k (jdN T k a)) (hf : 0 < f) : jdA T R (f - 1) (k + 1) (jdN T k a) = jdA T R f k a := by
  conv => rhs; rw [show f = (f - 1) + 1 by omega, jdA, if_pos h]
theorem jdA_n {T R : Int → Int} {f : Nat} {k a : Int} (h : ¬ R k = jdD k (jdN T k a)) (hf : 0 < f) : jdA T R f k a = k := by
  rw [show f = (f - 1) + 1 by omega, jdA, if_neg h]
theorem jdA_0 {T R : Int → Int} {f : Nat} {k a : Int} (hf : f = 0) : jdA T R f k a = -5 := by rw [hf]; rfl
/-- how many of the first n aren't 0 -/
def nzZ (G : Int → Int) : Nat → Int
  | 0 => 0
  | n + 1 => nzZ G n + (if G n = 0 then 0 else 1)
def insF (G : Int → Int) (k sp q : Int) : Int := if q < k then G (19 + q) else if q = k then sp else G (18 + q)
def delF (G : Int → Int) (k q : Int) : Int := if q < k then G (19 + q) else G (20 + q)
/-- the told set's cells: rising, spots -/
def okS (G : Int → Int) : Prop := (0 ≤ G 18 ∧ G 18 ≤ 12) ∧ (∀ i j : Int, 0 ≤ i → i < j → j < G 18 → G (19 + i) < G (19 + j)) ∧ ∀ i : Int, 0 ≤ i → i < G 18 → 0 ≤ G (19 + i) ∧ G (19 + i) ≤ 1023
/-- the four turns -/
def trnZ (T : Int → Int) (k sp : Int) : Int := if k = 0 then swpZ T sp 0 else if k = 1 then swpZ T sp 1 else if k = 2 then stpZ T sp 0 else stpZ T sp 1
theorem trnZ_r (T : Int → Int) (k : Int) {sp : Int} (h : 0 ≤ sp ∧ sp ≤ 1023) : trnZ T k sp = -7 ∨ (0 ≤ trnZ T k sp ∧ trnZ T k sp ≤ 1023) := by
  unfold trnZ
  split
  · exact swpZ_r T h 0
  · split
    · exact swpZ_r T h 1
    · split
      · exact stpZ_r T h 0
      · exact stpZ_r T h 1
theorem unG_r {f : Int → Int} (hf : ∀ sp : Int, 0 ≤ sp ∧ sp ≤ 1023 → f sp = -7 ∨ (0 ≤ f sp ∧ f sp ≤ 1023)) (n : Nat) : ∀ sp : Int, 0 ≤ sp ∧ sp ≤ 1023 → 0 ≤ unG f n sp ∧ unG f n sp ≤ 1023 := by
  induction n with
  | zero => exact fun sp h => h
  | succ n ih =>
    intro sp h
    unfold unG
    split
    · exact h
    · rcases hf sp h with h1 | h1
      · contradiction
      · exact ih _ h1
theorem actZ_r (T : Int → Int) (w v : Int) {sp : Int} (h : 0 ≤ sp ∧ sp ≤ 1023) : 0 ≤ actZ T w v sp ∧ actZ T w v sp ≤ 1023 := unG_r (fun _ h => acZ_r T w v h) _ sp h
theorem actZ_0 (T : Int → Int) (v sp : Int) : actZ T 0 v sp = unG (trnZ T 2) v.toNat sp := rfl
theorem actZ_1 (T : Int → Int) (v sp : Int) : actZ T 1 v sp = unG (trnZ T 3) v.toNat sp := rfl
theorem actZ_2 (T : Int → Int) {v : Int} (h : v = 0 ∨ v = 1) (sp : Int) : actZ T 2 v sp = unG (trnZ T v) 1 sp := by
  rcases h with rfl | rfl <;> rfl
theorem actZ_3 (T : Int → Int) (v sp : Int) (h : 0 ≤ sp) : actZ T 3 v sp = 32 * (sp % 32) + sp / 32 := by
  show (if 32 * (sp % 32) + sp / 32 = -7 then sp else 32 * (sp % 32) + sp / 32) = _
  rw [if_neg (by omega)]
/-- a row's first numbers are a list -/
def lisP (l : List Int) (g : Int → Int) (n : Int) : Prop := n = (l.length : Int) ∧ l.length ≤ 1024 ∧ ∀ i : Nat, i < l.length → g (i : Int) = l.getD i 0
theorem lisP_nil (g : Int → Int) : lisP [] g 0 := ⟨rfl, Nat.zero_le _, fun i h => absurd h (Nat.not_lt_zero _)⟩
theorem lisP_add {l : List Int} {g : Int → Int} {n x : Int} (h : lisP l g n) (hl : l.length < 1024) : lisP (l ++ [x]) (iup g n x) (n + 1) := by
  obtain ⟨h1, h2, h3⟩ := h
  refine ⟨by simp; omega, by simp; omega, fun i hi => ?_⟩
  simp at hi
  by_cases e : i = l.length
  · subst e
    rw [h1, iup_s]
    simp
  · rw [iup_n (by omega), h3 i (by omega)]
    simp only [List.getD_eq_getElem?_getD]
    rw [List.getElem?_append_left (by omega)]
theorem nthL_at {l : List Int} {g : Int → Int} {n i : Int} (h : lisP l g n) (h1 : 0 ≤ i ∧ i < n) : nthL l i = g i := by
  obtain ⟨a, b, c⟩ := h
  unfold nthL
  rw [if_neg (by omega), if_pos (by omega)]
  have := c i.toNat (by omega)
  rw [← this]
  congr 1
  omega
theorem nthL_no {l : List Int} {g : Int → Int} {n i : Int} (h : lisP l g n) (h1 : ¬ (0 ≤ i ∧ i < n)) (h2 : ¬ i = -1) : nthL l i = -5 := by
  unfold nthL
  rw [if_neg h2, if_neg (by rw [← h.1]; exact h1)]
theorem nthL_len {l : List Int} {g : Int → Int} {n : Int} (h : lisP l g n) : nthL l (-1) = n := by
  unfold nthL
  rw [if_pos rfl, h.1]
theorem fibL_y {T : Int → Int} {k x y : Int} {n : Nat} (hn : (n : Int) = 32 * x + y) (hy : 0 ≤ y ∧ y ≤ 31) (h : kepZ T x y = k) : fibL T k (n + 1) = fibL T k n ++ [32 * x + y] := by
  rw [fibL, show ((n : Int) / 32) = x by omega, show ((n : Int) % 32) = y by omega, if_pos h, hn]
theorem fibL_n {T : Int → Int} {k x y : Int} {n : Nat} (hn : (n : Int) = 32 * x + y) (hy : 0 ≤ y ∧ y ≤ 31) (h : ¬ kepZ T x y = k) : fibL T k (n + 1) = fibL T k n := by
  rw [fibL, show ((n : Int) / 32) = x by omega, show ((n : Int) % 32) = y by omega, if_neg h]
theorem fibL_rng (T : Int → Int) (k : Int) (n : Nat) : ∀ x ∈ fibL T k n, 0 ≤ x ∧ x < n := by
  induction n with
  | zero => intro x h; cases h
  | succ n ih =>
    intro x h
    rw [fibL] at h
    split at h
    · rcases List.mem_append.mp h with h | h
      · have := ih x h; omega
      · rw [List.mem_singleton] at h; omega
    · have := ih x h; omega
/-- how many fibres of each k -/
def szZ (T : Int → Int) (k : Int) : Int := ((fibL T k 1024).length : Int)
def ahA (S : Int → Int) (k : Int) : Nat → Int
  | 0 => 0
  | n + 1 => ahA S k n + (if S k < S n ∨ S n = S k ∧ (n : Int) < k then 1 else 0)
theorem ahA_r (S : Int → Int) (k : Int) (n : Nat) : 0 ≤ ahA S k n ∧ ahA S k n ≤ n := by
  induction n with
  | zero => exact ⟨Int.le_refl 0, Int.le_refl 0⟩
  | succ n ih =>
    unfold ahA
    split <;> omega
theorem szZ_r (T : Int → Int) (k : Int) : 0 ≤ szZ T k ∧ szZ T k ≤ 1024 := by
  have := fibL_len T k 1024
  unfold szZ
  omega
