/-! what both classes answer: the pure law -/
def pw (c k : Int) : Int := if c = 31 then (if k = 2 then 1 else 0) else if k = 0 then 1 else if k = 1 then c else c * c % 31
def cel (t i j : Int) : Int := 9 * t + 3 * i + j
def entZ (T : Int → Int) (t w i j : Int) : Int := if w = 0 then T (cel t i j) else T (cel t j i)
def rowZ (T : Int → Int) (t w i c : Int) : Int := (entZ T t w i 0 * pw c 0 % 31 + entZ T t w i 1 * pw c 1 % 31 + entZ T t w i 2 * pw c 2 % 31) % 31
def valZ (T : Int → Int) (t x y : Int) : Int := (rowZ T t 0 0 y * pw x 0 % 31 + rowZ T t 0 1 y * pw x 1 % 31 + rowZ T t 0 2 y * pw x 2 % 31) % 31
def invL : List Int := [0, 1, 16, 21, 8, 25, 26, 9, 4, 7, 28, 17, 13, 12, 20, 29, 2, 11, 19, 18, 14, 3, 24, 27, 22, 5, 6, 23, 10, 15, 30]
def invZ (v : Int) : Int := invL.getD v.toNat 0
def byZ (u v : Int) : Int := if v = 0 then (if u = 0 then -6 else 31) else u * invZ v % 31
def kepZ (T : Int → Int) (x y : Int) : Int := byZ (valZ T 0 x y) (valZ T 1 x y)
def hiZ (a : Int) : Int := if a = 2 then 1 else 2
def loZ (a : Int) : Int := if a = 0 then 1 else 0
def crsZ (T : Int → Int) (w c a : Int) : Int := (rowZ T 0 w (hiZ a) c * rowZ T 1 w (loZ a) c - rowZ T 0 w (loZ a) c * rowZ T 1 w (hiZ a) c) % 31
def othB (T : Int → Int) (w o c : Int) : Int := if o = 31 then byZ ((-crsZ T w c 1) % 31) (crsZ T w c 0) else byZ ((-(crsZ T w c 1 * o + crsZ T w c 2)) % 31) ((crsZ T w c 0 * o + crsZ T w c 1) % 31)
def othZ (T : Int → Int) (w o c : Int) : Int := if othB T w o c = -6 then -7 else othB T w o c
def swpZ (T : Int → Int) (sp w : Int) : Int :=
  if w = 0 then (if othZ T 0 (sp / 32) (sp % 32) = -7 then -7 else 32 * othZ T 0 (sp / 32) (sp % 32) + sp % 32)
  else (if othZ T 1 (sp % 32) (sp / 32) = -7 then -7 else 32 * (sp / 32) + othZ T 1 (sp % 32) (sp / 32))
def stpZ (T : Int → Int) (sp b : Int) : Int := if swpZ T sp b = -7 then -7 else swpZ T (swpZ T sp b) (1 - b)
def okT (T : Int → Int) : Prop := ∀ j : Int, 0 ≤ j → j < 18 → 0 ≤ T j ∧ T j ≤ 30
theorem mulR {a b A B : Int} (h1 : 0 ≤ a ∧ a ≤ A) (h2 : 0 ≤ b ∧ b ≤ B) : 0 ≤ a * b ∧ a * b ≤ A * B :=
  ⟨Int.mul_nonneg h1.1 h2.1, Int.mul_le_mul h1.2 h2.2 h2.1 (Int.le_trans h1.1 h1.2)⟩
theorem md_r (a : Int) : 0 ≤ a % 31 ∧ a % 31 ≤ 30 := by omega
theorem pw_r {c k : Int} (h : 0 ≤ c ∧ c ≤ 31) : 0 ≤ pw c k ∧ pw c k ≤ 30 := by
  unfold pw
  split
  · split <;> omega
  · split
    · omega
    · split
      · omega
      · exact md_r _
theorem rowZ_r (T : Int → Int) (t w i c : Int) : 0 ≤ rowZ T t w i c ∧ rowZ T t w i c ≤ 30 := md_r _
theorem valZ_r (T : Int → Int) (t x y : Int) : 0 ≤ valZ T t x y ∧ valZ T t x y ≤ 30 := md_r _
theorem crsZ_r (T : Int → Int) (w c a : Int) : 0 ≤ crsZ T w c a ∧ crsZ T w c a ≤ 30 := md_r _
theorem byZ_r (u v : Int) : byZ u v = -6 ∨ (0 ≤ byZ u v ∧ byZ u v ≤ 31) := by
  unfold byZ
  split
  · split <;> omega
  · have := md_r (u * invZ v); omega
theorem kepZ_r (T : Int → Int) (x y : Int) : kepZ T x y = -6 ∨ (0 ≤ kepZ T x y ∧ kepZ T x y ≤ 31) := byZ_r _ _
theorem othB_r (T : Int → Int) (w o c : Int) : othB T w o c = -6 ∨ (0 ≤ othB T w o c ∧ othB T w o c ≤ 31) := by
  unfold othB
  split
  · exact byZ_r _ _
  · exact byZ_r _ _
theorem othZ_r (T : Int → Int) (w o c : Int) : othZ T w o c = -7 ∨ (0 ≤ othZ T w o c ∧ othZ T w o c ≤ 31) := by
  unfold othZ
  have := othB_r T w o c
  split <;> omega
theorem swpZ_r (T : Int → Int) {sp : Int} (h : 0 ≤ sp ∧ sp ≤ 1023) (w : Int) : swpZ T sp w = -7 ∨ (0 ≤ swpZ T sp w ∧ swpZ T sp w ≤ 1023) := by
  unfold swpZ
  have h1 := othZ_r T 0 (sp / 32) (sp % 32)
  have h2 := othZ_r T 1 (sp % 32) (sp / 32)
  split <;> split <;> omega
theorem stpZ_r (T : Int → Int) {sp : Int} (h : 0 ≤ sp ∧ sp ≤ 1023) (b : Int) : stpZ T sp b = -7 ∨ (0 ≤ stpZ T sp b ∧ stpZ T sp b ≤ 1023) := by
  unfold stpZ
  split
  · exact Or.inl rfl
  · rcases swpZ_r T h b with h1 | h1
    · contradiction
    · exact swpZ_r T h1 _
theorem invZ_r {v : Int} (h : 0 ≤ v ∧ v ≤ 30) : 0 ≤ invZ v ∧ invZ v ≤ 30 := by
  have : ∀ n : Fin 31, 0 ≤ invL.getD n.val 0 ∧ invL.getD n.val 0 ≤ 30 := by decide
  exact this ⟨v.toNat, by omega⟩
theorem entZ_r {T : Int → Int} (hT : okT T) {t w i j : Int} (h : (0 ≤ t ∧ t ≤ 1) ∧ (0 ≤ i ∧ i ≤ 2) ∧ (0 ≤ j ∧ j ≤ 2)) : 0 ≤ entZ T t w i j ∧ entZ T t w i j ≤ 30 := by
  unfold entZ cel
  split
  · exact hT _ (by omega) (by omega)
  · exact hT _ (by omega) (by omega)
