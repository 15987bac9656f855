/-! cycles: along the row of a fibre's spots -/
set_option maxRecDepth 100000
theorem MapW.mk0 {σ : gS} {z : Nat} (hz : σ z = some (7, gO 13 [.null, .null, .null, .null, .int (iI 0), .int (iI 0), .null, .null, .null])) (cd : Nat → Int) (O : Int → Int) : MapW σ z 0 cd O :=
  ⟨fun _ => 0, fun _ => 0, fun _ => 0, fun _ => none, fun _ => none, fun _ => none, fun _ => none, fun _ => 0, none, none, none, 0, fun _ => 0, fun _ => 0, ⟨hz, fun a ha => absurd ha.1 (Nat.not_lt_zero _), fun a ha => absurd ha.1 (Nat.not_lt_zero _)⟩, tOk.nil, fun a ha => absurd ha.1 (Nat.not_lt_zero _), fun i j _ hj => absurd hj (Nat.not_lt_zero _), fun a b ha => absurd ha.1 (Nat.not_lt_zero _), fun y hy => by cases hy⟩
abbrev cySt : Type := (Int → Int) × (Int → Int)
def cyS (T : Int → Int) (s : Int) (x : cySt) : cySt := if x.1 s = 0 ∧ 1 ≤ perZ T s then (mkN T s x.1 (perZ T s).toNat, iup x.2 (perZ T s) (x.2 (perZ T s) + 1)) else x
def cyF (T : Int → Int) (L : List Int) : Nat → cySt
  | 0 => (fun _ => 0, fun _ => 0)
  | i + 1 => cyS T (L.getD i 0) (cyF T L i)
theorem cyF_app (T : Int → Int) (L M : List Int) : ∀ i, i ≤ L.length → cyF T (L ++ M) i = cyF T L i := by
  intro i
  induction i with
  | zero => intro _; rfl
  | succ i ih =>
    intro hi
    rw [cyF, cyF, ih (by omega)]
    congr 1
    simp only [List.getD_eq_getElem?_getD]
    rw [List.getElem?_append_left (by omega)]
theorem cyA_F (T : Int → Int) (k : Int) (n : Nat) : cyA T k n = cyF T (fibL T k n) (fibL T k n).length := by
  induction n with
  | zero => rfl
  | succ n ih =>
    rw [cyA, fibL]
    by_cases h : kepZ T ((n : Int) / 32) ((n : Int) % 32) = k
    · rw [if_pos h, List.length_append]
      show _ = cyF T (fibL T k n ++ [(n : Int)]) ((fibL T k n).length + 1)
      rw [cyF, cyF_app T _ _ _ (Nat.le_refl _), ← ih]
      have hg : (fibL T k n ++ [(n : Int)]).getD (fibL T k n).length 0 = n := by simp
      rw [hg, cyS]
      by_cases h2 : (cyA T k n).1 n = 0 ∧ 1 ≤ perZ T n
      · rw [if_pos ⟨h, h2⟩, if_pos h2]
      · rw [if_neg (fun q => h2 q.2), if_neg h2]
    · rw [if_neg h, if_neg (fun q => h q.1), ih]
theorem cyF_b (T : Int → Int) (L : List Int) (n : Nat) : ∀ q, (cyF T L n).1 q = 0 ∨ (cyF T L n).1 q = 1 := by
  induction n with
  | zero => intro q; exact Or.inl rfl
  | succ n ih =>
    intro q
    rw [cyF, cyS]
    split
    · exact mkN_b T _ ih _ q
    · exact ih q
theorem cyF_r (T : Int → Int) (L : List Int) (n : Nat) (j : Int) : 0 ≤ (cyF T L n).2 j ∧ (cyF T L n).2 j ≤ n := by
  induction n with
  | zero => exact ⟨Int.le_refl 0, Int.le_refl 0⟩
  | succ n ih =>
    rw [cyF, cyS]
    split
    · show 0 ≤ iup _ _ _ j ∧ iup _ _ _ j ≤ _
      by_cases e : j = perZ T (L.getD n 0)
      · rw [e, iup_s]; rw [e] at ih; omega
      · rw [iup_n e]; omega
    · omega
theorem fibL_at {T : Int → Int} {k : Int} {n i : Nat} (h : i < (fibL T k n).length) : 0 ≤ (fibL T k n).getD i 0 ∧ (fibL T k n).getD i 0 < n := by
  have h1 : (fibL T k n).getD i 0 ∈ fibL T k n := by
    rw [List.getD_eq_getElem?_getD, List.getElem?_eq_getElem h]
    exact List.getElem_mem h
  exact fibL_rng T k n _ h1
theorem iup_2' {α : Type} {g : Int → α} {z : Int} {v w : α} : iup (iup g z v) z w = iup g z w := by
  funext j
  unfold iup
  split <;> rfl
theorem mkN_eq {T F G : Int → Int} {s : Int} (h : ∀ q : Int, 0 ≤ q → q < 1024 → F q = G q) : ∀ n : Nat, ∀ q : Int, 0 ≤ q → q < 1024 → mkN T s F n q = mkN T s G n q := by
  intro n
  induction n with
  | zero => exact h
  | succ n ih =>
    intro q h1 h2
    rw [mkN, mkN]
    by_cases e : q = goZ T 0 n s
    · rw [e, iup_s, iup_s]
    · rw [iup_n e, iup_n e]; exact ih q h1 h2
theorem cyS_y {T : Int → Int} {s : Int} {x : cySt} (h : x.1 s = 0) (h2 : 1 ≤ perZ T s) : cyS T s x = (mkN T s x.1 (perZ T s).toNat, iup x.2 (perZ T s) (x.2 (perZ T s) + 1)) := by rw [cyS, if_pos ⟨h, h2⟩]
theorem cyS_n {T : Int → Int} {s : Int} {x : cySt} (h : ¬ (x.1 s = 0 ∧ 1 ≤ perZ T s)) : cyS T s x = x := by rw [cyS, if_neg h]
/-- the keys are the lengths that are counted -/
def cyK (n : Nat) (cd : Nat → Int) (O : Int → Int) : Prop := ∀ v, inQ n cd v ↔ 0 < O v
theorem cyK_old {n : Nat} {cd : Nat → Int} {O : Int → Int} {c : Int} (h : cyK n cd O) (hc : inQ n cd c) : cyK n cd (iup O c (O c + 1)) := by
  intro v
  by_cases e : v = c
  · subst e
    rw [iup_s]
    have := (h v).mp hc
    exact ⟨fun _ => by omega, fun _ => hc⟩
  · rw [iup_n e]; exact h v
theorem cyK_new {n n2 : Nat} {cd cd2 : Nat → Int} {O : Int → Int} {c : Int} (h : cyK n cd O) (h0 : O c = 0) (h2 : ∀ v, inQ n2 cd2 v ↔ inQ n cd v ∨ v = c) : cyK n2 cd2 (iup O c (O c + 1)) := by
  intro v
  rw [h2 v]
  by_cases e : v = c
  · subst e
    rw [iup_s]
    exact ⟨fun _ => by omega, fun _ => Or.inr rfl⟩
  · rw [iup_n e, ← h v]
    exact ⟨fun q => q.resolve_right e, Or.inl⟩
