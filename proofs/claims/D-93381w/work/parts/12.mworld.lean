/-! the model's world: its object o, its arrays at a k (k: the field's number; 30 .. 35 rows, 40 .. 43 items), their contents V k, its numbers I k -/
def mfs (a : Nat → Nat) (I : Nat → Int) : List Value := [.ref (a 0), .ref (a 1), .int (iI (I 2)), .ref (a 3), .ref (a 4), .ref (a 5), .ref (a 6), .ref (a 7), .ref (a 8), .ref (a 9), .ref (a 10), .ref (a 11), .ref (a 12), .ref (a 13), .ref (a 14), .ref (a 15), .ref (a 16), .ref (a 17), .ref (a 18), .ref (a 19), .ref (a 20), .ref (a 21), .ref (a 22), .int (iI (I 23)), .int (iI (I 24)), .ref (a 25), .ref (a 26), .int (iI (I 27)), .ref (a 28), .ref (a 29)]
def mIs (k : Nat) : Bool := [0, 1, 3, 4, 5, 6, 7, 8, 9, 10, 11, 12, 13, 14, 15, 16, 17, 18, 19, 20, 21, 22, 25, 26, 28, 29, 30, 31, 32, 33, 34, 35, 40, 41, 42, 43].contains k
def mcF (X : gX) (a : Nat → Nat) (k : Nat) (v : Int → Int) : gE := match k with
  | 0 => gI (X.2.1 0) 48 v
  | 1 => gI (X.2.1 0) 48 v
  | 3 => gI (X.2.1 0) 1024 v
  | 4 => gI (X.2.1 0) 32 v
  | 5 => gI (X.2.1 0) 1024 v
  | 6 => gI (X.2.1 1) 1024 v
  | 7 => gI (X.2.1 0) 1025 v
  | 8 => gI (X.2.1 0) 2500 v
  | 9 => gI (X.2.1 0) 2500 v
  | 10 => gI (X.2.1 0) 2500 v
  | 11 => gI (X.2.1 0) 2500 v
  | 12 => gV (X.2.1 7) 6 (fun j => some (a (30 + j.toNat)))
  | 13 => gI (X.2.1 0) 2500 v
  | 14 => gI (X.2.1 0) 2500 v
  | 15 => gI (X.2.1 0) 2500 v
  | 16 => gI (X.2.1 0) 2500 v
  | 17 => gI (X.2.1 0) 2500 v
  | 18 => gI (X.2.1 0) 2500 v
  | 19 => gI (X.2.1 0) 2500 v
  | 20 => gI (X.2.1 0) 2500 v
  | 21 => gI (X.2.1 1) 1024 v
  | 22 => gI (X.2.1 0) 60 v
  | 25 => gI (X.2.1 0) 9 v
  | 26 => gI (X.2.1 0) 120 v
  | 28 => gI (X.2.1 0) 4 v
  | 29 => gV (X.2.1 7) 4 (fun j => some (a (40 + j.toNat)))
  | 30 => gI (X.2.1 0) 2500 v
  | 31 => gI (X.2.1 0) 2500 v
  | 32 => gI (X.2.1 0) 2500 v
  | 33 => gI (X.2.1 0) 2500 v
  | 34 => gI (X.2.1 0) 2500 v
  | 35 => gI (X.2.1 0) 2500 v
  | 40 => gI (X.2.1 0) 12 v
  | 41 => gI (X.2.1 0) 12 v
  | 42 => gI (X.2.1 0) 12 v
  | 43 => gI (X.2.1 0) 12 v
  | _ => gO 0 []
def MW (X : gX) (σ : gS) (o : Nat) (a : Nat → Nat) (V : Nat → Int → Int) (I : Nat → Int) : Prop :=
  σ o = some (10, gO 4 (mfs a I)) ∧ (∀ k, mIs k = true → σ (a k) = some (10, mcF X a k (V k))) ∧ (∀ i j, mIs i = true → mIs j = true → a i = a j → i = j) ∧ ∀ k, mIs k = true → a k ≠ o
theorem MW.o {X : gX} {σ : gS} {o : Nat} {a : Nat → Nat} {V : Nat → Int → Int} {I : Nat → Int} (h : MW X σ o a V I) : σ o = some (10, gO 4 (mfs a I)) := h.1
theorem MW.a0 {X : gX} {σ : gS} {o : Nat} {a : Nat → Nat} {V : Nat → Int → Int} {I : Nat → Int} (h : MW X σ o a V I) : σ (a 0) = some (10, gI (X.2.1 0) 48 (V 0)) := h.2.1 0 rfl
theorem MW.a1 {X : gX} {σ : gS} {o : Nat} {a : Nat → Nat} {V : Nat → Int → Int} {I : Nat → Int} (h : MW X σ o a V I) : σ (a 1) = some (10, gI (X.2.1 0) 48 (V 1)) := h.2.1 1 rfl
theorem MW.a3 {X : gX} {σ : gS} {o : Nat} {a : Nat → Nat} {V : Nat → Int → Int} {I : Nat → Int} (h : MW X σ o a V I) : σ (a 3) = some (10, gI (X.2.1 0) 1024 (V 3)) := h.2.1 3 rfl
theorem MW.a4 {X : gX} {σ : gS} {o : Nat} {a : Nat → Nat} {V : Nat → Int → Int} {I : Nat → Int} (h : MW X σ o a V I) : σ (a 4) = some (10, gI (X.2.1 0) 32 (V 4)) := h.2.1 4 rfl
theorem MW.a5 {X : gX} {σ : gS} {o : Nat} {a : Nat → Nat} {V : Nat → Int → Int} {I : Nat → Int} (h : MW X σ o a V I) : σ (a 5) = some (10, gI (X.2.1 0) 1024 (V 5)) := h.2.1 5 rfl
theorem MW.a6 {X : gX} {σ : gS} {o : Nat} {a : Nat → Nat} {V : Nat → Int → Int} {I : Nat → Int} (h : MW X σ o a V I) : σ (a 6) = some (10, gI (X.2.1 1) 1024 (V 6)) := h.2.1 6 rfl
theorem MW.a7 {X : gX} {σ : gS} {o : Nat} {a : Nat → Nat} {V : Nat → Int → Int} {I : Nat → Int} (h : MW X σ o a V I) : σ (a 7) = some (10, gI (X.2.1 0) 1025 (V 7)) := h.2.1 7 rfl
theorem MW.a8 {X : gX} {σ : gS} {o : Nat} {a : Nat → Nat} {V : Nat → Int → Int} {I : Nat → Int} (h : MW X σ o a V I) : σ (a 8) = some (10, gI (X.2.1 0) 2500 (V 8)) := h.2.1 8 rfl
theorem MW.a9 {X : gX} {σ : gS} {o : Nat} {a : Nat → Nat} {V : Nat → Int → Int} {I : Nat → Int} (h : MW X σ o a V I) : σ (a 9) = some (10, gI (X.2.1 0) 2500 (V 9)) := h.2.1 9 rfl
theorem MW.a10 {X : gX} {σ : gS} {o : Nat} {a : Nat → Nat} {V : Nat → Int → Int} {I : Nat → Int} (h : MW X σ o a V I) : σ (a 10) = some (10, gI (X.2.1 0) 2500 (V 10)) := h.2.1 10 rfl
theorem MW.a11 {X : gX} {σ : gS} {o : Nat} {a : Nat → Nat} {V : Nat → Int → Int} {I : Nat → Int} (h : MW X σ o a V I) : σ (a 11) = some (10, gI (X.2.1 0) 2500 (V 11)) := h.2.1 11 rfl
theorem MW.a12 {X : gX} {σ : gS} {o : Nat} {a : Nat → Nat} {V : Nat → Int → Int} {I : Nat → Int} (h : MW X σ o a V I) : σ (a 12) = some (10, gV (X.2.1 7) 6 (fun j => some (a (30 + j.toNat)))) := h.2.1 12 rfl
theorem MW.a13 {X : gX} {σ : gS} {o : Nat} {a : Nat → Nat} {V : Nat → Int → Int} {I : Nat → Int} (h : MW X σ o a V I) : σ (a 13) = some (10, gI (X.2.1 0) 2500 (V 13)) := h.2.1 13 rfl
theorem MW.a14 {X : gX} {σ : gS} {o : Nat} {a : Nat → Nat} {V : Nat → Int → Int} {I : Nat → Int} (h : MW X σ o a V I) : σ (a 14) = some (10, gI (X.2.1 0) 2500 (V 14)) := h.2.1 14 rfl
theorem MW.a15 {X : gX} {σ : gS} {o : Nat} {a : Nat → Nat} {V : Nat → Int → Int} {I : Nat → Int} (h : MW X σ o a V I) : σ (a 15) = some (10, gI (X.2.1 0) 2500 (V 15)) := h.2.1 15 rfl
theorem MW.a16 {X : gX} {σ : gS} {o : Nat} {a : Nat → Nat} {V : Nat → Int → Int} {I : Nat → Int} (h : MW X σ o a V I) : σ (a 16) = some (10, gI (X.2.1 0) 2500 (V 16)) := h.2.1 16 rfl
theorem MW.a17 {X : gX} {σ : gS} {o : Nat} {a : Nat → Nat} {V : Nat → Int → Int} {I : Nat → Int} (h : MW X σ o a V I) : σ (a 17) = some (10, gI (X.2.1 0) 2500 (V 17)) := h.2.1 17 rfl
theorem MW.a18 {X : gX} {σ : gS} {o : Nat} {a : Nat → Nat} {V : Nat → Int → Int} {I : Nat → Int} (h : MW X σ o a V I) : σ (a 18) = some (10, gI (X.2.1 0) 2500 (V 18)) := h.2.1 18 rfl
theorem MW.a19 {X : gX} {σ : gS} {o : Nat} {a : Nat → Nat} {V : Nat → Int → Int} {I : Nat → Int} (h : MW X σ o a V I) : σ (a 19) = some (10, gI (X.2.1 0) 2500 (V 19)) := h.2.1 19 rfl
theorem MW.a20 {X : gX} {σ : gS} {o : Nat} {a : Nat → Nat} {V : Nat → Int → Int} {I : Nat → Int} (h : MW X σ o a V I) : σ (a 20) = some (10, gI (X.2.1 0) 2500 (V 20)) := h.2.1 20 rfl
theorem MW.a21 {X : gX} {σ : gS} {o : Nat} {a : Nat → Nat} {V : Nat → Int → Int} {I : Nat → Int} (h : MW X σ o a V I) : σ (a 21) = some (10, gI (X.2.1 1) 1024 (V 21)) := h.2.1 21 rfl
theorem MW.a22 {X : gX} {σ : gS} {o : Nat} {a : Nat → Nat} {V : Nat → Int → Int} {I : Nat → Int} (h : MW X σ o a V I) : σ (a 22) = some (10, gI (X.2.1 0) 60 (V 22)) := h.2.1 22 rfl
theorem MW.a25 {X : gX} {σ : gS} {o : Nat} {a : Nat → Nat} {V : Nat → Int → Int} {I : Nat → Int} (h : MW X σ o a V I) : σ (a 25) = some (10, gI (X.2.1 0) 9 (V 25)) := h.2.1 25 rfl
theorem MW.a26 {X : gX} {σ : gS} {o : Nat} {a : Nat → Nat} {V : Nat → Int → Int} {I : Nat → Int} (h : MW X σ o a V I) : σ (a 26) = some (10, gI (X.2.1 0) 120 (V 26)) := h.2.1 26 rfl
theorem MW.a28 {X : gX} {σ : gS} {o : Nat} {a : Nat → Nat} {V : Nat → Int → Int} {I : Nat → Int} (h : MW X σ o a V I) : σ (a 28) = some (10, gI (X.2.1 0) 4 (V 28)) := h.2.1 28 rfl
theorem MW.a29 {X : gX} {σ : gS} {o : Nat} {a : Nat → Nat} {V : Nat → Int → Int} {I : Nat → Int} (h : MW X σ o a V I) : σ (a 29) = some (10, gV (X.2.1 7) 4 (fun j => some (a (40 + j.toNat)))) := h.2.1 29 rfl
theorem MW.a30 {X : gX} {σ : gS} {o : Nat} {a : Nat → Nat} {V : Nat → Int → Int} {I : Nat → Int} (h : MW X σ o a V I) : σ (a 30) = some (10, gI (X.2.1 0) 2500 (V 30)) := h.2.1 30 rfl
theorem MW.a31 {X : gX} {σ : gS} {o : Nat} {a : Nat → Nat} {V : Nat → Int → Int} {I : Nat → Int} (h : MW X σ o a V I) : σ (a 31) = some (10, gI (X.2.1 0) 2500 (V 31)) := h.2.1 31 rfl
theorem MW.a32 {X : gX} {σ : gS} {o : Nat} {a : Nat → Nat} {V : Nat → Int → Int} {I : Nat → Int} (h : MW X σ o a V I) : σ (a 32) = some (10, gI (X.2.1 0) 2500 (V 32)) := h.2.1 32 rfl
theorem MW.a33 {X : gX} {σ : gS} {o : Nat} {a : Nat → Nat} {V : Nat → Int → Int} {I : Nat → Int} (h : MW X σ o a V I) : σ (a 33) = some (10, gI (X.2.1 0) 2500 (V 33)) := h.2.1 33 rfl
theorem MW.a34 {X : gX} {σ : gS} {o : Nat} {a : Nat → Nat} {V : Nat → Int → Int} {I : Nat → Int} (h : MW X σ o a V I) : σ (a 34) = some (10, gI (X.2.1 0) 2500 (V 34)) := h.2.1 34 rfl
theorem MW.a35 {X : gX} {σ : gS} {o : Nat} {a : Nat → Nat} {V : Nat → Int → Int} {I : Nat → Int} (h : MW X σ o a V I) : σ (a 35) = some (10, gI (X.2.1 0) 2500 (V 35)) := h.2.1 35 rfl
theorem MW.a40 {X : gX} {σ : gS} {o : Nat} {a : Nat → Nat} {V : Nat → Int → Int} {I : Nat → Int} (h : MW X σ o a V I) : σ (a 40) = some (10, gI (X.2.1 0) 12 (V 40)) := h.2.1 40 rfl
theorem MW.a41 {X : gX} {σ : gS} {o : Nat} {a : Nat → Nat} {V : Nat → Int → Int} {I : Nat → Int} (h : MW X σ o a V I) : σ (a 41) = some (10, gI (X.2.1 0) 12 (V 41)) := h.2.1 41 rfl
theorem MW.a42 {X : gX} {σ : gS} {o : Nat} {a : Nat → Nat} {V : Nat → Int → Int} {I : Nat → Int} (h : MW X σ o a V I) : σ (a 42) = some (10, gI (X.2.1 0) 12 (V 42)) := h.2.1 42 rfl
theorem MW.a43 {X : gX} {σ : gS} {o : Nat} {a : Nat → Nat} {V : Nat → Int → Int} {I : Nat → Int} (h : MW X σ o a V I) : σ (a 43) = some (10, gI (X.2.1 0) 12 (V 43)) := h.2.1 43 rfl
theorem MW.keep {X : gX} {σ σ' : gS} {o : Nat} {a : Nat → Nat} {V : Nat → Int → Int} {I : Nat → Int} {tg : Nat → Prop} (h : MW X σ o a V I) (hk : gKeep tg σ σ') (ht : ¬ tg 10) : MW X σ' o a V I :=
  ⟨hk _ _ _ h.1 ht, fun k hi => hk _ _ _ (h.2.1 k hi) ht, h.2.2⟩
theorem MW.set {X : gX} {σ : gS} {o : Nat} {a : Nat → Nat} {V : Nat → Int → Int} {I : Nat → Int} (h : MW X σ o a V I) (k : Nat) (hk : mIs k = true) (g : Int → Int) : MW X (gup σ (a k) (10, mcF X a k g)) o a (va_up V k g) I := by
  refine ⟨?_, fun j hj => ?_, h.2.2.1, h.2.2.2⟩
  · rw [gup_n (fun e => h.2.2.2 k hk e.symm)]; exact h.1
  · by_cases e : j = k
    · subst e
      rw [gup_s, va_up_self]
    · rw [gup_n (fun q => e (h.2.2.1 j k hj hk q)), va_up_ne V g e]
      exact h.2.1 j hj
theorem MW.num {X : gX} {σ : gS} {o : Nat} {a : Nat → Nat} {V : Nat → Int → Int} {I I' : Nat → Int} {fs : List Value} (h : MW X σ o a V I) (e : fs = mfs a I') : MW X (gup σ o (10, gO 4 fs)) o a V I' := by
  subst e
  refine ⟨gup_s, fun j hj => ?_, h.2.2⟩
  rw [gup_n (h.2.2.2 j hj)]
  exact h.2.1 j hj
theorem mfs_2 (a : Nat → Nat) (I : Nat → Int) (v : Int) : (mfs a I).set 2 (.int (iI v)) = mfs a (va_up I 2 v) := rfl
theorem mfs_23 (a : Nat → Nat) (I : Nat → Int) (v : Int) : (mfs a I).set 23 (.int (iI v)) = mfs a (va_up I 23 v) := rfl
theorem mfs_24 (a : Nat → Nat) (I : Nat → Int) (v : Int) : (mfs a I).set 24 (.int (iI v)) = mfs a (va_up I 24 v) := rfl
theorem mfs_27 (a : Nat → Nat) (I : Nat → Int) (v : Int) : (mfs a I).set 27 (.int (iI v)) = mfs a (va_up I 27 v) := rfl
theorem mcF_it (X : gX) (a : Nat → Nat) {k : Nat} (h : 30 ≤ k ∧ k ≤ 35 ∨ 40 ≤ k ∧ k ≤ 43) (v : Int → Int) : mIs k = true ∧ mcF X a k v = gI (X.2.1 0) (if k ≤ 35 then 2500 else 12) v := by
  rcases (show k = 30 ∨ k = 31 ∨ k = 32 ∨ k = 33 ∨ k = 34 ∨ k = 35 ∨ k = 40 ∨ k = 41 ∨ k = 42 ∨ k = 43 by omega) with rfl | rfl | rfl | rfl | rfl | rfl | rfl | rfl | rfl | rfl <;> exact ⟨rfl, rfl⟩
theorem MW.it {X : gX} {σ : gS} {o : Nat} {a : Nat → Nat} {V : Nat → Int → Int} {I : Nat → Int} (h : MW X σ o a V I) {l : Int} (hl : 0 ≤ l ∧ l ≤ 3) : σ (a (40 + l.toNat)) = some (10, gI (X.2.1 0) 12 (V (40 + l.toNat))) := by
  obtain ⟨h1, h2⟩ := mcF_it X a (k := 40 + l.toNat) (by omega) (V (40 + l.toNat))
  rw [if_neg (by omega)] at h2
  rw [← h2]
  exact h.2.1 _ h1
theorem MW.its {X : gX} {σ : gS} {o : Nat} {a : Nat → Nat} {V : Nat → Int → Int} {I : Nat → Int} (h : MW X σ o a V I) {l : Int} (hl : 0 ≤ l ∧ l ≤ 3) (g : Int → Int) : MW X (gup σ (a (40 + l.toNat)) (10, gI (X.2.1 0) 12 g)) o a (va_up V (40 + l.toNat) g) I := by
  obtain ⟨h1, h2⟩ := mcF_it X a (k := 40 + l.toNat) (by omega) g
  rw [if_neg (by omega)] at h2
  rw [← h2]
  exact h.set _ h1 g
theorem MW.rw {X : gX} {σ : gS} {o : Nat} {a : Nat → Nat} {V : Nat → Int → Int} {I : Nat → Int} (h : MW X σ o a V I) {l : Int} (hl : 0 ≤ l ∧ l ≤ 5) : σ (a (30 + l.toNat)) = some (10, gI (X.2.1 0) 2500 (V (30 + l.toNat))) := by
  obtain ⟨h1, h2⟩ := mcF_it X a (k := 30 + l.toNat) (by omega) (V (30 + l.toNat))
  rw [if_pos (by omega)] at h2
  rw [← h2]
  exact h.2.1 _ h1
theorem MW.rws {X : gX} {σ : gS} {o : Nat} {a : Nat → Nat} {V : Nat → Int → Int} {I : Nat → Int} (h : MW X σ o a V I) {l : Int} (hl : 0 ≤ l ∧ l ≤ 5) (g : Int → Int) : MW X (gup σ (a (30 + l.toNat)) (10, gI (X.2.1 0) 2500 g)) o a (va_up V (30 + l.toNat) g) I := by
  obtain ⟨h1, h2⟩ := mcF_it X a (k := 30 + l.toNat) (by omega) g
  rw [if_pos (by omega)] at h2
  rw [← h2]
  exact h.set _ h1 g
