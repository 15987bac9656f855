/-! rows told by what is in them -/
set_option maxRecDepth 100000
def inQ (n : Nat) (cd : Nat → Int) (v : Int) : Prop := ∃ i, i < n ∧ cd i = v
theorem insQ_in {n k : Nat} {x : Int} {cd : Nat → Int} (hk : k ≤ n) (v : Int) : inQ (n + 1) (insQ k x cd) v ↔ inQ n cd v ∨ v = x := by
  constructor
  · rintro ⟨i, hi, rfl⟩
    rcases Nat.lt_trichotomy i k with e | e | e
    · exact Or.inl ⟨i, by omega, (insQ_lt e).symm⟩
    · rw [e, insQ_eq]; exact Or.inr rfl
    · exact Or.inl ⟨i - 1, by omega, (insQ_gt e).symm⟩
  · rintro (⟨i, hi, rfl⟩ | rfl)
    · by_cases e : i < k
      · exact ⟨i, by omega, insQ_lt e⟩
      · exact ⟨i + 1, by omega, by rw [insQ_gt (by omega)]; rfl⟩
    · exact ⟨k, by omega, insQ_eq⟩
theorem delQ_in {n k : Nat} {cd : Nat → Int} (h : ∀ i j, i < j → j < n → cd i < cd j) (hk : k < n) (v : Int) : inQ (n - 1) (delQ k cd) v ↔ inQ n cd v ∧ v ≠ cd k := by
  constructor
  · rintro ⟨i, hi, rfl⟩
    unfold delQ
    split
    · rename_i e
      have := h i k e hk
      exact ⟨⟨i, by omega, rfl⟩, by omega⟩
    · rename_i e
      have := h k (i + 1) (by omega) (by omega)
      exact ⟨⟨i + 1, by omega, rfl⟩, by omega⟩
  · rintro ⟨⟨i, hi, rfl⟩, hne⟩
    by_cases e : i < k
    · exact ⟨i, by omega, by unfold delQ; rw [if_pos e]⟩
    · have e2 : i ≠ k := fun q => hne (by rw [q])
      exact ⟨i - 1, by omega, by unfold delQ; rw [if_neg (by omega), show i - 1 + 1 = i by omega]⟩
/-- two rising rows that hold the same are the same -/
theorem srtU {n m : Nat} {c d : Nat → Int} (hc : ∀ i j, i < j → j < n → c i < c j) (hd : ∀ i j, i < j → j < m → d i < d j) (he : ∀ v, inQ n c v ↔ inQ m d v) : n = m ∧ ∀ i, i < n → c i = d i := by
  have key : ∀ i, i < n → i < m ∧ c i = d i := by
    intro i
    induction i using Nat.strongRecOn with
    | ind i ih =>
      intro hi
      obtain ⟨j, hj, ej⟩ := (he (c i)).mp ⟨i, hi, rfl⟩
      -- j isn't below i
      have h1 : ¬ j < i := by
        intro hji
        have := (ih j hji (by omega)).2
        have := hc j i hji hi
        omega
      by_cases e : j = i
      · rw [e] at hj ej; exact ⟨hj, ej.symm⟩
      · -- d i comes from some place k of c
        exfalso
        have him : i < m := by omega
        obtain ⟨k, hk, ek⟩ := (he (d i)).mpr ⟨i, him, rfl⟩
        have hdi : d i < d j := hd i j (by omega) hj
        have hki : ¬ k < i := by
          intro q
          have q2 := (ih k q hk).2
          have q3 := hd k i q him
          omega
        by_cases e2 : k = i
        · rw [e2] at ek; omega
        · have := hc i k (by omega) hk
          omega
  refine ⟨?_, fun i hi => (key i hi).2⟩
  apply Classical.byContradiction
  intro hne
  have hle : n ≤ m := by
    apply Classical.byContradiction
    intro q
    have := (key m (by omega)).1
    omega
  obtain ⟨k, hk, ek⟩ := (he (d n)).mpr ⟨n, by omega, rfl⟩
  have h1 := (key k hk).2
  have h2 := hd k n hk (by omega)
  omega
section SWM
variable {X : gX} {σ σ' : gS} {tg sa n : Nat} {cd : Nat → Int} {l : Launch}
theorem mT_add (h : SetW X σ tg sa n cd) {κ : Nat} {c9 : Int} (hκ : σ κ = some (5, gO 11 [.int (iI c9)])) (hc : 0 ≤ c9 ∧ c9 ≤ 1023) : gMet l X yJ2_add cJ2_add 2 (some .boolean) 7 1 6 158 σ [.ref sa, .ref κ]
    (oI (fun r σ' => gKeep (fun t => t = tg) σ σ' ∧ ∃ n2 cd2, SetW X σ' tg sa n2 cd2 ∧ (∀ v, inQ n2 cd2 v ↔ inQ n cd v ∨ v = c9) ∧ (n2 = n ∧ inQ n cd c9 ∨ n2 = n + 1 ∧ ¬ inQ n cd c9))) := by
  have hinc := h.inc
  refine (mS_add h hκ hc).mono (fun v σ' hp => ?_)
  obtain ⟨r1, rfl, kp, hp⟩ := hp
  refine ⟨r1, rfl, kp, ?_⟩
  rcases hp with ⟨e, ⟨i, hi, hci⟩, hS⟩ | ⟨e, k, hk, h1, h2, hS⟩
  · refine ⟨n, cd, hS, fun v => ⟨Or.inl, fun q => q.elim id (fun q => ⟨i, hi, by rw [q]; exact hci⟩)⟩, Or.inl ⟨rfl, i, hi, hci⟩⟩
  · refine ⟨n + 1, insQ k c9 cd, hS, fun v => insQ_in hk v, Or.inr ⟨rfl, ?_⟩⟩
    rintro ⟨i, hi, hci⟩
    by_cases q : i < k
    · have := h1 i q; omega
    · have := h2 i (by omega) hi; omega
theorem mT_remove (h : SetW X σ tg sa n cd) {κ : Nat} {c9 : Int} (hκ : σ κ = some (5, gO 11 [.int (iI c9)])) (hc : 0 ≤ c9 ∧ c9 ≤ 1023) : gMet l X yJ2_remove cJ2_remove 2 (some .boolean) 5 0 0 110 σ [.ref sa, .ref κ]
    (oI (fun r σ' => gKeep (fun t => t = tg) σ σ' ∧ ∃ n2 cd2, SetW X σ' tg sa n2 cd2 ∧ (∀ v, inQ n2 cd2 v ↔ inQ n cd v ∧ v ≠ c9) ∧ (r = 0 ∧ n2 = n ∧ ¬ inQ n cd c9 ∨ r = 1 ∧ n2 + 1 = n ∧ inQ n cd c9))) := by
  have hinc := h.inc
  refine (mS_remove h hκ hc).mono (fun v σ' hp => ?_)
  obtain ⟨r1, rfl, kp, hp⟩ := hp
  refine ⟨r1, rfl, kp, ?_⟩
  rcases hp with ⟨e, hn, hS⟩ | ⟨e, k, hk, hck, hS⟩
  · refine ⟨n, cd, hS, fun v => ⟨fun q => ⟨q, fun q2 => ?_⟩, And.left⟩, Or.inl ⟨e, rfl, ?_⟩⟩
    · obtain ⟨i, hi, hci⟩ := q
      exact hn i hi (by rw [hci, q2])
    · rintro ⟨i, hi, hci⟩; exact hn i hi hci
  · refine ⟨n - 1, delQ k cd, hS, fun v => by rw [delQ_in hinc hk, hck], Or.inr ⟨e, by omega, k, hk, hck⟩⟩
theorem mT_contains (h : SetW X σ tg sa n cd) {κ : Nat} {c9 : Int} (hκ : σ κ = some (5, gO 11 [.int (iI c9)])) (hc : 0 ≤ c9 ∧ c9 ≤ 1023) : gMet l X yJ2_contains cJ2_contains 2 (some .boolean) 5 0 0 108 σ [.ref sa, .ref κ] (oI (fun r σ' => (r = 1 ∧ inQ n cd c9 ∨ r = 0 ∧ ¬ inQ n cd c9) ∧ σ = σ')) := by
  refine (mS_contains h hκ hc).mono (fun v σ' hp => ?_)
  obtain ⟨r1, rfl, hp, rfl⟩ := hp
  refine ⟨r1, rfl, ?_, rfl⟩
  rcases hp with ⟨e, h1⟩ | ⟨e, h1⟩
  · exact Or.inl ⟨e, h1⟩
  · exact Or.inr ⟨e, fun ⟨i, hi, q⟩ => h1 i hi q⟩
end SWM
