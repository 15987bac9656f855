/-! rank: the fibres' counts, the order's law -/
set_option maxRecDepth 100000
def fcZ (T : Int → Int) (n : Nat) (a : Int) : Int := ((fibL T a n).length : Int)
theorem fcZ_r (T : Int → Int) (n : Nat) (a : Int) : 0 ≤ fcZ T n a ∧ fcZ T n a ≤ n := by
  have := fibL_len T a n
  unfold fcZ
  omega
theorem fcZ_y {T : Int → Int} {x y v : Int} {n : Nat} (hn : (n : Int) = 32 * x + y) (hy : 0 ≤ y ∧ y ≤ 31) (h : kepZ T x y = v) : fcZ T (n + 1) = iup (fcZ T n) v (fcZ T n v + 1) := by
  funext a
  by_cases e : a = v
  · rw [e, iup_s]
    unfold fcZ
    rw [fibL_y hn hy h, List.length_append]
    rfl
  · rw [iup_n e]
    unfold fcZ
    rw [fibL_n hn hy (by rw [h]; exact fun q => e q.symm)]
theorem FW.cong {σ : gS} {S S' : Int → Int} {fa : Int → Nat} (h : FW σ S fa) (e : ∀ a, 0 ≤ a → a ≤ 31 → S a = S' a) : FW σ S' fa := fun a h0 h1 => by
  have := h a h0 h1
  rw [e a h0 h1] at this
  exact this
theorem FW.inj {σ : gS} {S : Int → Int} {fa : Int → Nat} (h : FW σ S fa) {a c : Int} (h0 : 0 ≤ a ∧ a ≤ 31) (h1 : 0 ≤ c ∧ c ≤ 31) (e : fa a = fa c) : a = c := by
  have e1 := h a h0.1 h0.2
  have e2 := h c h1.1 h1.2
  rw [e, e2] at e1
  have e3 : iI c = iI a := by
    have q := (Prod.mk.inj (Option.some.inj e1)).2
    simp only [gO, Sum.inl.injEq, Sum.inr.injEq, Prod.mk.injEq, List.cons.injEq, Value.int.injEq, true_and, and_true] at q
    exact q.1
  have e4 := congrArg Int32.toInt e3
  have r1 : (iI a).toInt = a := iI_toInt (by omega)
  have r2 : (iI c).toInt = c := iI_toInt (by omega)
  omega
theorem FW.put {σ : gS} {S : Int → Int} {fa : Int → Nat} (h : FW σ S fa) {v : Int} (hv : 0 ≤ v ∧ v ≤ 31) (x : Int) : FW (gup σ (fa v) (22, gO 7 [.int (iI v), .int (iI x)])) (iup S v x) fa := fun a h0 h1 => by
  by_cases e : a = v
  · rw [e, gup_s, iup_s]
  · rw [gup_n (fun q => e (h.inj ⟨h0, h1⟩ hv q)), iup_n e]
    exact h a h0 h1
/-- fibres made so far -/
def FPW (σ : gS) (n : Int) (fa : Int → Nat) : Prop := ∀ a : Int, 0 ≤ a → a < n → σ (fa a) = some (22, gO 7 [.int (iI a), .int (iI 0)])
theorem FPW.keep {tg : Nat → Prop} {σ σ' : gS} {n : Int} {fa : Int → Nat} (h : FPW σ n fa) (hk : gKeep tg σ σ') (ht : ¬ tg 22) : FPW σ' n fa := fun a h0 h1 => hk _ _ _ (h a h0 h1) ht
theorem FPW.add {σ : gS} {n : Int} {fa : Int → Nat} {z : Nat} (h : FPW σ n fa) (hz : σ z = some (22, gO 7 [.int (iI n), .int (iI 0)])) : FPW σ (n + 1) (iup fa n z) := fun a h0 h1 => by
  by_cases e : a = n
  · rw [e, iup_s]; exact hz
  · rw [iup_n e]; exact h a h0 (by omega)
theorem FPW.W {σ : gS} {n : Int} {fa : Int → Nat} (h : FPW σ n fa) (hn : 32 ≤ n) (T : Int → Int) : FW σ (fcZ T 0) fa := fun a h0 h1 => h a h0 (by omega)
noncomputable def ctP (P : Int → Prop) : Nat → Int
  | 0 => 0
  | n + 1 => ctP P n + (@ite Int (P n) (Classical.propDecidable _) 1 0)
theorem ctP_all {P : Int → Prop} (N : Nat) (h : ∀ a : Nat, a < N → P a) : ctP P N = N := by
  induction N with
  | zero => rfl
  | succ N ih => rw [ctP, ih (fun a ha => h a (by omega)), if_pos (h N (by omega))]; omega
theorem ctP_rm {P P' : Int → Prop} {x : Int} (h : ∀ a, P' a ↔ P a ∧ a ≠ x) (hx : P x) (h0 : 0 ≤ x) (N : Nat) : ctP P' N = ctP P N - (if x < N then 1 else 0) := by
  induction N with
  | zero => rw [if_neg (by omega)]; rfl
  | succ N ih =>
    rw [ctP, ctP, ih]
    by_cases e : (N : Int) = x
    · rw [if_neg (show ¬ x < (N : Int) by omega), if_pos (show x < ((N + 1 : Nat) : Int) by omega), if_neg (show ¬ P' N from fun q => ((h _).mp q).2 e), if_pos (show P N by rw [e]; exact hx)]; omega
    · have e2 : P' N ↔ P N := ⟨fun q => ((h _).mp q).1, fun q => (h _).mpr ⟨q, e⟩⟩
      by_cases e3 : P N
      · rw [if_pos (e2.mpr e3), if_pos e3]
        by_cases e4 : x < (N : Int)
        · rw [if_pos e4, if_pos (show x < ((N + 1 : Nat) : Int) by omega)]; omega
        · rw [if_neg e4, if_neg (show ¬ x < ((N + 1 : Nat) : Int) by omega)]; omega
      · rw [if_neg (fun q => e3 (e2.mp q)), if_neg e3]
        by_cases e4 : x < (N : Int)
        · rw [if_pos e4, if_pos (show x < ((N + 1 : Nat) : Int) by omega)]; omega
        · rw [if_neg e4, if_neg (show ¬ x < ((N + 1 : Nat) : Int) by omega)]; omega
theorem ahA_ct {S : Int → Int} {k : Int} {P : Int → Prop} (N : Nat) (h : ∀ a : Nat, a < N → ((S k < S a ∨ S a = S k ∧ (a : Int) < k) ↔ ¬ P a)) : ahA S k N = N - ctP P N := by
  induction N with
  | zero => rfl
  | succ N ih =>
    rw [ahA, ctP, ih (fun a ha => h a (by omega))]
    by_cases e : P N
    · rw [if_pos e, if_neg (fun q => (h N (by omega)).mp q e)]; omega
    · rw [if_neg e, if_pos ((h N (by omega)).mpr e)]; omega
/-- what of the queue is left, once some were taken -/
def rkQ (S : Int → Int) (n : Nat) (f : Nat → Int) : Prop :=
  hOk S n f ∧ hInj n f ∧ (∀ v, inQ n f v → 0 ≤ v ∧ v ≤ 31) ∧ ctP (inQ n f) 32 = n ∧ ∀ a c, 0 ≤ a → a ≤ 31 → ¬ inQ n f a → inQ n f c → aH S a c
theorem rkQ.ok {S : Int → Int} {n : Nat} {f : Nat → Int} (h : rkQ S n f) : hOk S n f := h.1
theorem rkQ.inj {S : Int → Int} {n : Nat} {f : Nat → Int} (h : rkQ S n f) : hInj n f := h.2.1
theorem rkQ.rng {S : Int → Int} {n : Nat} {f : Nat → Int} (h : rkQ S n f) : ∀ v, inQ n f v → 0 ≤ v ∧ v ≤ 31 := h.2.2.1
theorem rkQ.cnt {S : Int → Int} {n : Nat} {f : Nat → Int} (h : rkQ S n f) : ctP (inQ n f) 32 = n := h.2.2.2.1
theorem rkQ.out {S : Int → Int} {n : Nat} {f : Nat → Int} (h : rkQ S n f) : ∀ a c, 0 ≤ a → a ≤ 31 → ¬ inQ n f a → inQ n f c → aH S a c := h.2.2.2.2
theorem rkQ.first {S : Int → Int} {f : Nat → Int} (ok : hOk S 32 f) (inj : hInj 32 f) (h : ∀ v, inQ 32 f v ↔ 0 ≤ v ∧ v < 32) : rkQ S 32 f :=
  ⟨ok, inj, fun v q => by have := (h v).mp q; omega, ctP_all 32 (fun a ha => (h _).mpr (by omega)), fun a c h0 h1 q _ => absurd ((h a).mpr (by omega)) q⟩
theorem rkQ.head {S : Int → Int} {m : Nat} {f : Nat → Int} (h : rkQ S (m + 1) f) {c : Int} (hc : inQ (m + 1) f c) (ne : c ≠ f 0) : aH S (f 0) c := by
  obtain ⟨i, hi, rfl⟩ := hc
  exact (aH.or (fun q => ne q.symm)).resolve_right (h.ok.root i hi)
theorem rkQ.next {S : Int → Int} {m : Nat} {f f' : Nat → Int} (h : rkQ S (m + 1) f) (ok : hOk S m f') (inj : hInj m f') (hin : ∀ x, inQ m f' x ↔ inQ (m + 1) f x ∧ x ≠ f 0) : rkQ S m f' := by
  have h00 := h.rng (f 0) ⟨0, by omega, rfl⟩
  refine ⟨ok, inj, fun v q => h.rng v ((hin v).mp q).1, ?_, fun a c h0 h1 q1 q2 => ?_⟩
  · rw [ctP_rm hin ⟨0, by omega, rfl⟩ h00.1 32, h.cnt, if_pos (by omega)]; omega
  · have q3 := (hin c).mp q2
    by_cases e : inQ (m + 1) f a
    · by_cases e2 : a = f 0
      · rw [e2]; exact h.head q3.1 q3.2
      · exact absurd ((hin a).mpr ⟨e, e2⟩) q1
    · exact h.out a c h0 h1 e q3.1
theorem rkQ.rank {S : Int → Int} {m : Nat} {f : Nat → Int} (h : rkQ S (m + 1) f) : ahA S (f 0) 32 = 32 - ((m : Int) + 1) := by
  have e : ctP (inQ (m + 1) f) 32 = ((m + 1 : Nat) : Int) := h.cnt
  rw [ahA_ct (P := inQ (m + 1) f) 32 (fun a ha => ?_), e]
  · rfl
  constructor
  · intro q1 q2
    by_cases e : (a : Int) = f 0
    · rw [e] at q1; omega
    · have := h.head q2 e
      unfold aH at this
      omega
  · intro q
    have := h.out a (f 0) (by omega) (by omega) q ⟨0, by omega, rfl⟩
    unfold aH at this
    omega
