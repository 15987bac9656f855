/-! java.util.TreeMap's cells -/
set_option maxRecDepth 100000
def teF (K : Nat → Nat) (Vv l r p : Nat → Option Nat) (C : Nat → Int) (a : Nat) : List Value := [.ref (K a), va_rf (Vv a), va_rf (l a), va_rf (r a), va_rf (p a), .int (iI (C a))]
def tmF (rt es ks : Option Nat) (sz md : Int) : List Value := [.null, .null, .null, va_rf rt, .int (iI sz), .int (iI md), va_rf es, va_rf ks, .null]
/-- the map's object m and its entries (those of D), owned by tg -/
def TH (σ : gS) (tg m : Nat) (D : Nat → Prop) (K : Nat → Nat) (Vv l r p : Nat → Option Nat) (C : Nat → Int) (rt es ks : Option Nat) (sz md : Int) : Prop :=
  σ m = some (tg, gO 13 (tmF rt es ks sz md)) ∧ (∀ a, D a → σ a = some (tg, gO 18 (teF K Vv l r p C a))) ∧ ∀ a, D a → C a = 0 ∨ C a = 1
def cO (C : Nat → Int) (o : Option Nat) : Int := match o with
  | none => 1
  | some a => C a
def cUp (C : Nat → Int) (o : Option Nat) (v : Int) : Nat → Int := match o with
  | none => C
  | some a => va_up C a v
theorem cUp_0 {C : Nat → Int} {o : Option Nat} {q : Nat} (h : C q = 0) : cUp C o 0 q = 0 := by
  cases o with
  | none => exact h
  | some a =>
    show va_up C a 0 q = 0
    by_cases e : q = a
    · rw [e, va_up_self]
    · rw [va_up_ne _ _ e]; exact h
theorem cO_r {C : Nat → Int} {o : Option Nat} (h : ∀ a, o = some a → C a = 0 ∨ C a = 1) : cO C o = 0 ∨ cO C o = 1 := by
  cases o with
  | none => exact Or.inr rfl
  | some a => exact h a rfl
theorem cO_some {C : Nat → Int} {o : Option Nat} (h : ¬ cO C o = 1) : ∃ a, o = some a := by
  cases o with
  | none => exact absurd rfl h
  | some a => exact ⟨a, rfl⟩
section THS
variable {σ : gS} {tg m : Nat} {D : Nat → Prop} {K : Nat → Nat} {Vv l r p : Nat → Option Nat} {C : Nat → Int} {rt es ks : Option Nat} {sz md : Int}
theorem TH.ne (h : TH σ tg m D K Vv l r p C rt es ks sz md) {a : Nat} (ha : D a) : m ≠ a := by
  intro e
  have h1 := h.1
  rw [e, h.2.1 a ha] at h1
  simp at h1
theorem TH.keep {tg' : Nat → Prop} {σ' : gS} (h : TH σ tg m D K Vv l r p C rt es ks sz md) (hk : gKeep tg' σ σ') (ht : ¬ tg' tg) : TH σ' tg m D K Vv l r p C rt es ks sz md :=
  ⟨hk _ _ _ h.1 ht, fun a ha => hk _ _ _ (h.2.1 a ha) ht, h.2.2⟩
theorem TH.sub {D' : Nat → Prop} (h : TH σ tg m D K Vv l r p C rt es ks sz md) (hs : ∀ a, D' a → D a) : TH σ tg m D' K Vv l r p C rt es ks sz md :=
  ⟨h.1, fun a ha => h.2.1 a (hs a ha), fun a ha => h.2.2 a (hs a ha)⟩
theorem gup_gup {σ : gS} {a : Nat} {x y : Nat × gE} : gup (gup σ a x) a y = gup σ a y := by
  funext b
  unfold gup
  split <;> rfl
/-- an entry more -/
theorem TH.add {D' : Nat → Prop} (h : TH σ tg m D K Vv l r p C rt es ks sz md) {z κ : Nat} {v q : Option Nat} (hzm : m ≠ z) (hD : ∀ a, D' a → a = z ∨ D a) : TH (gup σ z (tg, gO 18 [.ref κ, va_rf v, .null, .null, va_rf q, .int (iI 1)])) tg m D' (va_up K z κ) (va_up Vv z v) (va_up l z none) (va_up r z none) (va_up p z q) (va_up C z 1) rt es ks sz md := by
  refine ⟨by rw [gup_n hzm]; exact h.1, fun a ha => ?_, fun a ha => ?_⟩
  · by_cases e : a = z
    · subst e
      rw [gup_s]
      unfold teF
      rw [va_up_self, va_up_self, va_up_self, va_up_self, va_up_self, va_up_self]
      rfl
    · rw [gup_n e, h.2.1 a ((hD a ha).resolve_left e)]
      unfold teF
      rw [va_up_ne _ _ e, va_up_ne _ _ e, va_up_ne _ _ e, va_up_ne _ _ e, va_up_ne _ _ e, va_up_ne _ _ e]
  · by_cases e : a = z
    · rw [e, va_up_self]; exact Or.inr rfl
    · rw [va_up_ne _ _ e]; exact h.2.2 a ((hD a ha).resolve_left e)
theorem TH.map (h : TH σ tg m D K Vv l r p C rt es ks sz md) {rt' es' ks' : Option Nat} {sz' md' : Int} {fs : List Value} (hf : fs = tmF rt' es' ks' sz' md') : TH (gup σ m (tg, gO 13 fs)) tg m D K Vv l r p C rt' es' ks' sz' md' := by
  subst hf
  exact ⟨gup_s, fun a ha => by rw [gup_n (h.ne ha).symm]; exact h.2.1 a ha, h.2.2⟩
theorem TH.ent (h : TH σ tg m D K Vv l r p C rt es ks sz md) {a : Nat} (ha : D a) {K' : Nat → Nat} {Vv' l' r' p' : Nat → Option Nat} {C' : Nat → Int} {fs : List Value} (hf : fs = teF K' Vv' l' r' p' C' a) (ho : ∀ b, b ≠ a → teF K' Vv' l' r' p' C' b = teF K Vv l r p C b) (hC : ∀ b, D b → C' b = 0 ∨ C' b = 1) :
    TH (gup σ a (tg, gO 18 fs)) tg m D K' Vv' l' r' p' C' rt es ks sz md := by
  subst hf
  refine ⟨by rw [gup_n (h.ne ha)]; exact h.1, fun b hb => ?_, hC⟩
  by_cases e : b = a
  · subst e; exact gup_s
  · rw [gup_n e, ho b e]; exact h.2.1 b hb
theorem TH.pK (h : TH σ tg m D K Vv l r p C rt es ks sz md) {a : Nat} (ha : D a) (v : Nat) : TH (gup σ a (tg, gO 18 ((teF K Vv l r p C a).set 0 (.ref v)))) tg m D (va_up K a v) Vv l r p C rt es ks sz md :=
  h.ent ha (by unfold teF; rw [va_up_self]; rfl) (fun b e => by unfold teF; rw [va_up_ne _ _ e]) h.2.2
theorem TH.pV (h : TH σ tg m D K Vv l r p C rt es ks sz md) {a : Nat} (ha : D a) (v : Option Nat) : TH (gup σ a (tg, gO 18 ((teF K Vv l r p C a).set 1 (va_rf v)))) tg m D K (va_up Vv a v) l r p C rt es ks sz md :=
  h.ent ha (by unfold teF; rw [va_up_self]; rfl) (fun b e => by unfold teF; rw [va_up_ne _ _ e]) h.2.2
theorem TH.pL (h : TH σ tg m D K Vv l r p C rt es ks sz md) {a : Nat} (ha : D a) (v : Option Nat) : TH (gup σ a (tg, gO 18 ((teF K Vv l r p C a).set 2 (va_rf v)))) tg m D K Vv (va_up l a v) r p C rt es ks sz md :=
  h.ent ha (by unfold teF; rw [va_up_self]; rfl) (fun b e => by unfold teF; rw [va_up_ne _ _ e]) h.2.2
theorem TH.pR (h : TH σ tg m D K Vv l r p C rt es ks sz md) {a : Nat} (ha : D a) (v : Option Nat) : TH (gup σ a (tg, gO 18 ((teF K Vv l r p C a).set 3 (va_rf v)))) tg m D K Vv l (va_up r a v) p C rt es ks sz md :=
  h.ent ha (by unfold teF; rw [va_up_self]; rfl) (fun b e => by unfold teF; rw [va_up_ne _ _ e]) h.2.2
theorem TH.pP (h : TH σ tg m D K Vv l r p C rt es ks sz md) {a : Nat} (ha : D a) (v : Option Nat) : TH (gup σ a (tg, gO 18 ((teF K Vv l r p C a).set 4 (va_rf v)))) tg m D K Vv l r (va_up p a v) C rt es ks sz md :=
  h.ent ha (by unfold teF; rw [va_up_self]; rfl) (fun b e => by unfold teF; rw [va_up_ne _ _ e]) h.2.2
theorem TH.pC (h : TH σ tg m D K Vv l r p C rt es ks sz md) {a : Nat} (ha : D a) (v : Int) (hv : v = 0 ∨ v = 1) : TH (gup σ a (tg, gO 18 ((teF K Vv l r p C a).set 5 (.int (iI v))))) tg m D K Vv l r p (va_up C a v) rt es ks sz md :=
  h.ent ha (by unfold teF; rw [va_up_self]; rfl) (fun b e => by unfold teF; rw [va_up_ne _ _ e]) (fun b hb => by by_cases e : b = a; (rw [e, va_up_self]; exact hv); (rw [va_up_ne _ _ e]; exact h.2.2 b hb))
end THS
