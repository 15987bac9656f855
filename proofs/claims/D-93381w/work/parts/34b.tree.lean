/-! a map's tree, told by places: ad i the node at place i, ps its place; l r p its children and parent; below a node stand the places lo .. hi - 1 -/
set_option maxRecDepth 100000
def tIn (n : Nat) (ad ps : Nat → Nat) (a : Nat) : Prop := ps a < n ∧ ad (ps a) = a
def tOk (n : Nat) (ad ps : Nat → Nat) (l r p : Nat → Option Nat) (lo hi : Nat → Nat) (rt : Option Nat) : Prop :=
  (∀ i, i < n → ps (ad i) = i) ∧ ((rt = none → n = 0) ∧ ∀ a, rt = some a → tIn n ad ps a ∧ lo a = 0 ∧ hi a = n ∧ p a = none) ∧
  ∀ a, tIn n ad ps a → (lo a ≤ ps a ∧ ps a < hi a ∧ hi a ≤ n) ∧
    (l a = none → lo a = ps a) ∧ (∀ b, l a = some b → tIn n ad ps b ∧ lo b = lo a ∧ hi b = ps a ∧ p b = some a) ∧
    (r a = none → hi a = ps a + 1) ∧ (∀ b, r a = some b → tIn n ad ps b ∧ lo b = ps a + 1 ∧ hi b = hi a ∧ p b = some a) ∧
    (p a = none → rt = some a) ∧ ∀ b, p a = some b → tIn n ad ps b ∧ (l b = some a ∨ r b = some a)
theorem tIn.eq {n : Nat} {ad ps : Nat → Nat} {a b : Nat} (ha : tIn n ad ps a) (hb : tIn n ad ps b) (h : ps a = ps b) : a = b := by
  rw [← ha.2, ← hb.2, h]
theorem tIn.ne {ps : Nat → Nat} {a b : Nat} (h : ps a ≠ ps b) : a ≠ b := fun e => h (by rw [e])
theorem some_ne {a b : Nat} (h : a ≠ b) : (some a : Option Nat) ≠ some b := fun e => h (Option.some.inj e)
section TOK
variable {n : Nat} {ad ps : Nat → Nat} {l r p : Nat → Option Nat} {lo hi : Nat → Nat} {rt : Option Nat}
theorem tOk.num (h : tOk n ad ps l r p lo hi rt) {a : Nat} (ha : tIn n ad ps a) : lo a ≤ ps a ∧ ps a < hi a ∧ hi a ≤ n := (h.2.2 a ha).1
theorem tOk.l0 (h : tOk n ad ps l r p lo hi rt) {a : Nat} (ha : tIn n ad ps a) (e : l a = none) : lo a = ps a := (h.2.2 a ha).2.1 e
theorem tOk.l1 (h : tOk n ad ps l r p lo hi rt) {a b : Nat} (ha : tIn n ad ps a) (e : l a = some b) : tIn n ad ps b ∧ lo b = lo a ∧ hi b = ps a ∧ p b = some a := (h.2.2 a ha).2.2.1 b e
theorem tOk.r0 (h : tOk n ad ps l r p lo hi rt) {a : Nat} (ha : tIn n ad ps a) (e : r a = none) : hi a = ps a + 1 := (h.2.2 a ha).2.2.2.1 e
theorem tOk.r1 (h : tOk n ad ps l r p lo hi rt) {a b : Nat} (ha : tIn n ad ps a) (e : r a = some b) : tIn n ad ps b ∧ lo b = ps a + 1 ∧ hi b = hi a ∧ p b = some a := (h.2.2 a ha).2.2.2.2.1 b e
theorem tOk.p0 (h : tOk n ad ps l r p lo hi rt) {a : Nat} (ha : tIn n ad ps a) (e : p a = none) : rt = some a := (h.2.2 a ha).2.2.2.2.2.1 e
theorem tOk.p1 (h : tOk n ad ps l r p lo hi rt) {a b : Nat} (ha : tIn n ad ps a) (e : p a = some b) : tIn n ad ps b ∧ (l b = some a ∨ r b = some a) := (h.2.2 a ha).2.2.2.2.2.2 b e
theorem tOk.rx (h : tOk n ad ps l r p lo hi rt) {a : Nat} (e : rt = some a) : tIn n ad ps a ∧ lo a = 0 ∧ hi a = n ∧ p a = none := h.2.1.2 a e
theorem tOk.lp (h : tOk n ad ps l r p lo hi rt) {a b : Nat} (ha : tIn n ad ps a) (e : l a = some b) : ps b < ps a := by
  have h1 := h.l1 ha e
  have h2 := h.num h1.1
  omega
theorem tOk.rp (h : tOk n ad ps l r p lo hi rt) {a b : Nat} (ha : tIn n ad ps a) (e : r a = some b) : ps a < ps b := by
  have h1 := h.r1 ha e
  have h2 := h.num h1.1
  omega
/-- a node that isn't the root has a parent -/
theorem tOk.par (h : tOk n ad ps l r p lo hi rt) {a : Nat} (ha : tIn n ad ps a) (e : ¬ some a = rt) : ∃ q, p a = some q ∧ tIn n ad ps q ∧ (l q = some a ∨ r q = some a) := by
  cases hq : p a with
  | none => exact absurd (h.p0 ha hq).symm e
  | some q => exact ⟨q, rfl, h.p1 ha hq⟩
theorem tOk.at (h : tOk n ad ps l r p lo hi rt) {i : Nat} (hi : i < n) : tIn n ad ps (ad i) ∧ ps (ad i) = i := by
  have e := h.1 i hi
  exact ⟨⟨by rw [e]; exact hi, by rw [e]⟩, e⟩

theorem tOk.up (h : tOk n ad ps l r p lo hi rt) {a q : Nat} (ha : tIn n ad ps a) (e : p a = some q) : lo q ≤ lo a ∧ hi a ≤ hi q ∧ (lo q < lo a ∨ hi a < hi q) := by
  obtain ⟨hq, hs⟩ := h.p1 ha e
  have nq := h.num hq
  rcases hs with k | k
  · have := h.l1 hq k; omega
  · have := h.r1 hq k; omega
theorem tOk.root (h : tOk n ad ps l r p lo hi rt) {a : Nat} (ha : tIn n ad ps a) : ∃ q, rt = some q := by
  cases hr : rt with
  | none => have := h.2.1.1 hr; have := ha.1; omega
  | some q => exact ⟨q, rfl⟩

theorem tOk.rotL (h : tOk n ad ps l r p lo hi rt) {a b : Nat} (ha : tIn n ad ps a) (hab : r a = some b) {l' r' p' : Nat → Option Nat} {rt' : Option Nat}
    (hl : ∀ z, tIn n ad ps z → l' z = if z = b then some a else if l z = some a then some b else l z)
    (hr : ∀ z, tIn n ad ps z → r' z = if z = a then l b else if r z = some a then some b else r z)
    (hp : ∀ z, tIn n ad ps z → p' z = if z = b then p a else if z = a then some b else if l b = some z then some a else p z)
    (hrt : rt' = if rt = some a then some b else rt) : tOk n ad ps l' r' p' (va_up lo b (lo a)) (va_up (va_up hi b (hi a)) a (ps b)) rt' := by
  obtain ⟨hb, xlo, xhi, hpb⟩ := h.r1 ha hab
  have na := h.num ha
  have nb := h.num hb
  have eab : a ≠ b := fun e => by subst e; omega
  have elo : ∀ z, (va_up lo b (lo a)) z = if z = b then lo a else lo z := by
    intro z
    by_cases e : z = b
    · rw [e, va_up_self, if_pos rfl]
    · rw [va_up_ne _ _ e, if_neg e]
  have ehi : ∀ z, (va_up (va_up hi b (hi a)) a (ps b)) z = if z = b then hi a else if z = a then ps b else hi z := by
    intro z
    by_cases e : z = a
    · subst e; rw [va_up_self, if_neg eab, if_pos rfl]
    · rw [va_up_ne _ _ e]; by_cases e2 : z = b; (rw [e2, va_up_self, if_pos rfl]); (rw [va_up_ne _ _ e2, if_neg e2, if_neg e])
  generalize va_up lo b (lo a) = lo2 at elo ⊢
  generalize va_up (va_up hi b (hi a)) a (ps b) = hi2 at ehi ⊢
  have loa : lo2 a = lo a := by rw [elo, if_neg eab]
  have hia : hi2 a = ps b := by rw [ehi, if_neg eab, if_pos rfl]
  have lob : lo2 b = lo a := by rw [elo, if_pos rfl]
  have hib : hi2 b = hi a := by rw [ehi, if_pos rfl]
  have loz : ∀ z, z ≠ a → z ≠ b → lo2 z = lo z := fun z e1 e2 => by rw [elo, if_neg e2]
  have hiz : ∀ z, z ≠ a → z ≠ b → hi2 z = hi z := fun z e1 e2 => by rw [ehi, if_neg e2, if_neg e1]
  have pa' : p' a = some b := by rw [hp a ha, if_neg eab, if_pos rfl]
  have pb' : p' b = p a := by rw [hp b hb, if_pos rfl]
  have pd' : ∀ z, tIn n ad ps z → z ≠ a → z ≠ b → l b = some z → p' z = some a := fun z hz e1 e2 e3 => by rw [hp z hz, if_neg e2, if_neg e1, if_pos e3]
  have pz' : ∀ z, tIn n ad ps z → z ≠ a → z ≠ b → ¬ l b = some z → p' z = p z := fun z hz e1 e2 e3 => by rw [hp z hz, if_neg e2, if_neg e1, if_neg e3]
  have nna : ¬ l a = some a := fun e => by have := h.lp ha e; omega
  have nnb : ¬ l b = some a := fun e => by have := h.l1 hb e; omega
  have nfa : ¬ r b = some a := fun e => by have := h.r1 hb e; omega
  have near_a : l' a = l a := by rw [hl a ha, if_neg eab, if_neg nna]
  have near_b : l' b = some a := by rw [hl b hb, if_pos rfl]
  have far_a : r' a = l b := by rw [hr a ha, if_pos rfl]
  have far_b : r' b = r b := by rw [hr b hb, if_neg (fun e => eab e.symm), if_neg nfa]
  refine ⟨h.1, ⟨fun e => ?_, fun z e => ?_⟩, fun z hz => ?_⟩
  · rw [hrt] at e
    split at e
    · cases e
    · exact h.2.1.1 e
  · rw [hrt] at e
    split at e
    · rename_i hr0
      have e' : b = z := Option.some.inj e
      subst e'
      have hra := h.rx hr0
      exact ⟨hb, by rw [lob]; exact hra.2.1, by rw [hib]; exact hra.2.2.1, by rw [pb']; exact hra.2.2.2⟩
    · rename_i hr0
      have hz := h.rx e
      have za : z ≠ a := fun q => hr0 (by rw [e, q])
      have zb : z ≠ b := fun q => by rw [q, hpb] at hz; exact absurd hz.2.2.2 (by simp)
      refine ⟨hz.1, by rw [loz z za zb]; exact hz.2.1, by rw [hiz z za zb]; exact hz.2.2.1, ?_⟩
      rw [pz' z hz.1 za zb (fun q => by have := (h.l1 hb q).2.2.2; rw [hz.2.2.2] at this; cases this)]
      exact hz.2.2.2
  · by_cases za : z = a
    · subst za
      refine ⟨by rw [loa, hia]; omega, ?_⟩
      have hnear0 : l' z = none → lo2 z = ps z := fun e => by rw [near_a] at e; have := h.l0 hz e; rw [loa]; exact this
      have hnear1 : ∀ c, l' z = some c → tIn n ad ps c ∧ lo2 c = lo2 z ∧ hi2 c = ps z ∧ p' c = some z := fun c e => by
        rw [near_a] at e
        obtain ⟨c1, c2, c3, c4⟩ := h.l1 hz e
        have nc := h.num c1
        have ca : c ≠ z := tIn.ne (ps := ps) (by omega)
        have cb : c ≠ b := tIn.ne (ps := ps) (by omega)
        have cd : ¬ l b = some c := fun q => by have := (h.l1 hb q).2.2.2; rw [c4] at this; exact eab (Option.some.inj this)
        exact ⟨c1, by rw [loz c ca cb, loa]; omega, by rw [hiz c ca cb]; omega, by rw [pz' c c1 ca cb cd]; exact c4⟩
      have hfar0 : r' z = none → hi2 z = ps z + 1 := fun e => by rw [far_a] at e; have := h.l0 hb e; rw [hia]; omega
      have hfar1 : ∀ c, r' z = some c → tIn n ad ps c ∧ lo2 c = ps z + 1 ∧ hi2 c = hi2 z ∧ p' c = some z := fun c e => by
        rw [far_a] at e
        obtain ⟨c1, c2, c3, c4⟩ := h.l1 hb e
        have nc := h.num c1
        have ca : c ≠ z := tIn.ne (ps := ps) (by omega)
        have cb : c ≠ b := tIn.ne (ps := ps) (by omega)
        exact ⟨c1, by rw [loz c ca cb]; omega, by rw [hiz c ca cb, hia]; omega, pd' c c1 ca cb e⟩
      have hpar0 : p' z = none → rt' = some z := fun e => by rw [pa'] at e; cases e
      have hpar1 : ∀ c, p' z = some c → tIn n ad ps c ∧ (l' c = some z ∨ r' c = some z) := fun c e => by
        rw [pa'] at e
        have e' : b = c := Option.some.inj e
        subst e'
        exact ⟨hb, Or.inl near_b⟩
      exact ⟨hnear0, hnear1, hfar0, hfar1, hpar0, hpar1⟩
    · by_cases zb : z = b
      · subst zb
        refine ⟨by rw [lob, hib]; omega, ?_⟩
        have hnear0 : l' z = none → lo2 z = ps z := fun e => by rw [near_b] at e; cases e
        have hnear1 : ∀ c, l' z = some c → tIn n ad ps c ∧ lo2 c = lo2 z ∧ hi2 c = ps z ∧ p' c = some z := fun c e => by
          rw [near_b] at e
          have e' : a = c := Option.some.inj e
          subst e'
          exact ⟨ha, by rw [loa, lob], by rw [hia], pa'⟩
        have hfar0 : r' z = none → hi2 z = ps z + 1 := fun e => by rw [far_b] at e; have := h.r0 hz e; rw [hib]; omega
        have hfar1 : ∀ c, r' z = some c → tIn n ad ps c ∧ lo2 c = ps z + 1 ∧ hi2 c = hi2 z ∧ p' c = some z := fun c e => by
          rw [far_b] at e
          obtain ⟨c1, c2, c3, c4⟩ := h.r1 hz e
          have nc := h.num c1
          have ca : c ≠ a := tIn.ne (ps := ps) (by omega)
          have cb : c ≠ z := tIn.ne (ps := ps) (by omega)
          have cd : ¬ l z = some c := fun q => by have := h.l1 hz q; omega
          exact ⟨c1, by rw [loz c ca cb]; omega, by rw [hiz c ca cb, hib]; omega, by rw [pz' c c1 ca cb cd]; exact c4⟩
        have hpar0 : p' z = none → rt' = some z := fun e => by rw [pb'] at e; rw [hrt, if_pos (h.p0 ha e)]
        have hpar1 : ∀ c, p' z = some c → tIn n ad ps c ∧ (l' c = some z ∨ r' c = some z) := fun c e => by
          rw [pb'] at e
          obtain ⟨c1, c2⟩ := h.p1 ha e
          rcases c2 with c2 | c2
          · have ca : c ≠ a := tIn.ne (ps := ps) (by have := h.lp c1 c2; omega)
            have cb : c ≠ z := fun q => by rw [q] at c2; exact nnb c2
            refine ⟨c1, Or.inl ?_⟩
            rw [hl c c1, if_neg cb, if_pos c2]
          · have ca : c ≠ a := tIn.ne (ps := ps) (by have := h.rp c1 c2; omega)
            have cb : c ≠ z := fun q => by rw [q] at c2; exact nfa c2
            refine ⟨c1, Or.inr ?_⟩
            rw [hr c c1, if_neg ca, if_pos c2]
        exact ⟨hnear0, hnear1, hfar0, hfar1, hpar0, hpar1⟩
      · have nz := h.num hz
        refine ⟨by rw [loz z za zb, hiz z za zb]; exact nz, ?_⟩
        have hch : ∀ c, p c = some z → tIn n ad ps c → c ≠ a → c ≠ b ∧ lo2 c = lo c ∧ hi2 c = hi c ∧ p' c = some z := fun c e c1 ca => by
          have cb : c ≠ b := fun q => by rw [q, hpb] at e; exact za (Option.some.inj e).symm
          have cd : ¬ l b = some c := fun q => by have := (h.l1 hb q).2.2.2; rw [e] at this; exact zb (Option.some.inj this)
          exact ⟨cb, loz c ca cb, hiz c ca cb, by rw [pz' c c1 ca cb cd]; exact e⟩
        have el : l' z = if l z = some a then some b else l z := by rw [hl z hz, if_neg zb]
        have er : r' z = if r z = some a then some b else r z := by rw [hr z hz, if_neg za]
        refine ⟨fun e => ?_, fun c e => ?_, fun e => ?_, fun c e => ?_, fun e => ?_, fun c e => ?_⟩
        · rw [el] at e
          split at e
          · cases e
          · rw [loz z za zb]; exact h.l0 hz e
        · rw [el] at e
          split at e
          · rename_i q
            have e' : b = c := Option.some.inj e
            subst e'
            obtain ⟨-, c2, c3, c4⟩ := h.l1 hz q
            exact ⟨hb, by rw [lob, loz z za zb]; exact c2, by rw [hib]; exact c3, by rw [pb']; exact c4⟩
          · rename_i q
            obtain ⟨c1, c2, c3, c4⟩ := h.l1 hz e
            obtain ⟨-, d2, d3, d4⟩ := hch c c4 c1 (fun k => q (by rw [e, k]))
            exact ⟨c1, by rw [d2, loz z za zb]; exact c2, by rw [d3]; exact c3, d4⟩
        · rw [er] at e
          split at e
          · cases e
          · rw [hiz z za zb]; exact h.r0 hz e
        · rw [er] at e
          split at e
          · rename_i q
            have e' : b = c := Option.some.inj e
            subst e'
            obtain ⟨-, c2, c3, c4⟩ := h.r1 hz q
            exact ⟨hb, by rw [lob]; exact c2, by rw [hib, hiz z za zb]; exact c3, by rw [pb']; exact c4⟩
          · rename_i q
            obtain ⟨c1, c2, c3, c4⟩ := h.r1 hz e
            obtain ⟨-, d2, d3, d4⟩ := hch c c4 c1 (fun k => q (by rw [e, k]))
            exact ⟨c1, by rw [d2]; exact c2, by rw [d3, hiz z za zb]; exact c3, d4⟩
        · have hd : ¬ l b = some z := fun q => by rw [pd' z hz za zb q] at e; cases e
          rw [pz' z hz za zb hd] at e
          have hr0 := h.p0 hz e
          rw [hrt, if_neg (fun q => za (by rw [hr0] at q; exact Option.some.inj q))]
          exact hr0
        · by_cases hd : l b = some z
          · rw [pd' z hz za zb hd] at e
            have e' : a = c := Option.some.inj e
            subst e'
            exact ⟨ha, Or.inr (by rw [far_a]; exact hd)⟩
          · rw [pz' z hz za zb hd] at e
            obtain ⟨c1, c2⟩ := h.p1 hz e
            have hs : ¬ (some z : Option Nat) = some a := some_ne za
            refine ⟨c1, ?_⟩
            rcases c2 with c2 | c2
            · left
              have cb : c ≠ b := fun q => by rw [q] at c2; exact hd c2
              rw [hl c c1, if_neg cb, c2, if_neg hs]
            · right
              have ca : c ≠ a := fun q => by rw [q, hab] at c2; exact zb (Option.some.inj c2).symm
              rw [hr c c1, if_neg ca, c2, if_neg hs]

theorem tOk.rotR (h : tOk n ad ps l r p lo hi rt) {a b : Nat} (ha : tIn n ad ps a) (hab : l a = some b) {l' r' p' : Nat → Option Nat} {rt' : Option Nat}
    (hr : ∀ z, tIn n ad ps z → r' z = if z = b then some a else if r z = some a then some b else r z)
    (hl : ∀ z, tIn n ad ps z → l' z = if z = a then r b else if l z = some a then some b else l z)
    (hp : ∀ z, tIn n ad ps z → p' z = if z = b then p a else if z = a then some b else if r b = some z then some a else p z)
    (hrt : rt' = if rt = some a then some b else rt) : tOk n ad ps l' r' p' (va_up (va_up lo b (lo a)) a (ps b + 1)) (va_up hi b (hi a)) rt' := by
  obtain ⟨hb, xlo, xhi, hpb⟩ := h.l1 ha hab
  have na := h.num ha
  have nb := h.num hb
  have eab : a ≠ b := fun e => by subst e; omega
  have elo : ∀ z, (va_up (va_up lo b (lo a)) a (ps b + 1)) z = if z = b then lo a else if z = a then ps b + 1 else lo z := by
    intro z
    by_cases e : z = a
    · subst e; rw [va_up_self, if_neg eab, if_pos rfl]
    · rw [va_up_ne _ _ e]; by_cases e2 : z = b; (rw [e2, va_up_self, if_pos rfl]); (rw [va_up_ne _ _ e2, if_neg e2, if_neg e])
  have ehi : ∀ z, (va_up hi b (hi a)) z = if z = b then hi a else hi z := by
    intro z
    by_cases e : z = b
    · rw [e, va_up_self, if_pos rfl]
    · rw [va_up_ne _ _ e, if_neg e]
  generalize va_up (va_up lo b (lo a)) a (ps b + 1) = lo2 at elo ⊢
  generalize va_up hi b (hi a) = hi2 at ehi ⊢
  have loa : lo2 a = ps b + 1 := by rw [elo, if_neg eab, if_pos rfl]
  have hia : hi2 a = hi a := by rw [ehi, if_neg eab]
  have lob : lo2 b = lo a := by rw [elo, if_pos rfl]
  have hib : hi2 b = hi a := by rw [ehi, if_pos rfl]
  have loz : ∀ z, z ≠ a → z ≠ b → lo2 z = lo z := fun z e1 e2 => by rw [elo, if_neg e2, if_neg e1]
  have hiz : ∀ z, z ≠ a → z ≠ b → hi2 z = hi z := fun z e1 e2 => by rw [ehi, if_neg e2]
  have pa' : p' a = some b := by rw [hp a ha, if_neg eab, if_pos rfl]
  have pb' : p' b = p a := by rw [hp b hb, if_pos rfl]
  have pd' : ∀ z, tIn n ad ps z → z ≠ a → z ≠ b → r b = some z → p' z = some a := fun z hz e1 e2 e3 => by rw [hp z hz, if_neg e2, if_neg e1, if_pos e3]
  have pz' : ∀ z, tIn n ad ps z → z ≠ a → z ≠ b → ¬ r b = some z → p' z = p z := fun z hz e1 e2 e3 => by rw [hp z hz, if_neg e2, if_neg e1, if_neg e3]
  have nna : ¬ r a = some a := fun e => by have := h.rp ha e; omega
  have nnb : ¬ r b = some a := fun e => by have := h.r1 hb e; omega
  have nfa : ¬ l b = some a := fun e => by have := h.l1 hb e; omega
  have near_a : r' a = r a := by rw [hr a ha, if_neg eab, if_neg nna]
  have near_b : r' b = some a := by rw [hr b hb, if_pos rfl]
  have far_a : l' a = r b := by rw [hl a ha, if_pos rfl]
  have far_b : l' b = l b := by rw [hl b hb, if_neg (fun e => eab e.symm), if_neg nfa]
  refine ⟨h.1, ⟨fun e => ?_, fun z e => ?_⟩, fun z hz => ?_⟩
  · rw [hrt] at e
    split at e
    · cases e
    · exact h.2.1.1 e
  · rw [hrt] at e
    split at e
    · rename_i hr0
      have e' : b = z := Option.some.inj e
      subst e'
      have hra := h.rx hr0
      exact ⟨hb, by rw [lob]; exact hra.2.1, by rw [hib]; exact hra.2.2.1, by rw [pb']; exact hra.2.2.2⟩
    · rename_i hr0
      have hz := h.rx e
      have za : z ≠ a := fun q => hr0 (by rw [e, q])
      have zb : z ≠ b := fun q => by rw [q, hpb] at hz; exact absurd hz.2.2.2 (by simp)
      refine ⟨hz.1, by rw [loz z za zb]; exact hz.2.1, by rw [hiz z za zb]; exact hz.2.2.1, ?_⟩
      rw [pz' z hz.1 za zb (fun q => by have := (h.r1 hb q).2.2.2; rw [hz.2.2.2] at this; cases this)]
      exact hz.2.2.2
  · by_cases za : z = a
    · subst za
      refine ⟨by rw [loa, hia]; omega, ?_⟩
      have hnear0 : r' z = none → hi2 z = ps z + 1 := fun e => by rw [near_a] at e; have := h.r0 hz e; rw [hia]; exact this
      have hnear1 : ∀ c, r' z = some c → tIn n ad ps c ∧ lo2 c = ps z + 1 ∧ hi2 c = hi2 z ∧ p' c = some z := fun c e => by
        rw [near_a] at e
        obtain ⟨c1, c2, c3, c4⟩ := h.r1 hz e
        have nc := h.num c1
        have ca : c ≠ z := tIn.ne (ps := ps) (by omega)
        have cb : c ≠ b := tIn.ne (ps := ps) (by omega)
        have cd : ¬ r b = some c := fun q => by have := (h.r1 hb q).2.2.2; rw [c4] at this; exact eab (Option.some.inj this)
        exact ⟨c1, by rw [loz c ca cb]; omega, by rw [hiz c ca cb, hia]; omega, by rw [pz' c c1 ca cb cd]; exact c4⟩
      have hfar0 : l' z = none → lo2 z = ps z := fun e => by rw [far_a] at e; have := h.r0 hb e; rw [loa]; omega
      have hfar1 : ∀ c, l' z = some c → tIn n ad ps c ∧ lo2 c = lo2 z ∧ hi2 c = ps z ∧ p' c = some z := fun c e => by
        rw [far_a] at e
        obtain ⟨c1, c2, c3, c4⟩ := h.r1 hb e
        have nc := h.num c1
        have ca : c ≠ z := tIn.ne (ps := ps) (by omega)
        have cb : c ≠ b := tIn.ne (ps := ps) (by omega)
        exact ⟨c1, by rw [loz c ca cb, loa]; omega, by rw [hiz c ca cb]; omega, pd' c c1 ca cb e⟩
      have hpar0 : p' z = none → rt' = some z := fun e => by rw [pa'] at e; cases e
      have hpar1 : ∀ c, p' z = some c → tIn n ad ps c ∧ (l' c = some z ∨ r' c = some z) := fun c e => by
        rw [pa'] at e
        have e' : b = c := Option.some.inj e
        subst e'
        exact ⟨hb, Or.inr near_b⟩
      exact ⟨hfar0, hfar1, hnear0, hnear1, hpar0, hpar1⟩
    · by_cases zb : z = b
      · subst zb
        refine ⟨by rw [lob, hib]; omega, ?_⟩
        have hnear0 : r' z = none → hi2 z = ps z + 1 := fun e => by rw [near_b] at e; cases e
        have hnear1 : ∀ c, r' z = some c → tIn n ad ps c ∧ lo2 c = ps z + 1 ∧ hi2 c = hi2 z ∧ p' c = some z := fun c e => by
          rw [near_b] at e
          have e' : a = c := Option.some.inj e
          subst e'
          exact ⟨ha, by rw [loa], by rw [hia, hib], pa'⟩
        have hfar0 : l' z = none → lo2 z = ps z := fun e => by rw [far_b] at e; have := h.l0 hz e; rw [lob]; omega
        have hfar1 : ∀ c, l' z = some c → tIn n ad ps c ∧ lo2 c = lo2 z ∧ hi2 c = ps z ∧ p' c = some z := fun c e => by
          rw [far_b] at e
          obtain ⟨c1, c2, c3, c4⟩ := h.l1 hz e
          have nc := h.num c1
          have ca : c ≠ a := tIn.ne (ps := ps) (by omega)
          have cb : c ≠ z := tIn.ne (ps := ps) (by omega)
          have cd : ¬ r z = some c := fun q => by have := h.r1 hz q; omega
          exact ⟨c1, by rw [loz c ca cb, lob]; omega, by rw [hiz c ca cb]; omega, by rw [pz' c c1 ca cb cd]; exact c4⟩
        have hpar0 : p' z = none → rt' = some z := fun e => by rw [pb'] at e; rw [hrt, if_pos (h.p0 ha e)]
        have hpar1 : ∀ c, p' z = some c → tIn n ad ps c ∧ (l' c = some z ∨ r' c = some z) := fun c e => by
          rw [pb'] at e
          obtain ⟨c1, c2⟩ := h.p1 ha e
          rcases c2 with c2 | c2
          · have ca : c ≠ a := tIn.ne (ps := ps) (by have := h.lp c1 c2; omega)
            have cb : c ≠ z := fun q => by rw [q] at c2; exact nfa c2
            refine ⟨c1, Or.inl ?_⟩
            rw [hl c c1, if_neg ca, if_pos c2]
          · have ca : c ≠ a := tIn.ne (ps := ps) (by have := h.rp c1 c2; omega)
            have cb : c ≠ z := fun q => by rw [q] at c2; exact nnb c2
            refine ⟨c1, Or.inr ?_⟩
            rw [hr c c1, if_neg cb, if_pos c2]
        exact ⟨hfar0, hfar1, hnear0, hnear1, hpar0, hpar1⟩
      · have nz := h.num hz
        refine ⟨by rw [loz z za zb, hiz z za zb]; exact nz, ?_⟩
        have hch : ∀ c, p c = some z → tIn n ad ps c → c ≠ a → c ≠ b ∧ lo2 c = lo c ∧ hi2 c = hi c ∧ p' c = some z := fun c e c1 ca => by
          have cb : c ≠ b := fun q => by rw [q, hpb] at e; exact za (Option.some.inj e).symm
          have cd : ¬ r b = some c := fun q => by have := (h.r1 hb q).2.2.2; rw [e] at this; exact zb (Option.some.inj this)
          exact ⟨cb, loz c ca cb, hiz c ca cb, by rw [pz' c c1 ca cb cd]; exact e⟩
        have el : l' z = if l z = some a then some b else l z := by rw [hl z hz, if_neg za]
        have er : r' z = if r z = some a then some b else r z := by rw [hr z hz, if_neg zb]
        refine ⟨fun e => ?_, fun c e => ?_, fun e => ?_, fun c e => ?_, fun e => ?_, fun c e => ?_⟩
        · rw [el] at e
          split at e
          · cases e
          · rw [loz z za zb]; exact h.l0 hz e
        · rw [el] at e
          split at e
          · rename_i q
            have e' : b = c := Option.some.inj e
            subst e'
            obtain ⟨-, c2, c3, c4⟩ := h.l1 hz q
            exact ⟨hb, by rw [lob, loz z za zb]; exact c2, by rw [hib]; exact c3, by rw [pb']; exact c4⟩
          · rename_i q
            obtain ⟨c1, c2, c3, c4⟩ := h.l1 hz e
            obtain ⟨-, d2, d3, d4⟩ := hch c c4 c1 (fun k => q (by rw [e, k]))
            exact ⟨c1, by rw [d2, loz z za zb]; exact c2, by rw [d3]; exact c3, d4⟩
        · rw [er] at e
          split at e
          · cases e
          · rw [hiz z za zb]; exact h.r0 hz e
        · rw [er] at e
          split at e
          · rename_i q
            have e' : b = c := Option.some.inj e
            subst e'
            obtain ⟨-, c2, c3, c4⟩ := h.r1 hz q
            exact ⟨hb, by rw [lob]; exact c2, by rw [hib, hiz z za zb]; exact c3, by rw [pb']; exact c4⟩
          · rename_i q
            obtain ⟨c1, c2, c3, c4⟩ := h.r1 hz e
            obtain ⟨-, d2, d3, d4⟩ := hch c c4 c1 (fun k => q (by rw [e, k]))
            exact ⟨c1, by rw [d2]; exact c2, by rw [d3, hiz z za zb]; exact c3, d4⟩
        · have hd : ¬ r b = some z := fun q => by rw [pd' z hz za zb q] at e; cases e
          rw [pz' z hz za zb hd] at e
          have hr0 := h.p0 hz e
          rw [hrt, if_neg (fun q => za (by rw [hr0] at q; exact Option.some.inj q))]
          exact hr0
        · by_cases hd : r b = some z
          · rw [pd' z hz za zb hd] at e
            have e' : a = c := Option.some.inj e
            subst e'
            exact ⟨ha, Or.inl (by rw [far_a]; exact hd)⟩
          · rw [pz' z hz za zb hd] at e
            obtain ⟨c1, c2⟩ := h.p1 hz e
            have hs : ¬ (some z : Option Nat) = some a := some_ne za
            refine ⟨c1, ?_⟩
            rcases c2 with c2 | c2
            · left
              have ca : c ≠ a := fun q => by rw [q, hab] at c2; exact zb (Option.some.inj c2).symm
              rw [hl c c1, if_neg ca, c2, if_neg hs]
            · right
              have cb : c ≠ b := fun q => by rw [q] at c2; exact hd c2
              rw [hr c c1, if_neg cb, c2, if_neg hs]

/-- a place more: x at place c -/
def tPs (x c : Nat) (ps : Nat → Nat) : Nat → Nat := fun z => if z = x then c else if ps z < c then ps z else ps z + 1
def tAd (x c : Nat) (ad : Nat → Nat) : Nat → Nat := fun i => if i < c then ad i else if i = c then x else ad (i - 1)
theorem tPs_in {x c z : Nat} (h1 : ∀ i, i < n → ps (ad i) = i) (hx : ¬ tIn n ad ps x) (hc : c ≤ n) : tIn (n + 1) (tAd x c ad) (tPs x c ps) z ↔ z = x ∨ tIn n ad ps z := by
  constructor
  · intro hz
    by_cases e : z = x
    · exact Or.inl e
    · right
      obtain ⟨a1, a2⟩ := hz
      unfold tPs tAd at a2
      unfold tPs at a1
      rw [if_neg e] at a1 a2
      by_cases e2 : ps z < c
      · rw [if_pos e2] at a1 a2
        rw [if_pos e2] at a2
        exact ⟨by omega, a2⟩
      · rw [if_neg e2] at a1 a2
        rw [if_neg (by omega), if_neg (by omega), Nat.add_sub_cancel] at a2
        exact ⟨by omega, a2⟩
  · rintro (e | hz)
    · subst e
      have e1 : tPs z c ps z = c := if_pos rfl
      refine ⟨by rw [e1]; omega, ?_⟩
      rw [e1]
      unfold tAd
      rw [if_neg (by omega), if_pos rfl]
    · have e : z ≠ x := fun q => hx (by rw [← q]; exact hz)
      by_cases e2 : ps z < c
      · have e1 : tPs x c ps z = ps z := by unfold tPs; rw [if_neg e, if_pos e2]
        refine ⟨by rw [e1]; omega, ?_⟩
        rw [e1]
        unfold tAd
        rw [if_pos e2]
        exact hz.2
      · have e1 : tPs x c ps z = ps z + 1 := by unfold tPs; rw [if_neg e, if_neg e2]
        refine ⟨by rw [e1]; have := hz.1; omega, ?_⟩
        rw [e1]
        unfold tAd
        rw [if_neg (by omega), if_neg (by omega), Nat.add_sub_cancel]
        exact hz.2
theorem tPs_ad {x c : Nat} (h1 : ∀ i, i < n → ps (ad i) = i) (hx : ¬ tIn n ad ps x) (hc : c ≤ n) : ∀ i, i < n + 1 → tPs x c ps (tAd x c ad i) = i := by
  intro i hi
  have ne : ∀ j, j < n → ad j ≠ x := fun j hj e => hx (by have := h1 j hj; exact ⟨by rw [← e, this]; exact hj, by rw [← e, this]⟩)
  unfold tAd
  by_cases e1 : i < c
  · rw [if_pos e1]
    unfold tPs
    rw [if_neg (ne i (by omega)), h1 i (by omega), if_pos e1]
  · rw [if_neg e1]
    by_cases e2 : i = c
    · rw [if_pos e2]
      unfold tPs
      rw [if_pos rfl]
      exact e2.symm
    · rw [if_neg e2]
      unfold tPs
      rw [if_neg (ne (i - 1) (by omega)), h1 (i - 1) (by omega), if_neg (by omega)]
      omega

theorem tOk.insL (h : tOk n ad ps l r p lo hi rt) {a x c : Nat} (ha : tIn n ad ps a) (hx : ¬ tIn n ad ps x) (hc : c = ps a) (hn : l a = none) {l' r' p' : Nat → Option Nat}
    (hl : ∀ z, tIn n ad ps z → l' z = if z = a then some x else l z) (hr : ∀ z, tIn n ad ps z → r' z = r z) (hp : ∀ z, tIn n ad ps z → p' z = p z) (lx : l' x = none) (rx : r' x = none) (px : p' x = some a) :
    tOk (n + 1) (tAd x c ad) (tPs x c ps) l' r' p' (fun z => if z = x then c else (if lo z ≤ c then lo z else lo z + 1)) (fun z => if z = x then c + 1 else (if hi z ≤ c then hi z else hi z + 1)) rt := by
  have na := h.num ha
  have hcn : c ≤ n := by omega
  have hI := fun z => tPs_in (x := x) (z := z) h.1 hx hcn
  have pz : ∀ z, tIn n ad ps z → tPs x c ps z = if ps z < c then ps z else ps z + 1 := fun z hz => if_neg (fun e => hx (by rw [← e]; exact hz))
  have nx : ∀ z, tIn n ad ps z → z ≠ x := fun z hz e => hx (by rw [← e]; exact hz)
  have nea : ∀ z, tIn n ad ps z → z ≠ a → ps z ≠ ps a := fun z hz e q => e (hz.eq ha q)
  obtain ⟨lo2, elo⟩ : ∃ f, f = (fun z => if z = x then c else (if lo z ≤ c then lo z else lo z + 1)) := ⟨_, rfl⟩
  obtain ⟨hi2, ehi⟩ : ∃ f, f = (fun z => if z = x then c + 1 else (if hi z ≤ c then hi z else hi z + 1)) := ⟨_, rfl⟩
  rw [← elo, ← ehi]
  have lox : lo2 x = c := by rw [elo]; exact if_pos rfl
  have hix : hi2 x = c + 1 := by rw [ehi]; exact if_pos rfl
  have loz : ∀ z, tIn n ad ps z → lo2 z = (if lo z ≤ c then lo z else lo z + 1) := fun z hz => by rw [elo]; exact if_neg (nx z hz)
  have hiz : ∀ z, tIn n ad ps z → hi2 z = (if hi z ≤ c then hi z else hi z + 1) := fun z hz => by rw [ehi]; exact if_neg (nx z hz)
  have pxx : tPs x c ps x = c := if_pos rfl
  have xin : tIn (n + 1) (tAd x c ad) (tPs x c ps) x := (hI x).mpr (Or.inl rfl)
  have zin : ∀ z, tIn n ad ps z → tIn (n + 1) (tAd x c ad) (tPs x c ps) z := fun z hz => (hI z).mpr (Or.inr hz)
  refine ⟨tPs_ad h.1 hx hcn, ⟨fun e => absurd (h.2.1.1 e) (by omega), fun z e => ?_⟩, fun z hz => ?_⟩
  · obtain ⟨h1, h2, h3, h4⟩ := h.rx e
    have nz := h.num h1
    exact ⟨zin z h1, by rw [loz z h1]; split <;> omega, by rw [hiz z h1]; split <;> omega, by rw [hp z h1]; exact h4⟩
  · rcases (hI z).mp hz with hzx | hz
    · subst hzx
      rw [lox, hix, pxx]
      refine ⟨by omega, fun _ => rfl, fun b e => (by rw [lx] at e; cases e), fun _ => rfl, fun b e => (by rw [rx] at e; cases e), fun e => (by rw [px] at e; cases e), fun b e => ?_⟩
      rw [px] at e
      have e' : a = b := Option.some.inj e
      subst e'
      exact ⟨zin a ha, Or.inl (by rw [hl a ha, if_pos rfl])⟩
    · have nz := h.num hz
      have hne := nea z hz
      rw [loz z hz, hiz z hz, pz z hz]
      refine ⟨by (repeat' split) <;> omega, fun e => ?_, fun b e => ?_, fun e => ?_, fun b e => ?_, fun e => ?_, fun b e => ?_⟩
      · rw [hl z hz] at e; split at e; cases e; rename_i q; have := h.l0 hz e; have := hne q; (repeat' split) <;> omega
      · rw [hl z hz] at e
        split at e
        · rename_i q; subst q; cases e; have := h.l0 hz hn; rw [lox, hix]; refine ⟨xin, ?_, ?_, px⟩ <;> (repeat' split) <;> omega
        · rename_i q
          obtain ⟨b1, b2, b3, b4⟩ := h.l1 hz e
          have := hne q
          rw [loz b b1, hiz b b1]
          refine ⟨zin b b1, ?_, ?_, by rw [hp b b1]; exact b4⟩ <;> (repeat' split) <;> omega
      · rw [hr z hz] at e; have := h.r0 hz e; (repeat' split) <;> omega
      · rw [hr z hz] at e
        skip
        skip
        skip
        obtain ⟨b1, b2, b3, b4⟩ := h.r1 hz e
        skip
        rw [loz b b1, hiz b b1]
        refine ⟨zin b b1, ?_, ?_, by rw [hp b b1]; exact b4⟩ <;> (repeat' split) <;> omega
      · rw [hp z hz] at e; exact h.p0 hz e
      · rw [hp z hz] at e
        obtain ⟨b1, b2⟩ := h.p1 hz e
        refine ⟨zin b b1, ?_⟩
        rcases b2 with b2 | b2
        · left; rw [hl b b1]; rw [if_neg (fun q => by rw [q, hn] at b2; cases b2)]; exact b2
        · right; rw [hr b b1]; exact b2

theorem tOk.insR (h : tOk n ad ps l r p lo hi rt) {a x c : Nat} (ha : tIn n ad ps a) (hx : ¬ tIn n ad ps x) (hc : c = (ps a + 1)) (hn : r a = none) {l' r' p' : Nat → Option Nat}
    (hr : ∀ z, tIn n ad ps z → r' z = if z = a then some x else r z) (hl : ∀ z, tIn n ad ps z → l' z = l z) (hp : ∀ z, tIn n ad ps z → p' z = p z) (lx : l' x = none) (rx : r' x = none) (px : p' x = some a) :
    tOk (n + 1) (tAd x c ad) (tPs x c ps) l' r' p' (fun z => if z = x then c else (if lo z < c then lo z else lo z + 1)) (fun z => if z = x then c + 1 else (if hi z < c then hi z else hi z + 1)) rt := by
  have na := h.num ha
  have hcn : c ≤ n := by omega
  have hI := fun z => tPs_in (x := x) (z := z) h.1 hx hcn
  have pz : ∀ z, tIn n ad ps z → tPs x c ps z = if ps z < c then ps z else ps z + 1 := fun z hz => if_neg (fun e => hx (by rw [← e]; exact hz))
  have nx : ∀ z, tIn n ad ps z → z ≠ x := fun z hz e => hx (by rw [← e]; exact hz)
  have nea : ∀ z, tIn n ad ps z → z ≠ a → ps z ≠ ps a := fun z hz e q => e (hz.eq ha q)
  obtain ⟨lo2, elo⟩ : ∃ f, f = (fun z => if z = x then c else (if lo z < c then lo z else lo z + 1)) := ⟨_, rfl⟩
  obtain ⟨hi2, ehi⟩ : ∃ f, f = (fun z => if z = x then c + 1 else (if hi z < c then hi z else hi z + 1)) := ⟨_, rfl⟩
  rw [← elo, ← ehi]
  have lox : lo2 x = c := by rw [elo]; exact if_pos rfl
  have hix : hi2 x = c + 1 := by rw [ehi]; exact if_pos rfl
  have loz : ∀ z, tIn n ad ps z → lo2 z = (if lo z < c then lo z else lo z + 1) := fun z hz => by rw [elo]; exact if_neg (nx z hz)
  have hiz : ∀ z, tIn n ad ps z → hi2 z = (if hi z < c then hi z else hi z + 1) := fun z hz => by rw [ehi]; exact if_neg (nx z hz)
  have pxx : tPs x c ps x = c := if_pos rfl
  have xin : tIn (n + 1) (tAd x c ad) (tPs x c ps) x := (hI x).mpr (Or.inl rfl)
  have zin : ∀ z, tIn n ad ps z → tIn (n + 1) (tAd x c ad) (tPs x c ps) z := fun z hz => (hI z).mpr (Or.inr hz)
  refine ⟨tPs_ad h.1 hx hcn, ⟨fun e => absurd (h.2.1.1 e) (by omega), fun z e => ?_⟩, fun z hz => ?_⟩
  · obtain ⟨h1, h2, h3, h4⟩ := h.rx e
    have nz := h.num h1
    exact ⟨zin z h1, by rw [loz z h1]; split <;> omega, by rw [hiz z h1]; split <;> omega, by rw [hp z h1]; exact h4⟩
  · rcases (hI z).mp hz with hzx | hz
    · subst hzx
      rw [lox, hix, pxx]
      refine ⟨by omega, fun _ => rfl, fun b e => (by rw [lx] at e; cases e), fun _ => rfl, fun b e => (by rw [rx] at e; cases e), fun e => (by rw [px] at e; cases e), fun b e => ?_⟩
      rw [px] at e
      have e' : a = b := Option.some.inj e
      subst e'
      exact ⟨zin a ha, Or.inr (by rw [hr a ha, if_pos rfl])⟩
    · have nz := h.num hz
      have hne := nea z hz
      rw [loz z hz, hiz z hz, pz z hz]
      refine ⟨by (repeat' split) <;> omega, fun e => ?_, fun b e => ?_, fun e => ?_, fun b e => ?_, fun e => ?_, fun b e => ?_⟩
      · rw [hl z hz] at e; have := h.l0 hz e; (repeat' split) <;> omega
      · rw [hl z hz] at e
        skip
        skip
        skip
        obtain ⟨b1, b2, b3, b4⟩ := h.l1 hz e
        skip
        rw [loz b b1, hiz b b1]
        refine ⟨zin b b1, ?_, ?_, by rw [hp b b1]; exact b4⟩ <;> (repeat' split) <;> omega
      · rw [hr z hz] at e; split at e; cases e; rename_i q; have := h.r0 hz e; have := hne q; (repeat' split) <;> omega
      · rw [hr z hz] at e
        split at e
        · rename_i q; subst q; cases e; have := h.r0 hz hn; rw [lox, hix]; refine ⟨xin, ?_, ?_, px⟩ <;> (repeat' split) <;> omega
        · rename_i q
          obtain ⟨b1, b2, b3, b4⟩ := h.r1 hz e
          have := hne q
          rw [loz b b1, hiz b b1]
          refine ⟨zin b b1, ?_, ?_, by rw [hp b b1]; exact b4⟩ <;> (repeat' split) <;> omega
      · rw [hp z hz] at e; exact h.p0 hz e
      · rw [hp z hz] at e
        obtain ⟨b1, b2⟩ := h.p1 hz e
        refine ⟨zin b b1, ?_⟩
        rcases b2 with b2 | b2
        · left; rw [hl b b1]; exact b2
        · right; rw [hr b b1]; rw [if_neg (fun q => by rw [q, hn] at b2; cases b2)]; exact b2

/-- the first node of a tree -/
theorem tOk.one {x : Nat} (ps0 : Nat → Nat) {l' r' p' : Nat → Option Nat} (lx : l' x = none) (rx : r' x = none) (px : p' x = none) : tOk 1 (fun _ => x) (fun z => if z = x then 0 else 1) l' r' p' (fun _ => 0) (fun _ => 1) (some x) := by
  have hx : tIn 1 (fun _ => x) (fun z => if z = x then 0 else 1) x := ⟨by simp, rfl⟩
  have hall : ∀ z, tIn 1 (fun _ => x) (fun z => if z = x then 0 else 1) z → z = x := fun z h => h.2.symm
  refine ⟨fun i hi => by simp; omega, ⟨fun e => (by cases e), fun a e => (by cases e; exact ⟨hx, rfl, rfl, px⟩)⟩, fun z hz => ?_⟩
  have := hall z hz
  subst this
  refine ⟨by simp, fun _ => by simp, fun b e => (by rw [lx] at e; cases e), fun _ => by simp, fun b e => (by rw [rx] at e; cases e), fun _ => rfl, fun b e => (by rw [px] at e; cases e)⟩
theorem tOk.nil {ad ps lo hi : Nat → Nat} {l r p : Nat → Option Nat} : tOk 0 ad ps l r p lo hi none := by
  refine ⟨fun i hi => by omega, ⟨fun _ => rfl, fun a e => (by cases e)⟩, fun z hz => ?_⟩
  have := hz.1
  omega
/-- a place less: the node at place c goes -/
def tPd (c : Nat) (ps : Nat → Nat) : Nat → Nat := fun z => if ps z < c then ps z else ps z - 1
def tAx (c : Nat) (ad : Nat → Nat) : Nat → Nat := fun i => if i < c then ad i else ad (i + 1)

theorem tPd_in {a c : Nat} (ha : tIn n ad ps a) (hc : c = ps a) (h1 : ∀ i, i < n → ps (ad i) = i) {z : Nat} (hza : z ≠ a) : tIn (n - 1) (tAx c ad) (tPd c ps) z ↔ tIn n ad ps z := by
  have hcn := ha.1
  unfold tIn tPd tAx
  by_cases e2 : ps z < c
  · rw [if_pos e2, if_pos e2]
    constructor
    · rintro ⟨a1, a2⟩; exact ⟨by omega, a2⟩
    · rintro ⟨a1, a2⟩; exact ⟨by omega, a2⟩
  · rw [if_neg e2]
    constructor
    · rintro ⟨a1, a2⟩
      by_cases e3 : ps z = c
      · exfalso
        by_cases e4 : ps z - 1 < c
        · rw [if_pos e4] at a2
          have := h1 (ps z - 1) (by omega)
          rw [a2] at this
          omega
        · rw [if_neg e4] at a2
          have := h1 (ps z - 1 + 1) (by omega)
          rw [a2] at this
          omega
      · rw [if_neg (by omega), show ps z - 1 + 1 = ps z by omega] at a2
        exact ⟨by omega, a2⟩
    · rintro ⟨a1, a2⟩
      have e3 : ps z ≠ c := fun q => hza (by rw [← a2, ← ha.2, q, hc])
      rw [if_neg (by omega), show ps z - 1 + 1 = ps z by omega]
      exact ⟨by omega, a2⟩
theorem tOk.del (h : tOk n ad ps l r p lo hi rt) {a c : Nat} {e9 : Option Nat} (ha : tIn n ad ps a) (hc : c = ps a) (he : l a = none ∧ e9 = r a ∨ r a = none ∧ e9 = l a) {l' r' p' : Nat → Option Nat} {rt' : Option Nat}
    (hl : ∀ z, tIn n ad ps z → z ≠ a → l' z = if l z = some a then e9 else l z) (hr : ∀ z, tIn n ad ps z → z ≠ a → r' z = if r z = some a then e9 else r z)
    (hp : ∀ z, tIn n ad ps z → z ≠ a → p' z = if e9 = some z then p a else p z) (hrt : rt' = if rt = some a then e9 else rt) :
    tOk (n - 1) (tAx c ad) (tPd c ps) l' r' p' (fun z => if lo z ≤ c then lo z else lo z - 1) (fun z => if hi z ≤ c then hi z else hi z - 1) rt' ∧ ∀ z, tIn (n - 1) (tAx c ad) (tPd c ps) z → z ≠ a ∧ tIn n ad ps z := by
  have na := h.num ha
  have hna : ¬ tIn (n - 1) (tAx c ad) (tPd c ps) a := by
    rintro ⟨a1, a2⟩
    unfold tPd at a1 a2
    rw [if_neg (by omega)] at a1 a2
    unfold tAx at a2
    by_cases e4 : ps a - 1 < c
    · rw [if_pos e4] at a2
      have := h.1 (ps a - 1) (by omega)
      rw [a2] at this
      omega
    · rw [if_neg e4] at a2
      have := h.1 (ps a - 1 + 1) (by omega)
      rw [a2] at this
      omega
  have hI : ∀ z, tIn (n - 1) (tAx c ad) (tPd c ps) z → z ≠ a ∧ tIn n ad ps z := fun z hz => by
    have e : z ≠ a := fun q => hna (by rw [← q]; exact hz)
    exact ⟨e, (tPd_in ha hc h.1 e).mp hz⟩
  refine ⟨?_, hI⟩
  have zin : ∀ z, tIn n ad ps z → z ≠ a → tIn (n - 1) (tAx c ad) (tPd c ps) z := fun z hz e => (tPd_in ha hc h.1 e).mpr hz
  have nea : ∀ z, tIn n ad ps z → z ≠ a → ps z ≠ c := fun z hz e q => e (hz.eq ha (by omega))
  -- what comes up, if anything
  have hup : ∀ b, e9 = some b → tIn n ad ps b ∧ b ≠ a ∧ p b = some a ∧ (lo b = lo a ∧ hi b = c ∧ hi a = c + 1 ∨ lo b = c + 1 ∧ hi b = hi a ∧ lo a = c) := by
    intro b e
    rcases he with ⟨q1, q2⟩ | ⟨q1, q2⟩
    · rw [q2] at e
      have b1 := h.r1 ha e
      have := h.l0 ha q1
      have := h.rp ha e
      exact ⟨b1.1, tIn.ne (ps := ps) (by omega), b1.2.2.2, Or.inr ⟨by omega, by omega, by omega⟩⟩
    · rw [q2] at e
      have b1 := h.l1 ha e
      have := h.r0 ha q1
      have := h.lp ha e
      exact ⟨b1.1, tIn.ne (ps := ps) (by omega), b1.2.2.2, Or.inl ⟨by omega, by omega, by omega⟩⟩
  have hno : e9 = none → lo a = c ∧ hi a = c + 1 := by
    intro e
    rcases he with ⟨q1, q2⟩ | ⟨q1, q2⟩
    · rw [q2] at e
      have := h.l0 ha q1
      have := h.r0 ha e
      omega
    · rw [q2] at e
      have := h.r0 ha q1
      have := h.l0 ha e
      omega
  have hps : ∀ z, tPd c ps z = if ps z < c then ps z else ps z - 1 := fun z => rfl
  refine ⟨fun i hi => ?_, ⟨fun e => ?_, fun z e => ?_⟩, fun z hz => ?_⟩
  · unfold tAx
    by_cases e : i < c
    · rw [if_pos e, hps, h.1 i (by omega), if_pos e]
    · rw [if_neg e, hps, h.1 (i + 1) (by omega), if_neg (by omega)]
      omega
  · rw [hrt] at e
    split at e
    · rename_i q
      have := h.rx q
      have := hno e
      omega
    · have := h.2.1.1 e
      omega
  · rw [hrt] at e
    split at e
    · rename_i q
      obtain ⟨b1, b2, b3, b4⟩ := hup z e
      have h4 := h.rx q
      refine ⟨zin z b1 b2, ?_, ?_, ?_⟩
      · show (if lo z ≤ c then lo z else lo z - 1) = 0
        split <;> omega
      · show (if hi z ≤ c then hi z else hi z - 1) = n - 1
        split <;> omega
      · rw [hp z b1 b2, if_pos e]; exact h4.2.2.2
    · rename_i q
      obtain ⟨h1, h2, h3, h4⟩ := h.rx e
      have za : z ≠ a := fun k => q (by rw [e, k])
      refine ⟨zin z h1 za, ?_, ?_, ?_⟩
      · show (if lo z ≤ c then lo z else lo z - 1) = 0
        split <;> omega
      · show (if hi z ≤ c then hi z else hi z - 1) = n - 1
        split <;> omega
      · rw [hp z h1 za, if_neg (fun k => by have := (hup z k).2.2.1; rw [h4] at this; cases this)]; exact h4
  · obtain ⟨za, hz⟩ := hI z hz
    have nz := h.num hz
    have hne := nea z hz za
    have hch : ∀ b, p b = some z → tIn n ad ps b → b ≠ a → p' b = some z := fun b e b1 ba => by
      rw [hp b b1 ba, if_neg (fun k => by have := (hup b k).2.2.1; rw [e] at this; exact za (Option.some.inj this)), e]
    show ((if lo z ≤ c then lo z else lo z - 1) ≤ tPd c ps z ∧ tPd c ps z < (if hi z ≤ c then hi z else hi z - 1) ∧ (if hi z ≤ c then hi z else hi z - 1) ≤ n - 1) ∧ _
    rw [hps]
    refine ⟨?_, fun e => ?_, fun b e => ?_, fun e => ?_, fun b e => ?_, fun e => ?_, fun b e => ?_⟩
    · by_cases c1 : lo z ≤ c
      · by_cases c2 : hi z ≤ c
        · rw [if_pos c1, if_pos c2]; split <;> omega
        · rw [if_pos c1, if_neg c2]; split <;> omega
      · rw [if_neg c1, if_neg (by omega)]; split <;> omega
    · show (if lo z ≤ c then lo z else lo z - 1) = _
      rw [hl z hz za] at e
      split at e
      · rename_i q
        have := h.l1 hz q
        have := hno e
        (repeat' split) <;> omega
      · have := h.l0 hz e
        (repeat' split) <;> omega
    · show tIn _ _ _ b ∧ (if lo b ≤ c then lo b else lo b - 1) = (if lo z ≤ c then lo z else lo z - 1) ∧ (if hi b ≤ c then hi b else hi b - 1) = _ ∧ _
      rw [hl z hz za] at e
      split at e
      · rename_i q
        obtain ⟨b1, b2, b3, b4⟩ := hup b e
        have k := h.l1 hz q
        refine ⟨zin b b1 b2, ?_, ?_, by rw [hp b b1 b2, if_pos e]; exact k.2.2.2⟩ <;> (rcases b4 with b4 | b4) <;> (repeat' split) <;> omega
      · rename_i q
        obtain ⟨b1, b2, b3, b4⟩ := h.l1 hz e
        have ba : b ≠ a := fun k => q (by rw [e, k])
        refine ⟨zin b b1 ba, by rw [b2], ?_, hch b b4 b1 ba⟩
        rw [b3]
        (repeat' split) <;> omega
    · show (if hi z ≤ c then hi z else hi z - 1) = _
      rw [hr z hz za] at e
      split at e
      · rename_i q
        have := h.r1 hz q
        have := hno e
        (repeat' split) <;> omega
      · have := h.r0 hz e
        (repeat' split) <;> omega
    · show tIn _ _ _ b ∧ (if lo b ≤ c then lo b else lo b - 1) = _ ∧ (if hi b ≤ c then hi b else hi b - 1) = (if hi z ≤ c then hi z else hi z - 1) ∧ _
      rw [hr z hz za] at e
      split at e
      · rename_i q
        obtain ⟨b1, b2, b3, b4⟩ := hup b e
        have k := h.r1 hz q
        refine ⟨zin b b1 b2, ?_, ?_, by rw [hp b b1 b2, if_pos e]; exact k.2.2.2⟩ <;> (rcases b4 with b4 | b4) <;> (repeat' split) <;> omega
      · rename_i q
        obtain ⟨b1, b2, b3, b4⟩ := h.r1 hz e
        have ba : b ≠ a := fun k => q (by rw [e, k])
        refine ⟨zin b b1 ba, ?_, by rw [b3], hch b b4 b1 ba⟩
        rw [b2]
        (repeat' split) <;> omega
    · rw [hp z hz za] at e
      split at e
      · rename_i q
        rw [hrt, if_pos (h.p0 ha e)]
        exact q
      · have := h.p0 hz e
        rw [hrt, if_neg (fun q => za (by rw [this] at q; exact Option.some.inj q)), this]
    · rw [hp z hz za] at e
      split at e
      · rename_i q
        obtain ⟨b1, b2⟩ := h.p1 ha e
        have ba : b ≠ a := fun k => by
          rcases b2 with b2 | b2
          · have := h.lp b1 b2; rw [k] at this; omega
          · have := h.rp b1 b2; rw [k] at this; omega
        refine ⟨zin b b1 ba, ?_⟩
        rcases b2 with b2 | b2
        · left; rw [hl b b1 ba, if_pos b2, q]
        · right; rw [hr b b1 ba, if_pos b2, q]
      · rename_i q
        obtain ⟨b1, b2⟩ := h.p1 hz e
        have ba : b ≠ a := fun k => by
          subst k
          rcases he with ⟨q1, q2⟩ | ⟨q1, q2⟩
          · rcases b2 with b2 | b2
            · rw [q1] at b2; cases b2
            · exact q (q2.trans b2)
          · rcases b2 with b2 | b2
            · exact q (q2.trans b2)
            · rw [q1] at b2; cases b2
        refine ⟨zin b b1 ba, ?_⟩
        rcases b2 with b2 | b2
        · left; rw [hl b b1 ba, b2, if_neg (some_ne za)]
        · right; rw [hr b b1 ba, b2, if_neg (some_ne za)]
/-- keys rise with the places -/
def kOk (n : Nat) (ad : Nat → Nat) (kc : Nat → Int) : Prop := ∀ i j, i < j → j < n → kc (ad i) < kc (ad j)

theorem tOk.one2 {ad ps : Nat → Nat} {x : Nat} {l' r' p' : Nat → Option Nat} (ha : ad 0 = x) (hp0 : ps x = 0) (lx : l' x = none) (rx : r' x = none) (px : p' x = none) : tOk 1 ad ps l' r' p' (fun _ => 0) (fun _ => 1) (some x) := by
  have hx : tIn 1 ad ps x := ⟨by omega, by rw [hp0, ha]⟩
  have hall : ∀ z, tIn 1 ad ps z → z = x := fun z h => by
    have h1 := h.1
    have h2 := h.2
    rw [show ps z = 0 by omega, ha] at h2
    exact h2.symm
  refine ⟨fun i hi => by rw [show i = 0 by omega, ha, hp0], ⟨fun e => (by cases e), fun a e => (by cases e; exact ⟨hx, rfl, rfl, px⟩)⟩, fun z hz => ?_⟩
  have := hall z hz
  subst this
  refine ⟨⟨Nat.zero_le _, (by show ps z < 1; omega), Nat.le_refl _⟩, fun _ => hp0.symm, fun b e => (by rw [lx] at e; cases e), fun _ => (by show 1 = ps z + 1; omega), fun b e => (by rw [rx] at e; cases e), fun _ => rfl, fun b e => (by rw [px] at e; cases e)⟩

end TOK
