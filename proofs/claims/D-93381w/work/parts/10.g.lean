/-! THE G LAYER: ints by integers; one map of all cells (address to owner and contents); rows over it -/
set_option maxRecDepth 100000
def iI (z : Int) : Int32 := Int32.ofInt z
def lI (z : Int) : Int64 := Int64.ofInt z
theorem iI_toInt {z : Int} (h : -2147483648 ≤ z ∧ z ≤ 2147483647) : (iI z).toInt = z := Int32.toInt_ofInt_of_le (by omega) (by omega)
theorem iI_self (x : Int32) : iI x.toInt = x := Int32.ofInt_toInt x
theorem iI_add (a b : Int) : iI a + iI b = iI (a + b) := (Int32.ofInt_add a b).symm
theorem iI_sub (a b : Int) : iI a - iI b = iI (a - b) := (Int32.ofInt_sub a b).symm
theorem iI_mul (a b : Int) : iI a * iI b = iI (a * b) := (Int32.ofInt_mul a b).symm
theorem iI_neg (a : Int) : -iI a = iI (-a) := (Int32.ofInt_neg a).symm
theorem iI_rng (x : Int32) : -2147483648 ≤ x.toInt ∧ x.toInt ≤ 2147483647 := ⟨Int32.minValue_le_toInt x, Int32.toInt_le x⟩
theorem iI_le {a b : Int} (ha : -2147483648 ≤ a ∧ a ≤ 2147483647) (hb : -2147483648 ≤ b ∧ b ≤ 2147483647) : iI a ≤ iI b ↔ a ≤ b := by
  rw [Int32.le_iff_toInt_le, iI_toInt ha, iI_toInt hb]
theorem iI_lt {a b : Int} (ha : -2147483648 ≤ a ∧ a ≤ 2147483647) (hb : -2147483648 ≤ b ∧ b ≤ 2147483647) : iI a < iI b ↔ a < b := by
  rw [Int32.lt_iff_toInt_lt, iI_toInt ha, iI_toInt hb]
theorem iI_eq {a b : Int} (ha : -2147483648 ≤ a ∧ a ≤ 2147483647) (hb : -2147483648 ≤ b ∧ b ≤ 2147483647) : iI a = iI b ↔ a = b := by
  rw [← Int32.toInt_inj, iI_toInt ha, iI_toInt hb]
theorem iI_0 : iI 0 = 0 := by decide
theorem iI_tdiv {a b : Int} (ha : -2147483648 ≤ a ∧ a ≤ 2147483647) (hb : 0 < b ∧ b ≤ 2147483647) : iI a / iI b = iI (a.tdiv b) := by
  have h1 : Int32.minValue.toInt = -2147483648 := by decide
  have h2 : Int32.maxValue.toInt = 2147483647 := by decide
  exact (Int32.ofInt_tdiv (by rw [h1]; omega) (by rw [h2]; omega) (by rw [h1]; omega) (by rw [h2]; omega)).symm
theorem iI_div {a b : Int} (ha : 0 ≤ a ∧ a ≤ 2147483647) (hb : 0 < b ∧ b ≤ 2147483647) : iI a / iI b = iI (a / b) := by
  rw [iI_tdiv (by omega) hb, Int.tdiv_eq_ediv_of_nonneg ha.1]
theorem iI_trem {a b : Int} (ha : -2147483648 ≤ a ∧ a ≤ 2147483647) (hb : 0 < b ∧ b ≤ 2147483647) : iI a - iI a / iI b * iI b = iI (a.tmod b) := by
  rw [iI_tdiv ha hb, iI_mul, iI_sub, Int.tmod_def, Int.mul_comm]
theorem iI_rem {a b : Int} (ha : 0 ≤ a ∧ a ≤ 2147483647) (hb : 0 < b ∧ b ≤ 2147483647) : iI a - iI a / iI b * iI b = iI (a % b) := by
  rw [iI_trem (by omega) hb, Int.tmod_eq_emod_of_nonneg ha.1]
theorem iI_clamp {z : Int} (h0 : 0 ≤ z) (h : z ≤ 2147483647) : (iI z).toNatClampNeg = z.toNat := Int32.toNatClampNeg_ofInt_of_le (by omega) (by omega)
theorem iI_in {z : Int} {n : Nat} (h0 : 0 ≤ z) (h1 : z < n) (h : z ≤ 2147483647) : vp_in (iI z) n := by
  rw [vp_in_iff, iI_toInt (by omega)]
  omega
theorem iI_cl {z : Int} {n : Nat} (h : z = n) (hn : n < 2 ^ 31) : (iI z).toNatClampNeg = n := by
  rw [iI_clamp (by omega) (by omega)]
  omega
theorem iI_nat (n : Nat) : Int32.ofNat n = iI (n : Int) := (Int32.ofInt_eq_ofNat).symm
theorem lI_toInt {z : Int} (h : -9223372036854775808 ≤ z ∧ z ≤ 9223372036854775807) : (lI z).toInt = z := Int64.toInt_ofInt_of_le (by omega) (by omega)
theorem iI_l {a : Int} (h : -2147483648 ≤ a ∧ a ≤ 2147483647) : (iI a).toInt64 = lI a := by
  have h1 : Int32.minValue.toInt = -2147483648 := by decide
  have h2 : Int32.maxValue.toInt = 2147483647 := by decide
  exact Int32.toInt64_ofInt (by rw [h1]; omega) (by rw [h2]; omega)
theorem lI_lt {a b : Int} (ha : -9223372036854775808 ≤ a ∧ a ≤ 9223372036854775807) (hb : -9223372036854775808 ≤ b ∧ b ≤ 9223372036854775807) : lI a < lI b ↔ a < b := by
  rw [Int64.lt_iff_toInt_lt, lI_toInt ha, lI_toInt hb]
theorem lI_eq {a b : Int} (ha : -9223372036854775808 ≤ a ∧ a ≤ 9223372036854775807) (hb : -9223372036854775808 ≤ b ∧ b ≤ 9223372036854775807) : lI a = lI b ↔ a = b := by
  rw [← Int64.toInt_inj, lI_toInt ha, lI_toInt hb]
/-- a store in an array's contents -/
def iup {α : Type} (g : Int → α) (z : Int) (v : α) : Int → α := fun j => if j = z then v else g j
theorem iup_s {α : Type} {g : Int → α} {z : Int} {v : α} : iup g z v z = v := if_pos rfl
theorem iup_n {α : Type} {g : Int → α} {z j : Int} {v : α} (h : j ≠ z) : iup g z v j = g j := if_neg h
theorem iup_upd {g : Int → Int} {z v : Int} (h : 0 ≤ z) : upd (fun j : Nat => iI (g (j : Int))) z.toNat (iI v) = fun j : Nat => iI (iup g z v (j : Int)) := by
  funext j
  by_cases hj : j = z.toNat
  · subst hj
    rw [iup, if_pos (by omega)]
    exact if_pos rfl
  · rw [iup, if_neg (by omega)]
    exact if_neg hj
theorem iup_upq {g : Int → Option Nat} {z : Int} {v : Option Nat} (h : 0 ≤ z) : va_up (fun j : Nat => g (j : Int)) z.toNat v = fun j : Nat => iup g z v (j : Int) := by
  funext j
  by_cases hj : j = z.toNat
  · subst hj
    rw [iup, if_pos (by omega)]
    exact if_pos rfl
  · rw [iup, if_neg (by omega)]
    exact if_neg hj

theorem gnz {r : Int} (h : r = 0 ∨ r = 1) : narrow .boolean (.int (iI r)) = .int (iI r) := by
  rcases h with rfl | rfl <;> decide
theorem gfz {r : Int} (h : r = 0 ∨ r = 1) : fits .boolean (.int (iI r)) = true := by
  rcases h with rfl | rfl <;> decide
/-! the classes whose objects are told -/
def TX8 : u_T := fun _ => ("", "", "I", false)
def vwCl : List vw_C := [(RX0, TX0, 20), (RX1, TX1, 4), (RX2, TX2, 2), (RX3, TX3, 2), (RX4, TX4, 30), (RX5, TX5, 2), (RX6, TX6, 7), (RX7, TX7, 2), (RX8, TX8, 0), (RX9, TX9, 1), (RX10, TX10, 1), (RX11, TX11, 1),
  (RJ2, TJ2, 1), (RJ4, TJ4, 9), (RJ6, TJ6, 4), (RJ12, TJ12, 6), (RJ14, TJ14, 4), (RJ15, TJ15, 8), (RJ25, TJ25, 6), (RJ26, TJ26, 1), (RJ28, TJ28, 4), (RJ29, TJ29, 4), (RJ30, TJ30, 1), (RJ32, TJ32, 6)]
/-! array classes: 0 int, 1 boolean, 2 byte, then of references -/
def gTys (dA : Nat → ClassId) : List (ClassId × FieldType) := [(dA 0, .int), (dA 1, .boolean), (dA 2, .byte), (dA 3, .object "KeptCurves$Act"), (dA 4, .object "KeptCurves$Turn"), (dA 5, .object "KeptCurves$Fraction"), (dA 6, .object "KeptCurves$Poly"), (dA 7, .array .int), (dA 8, .object "KeptCurves$Fibre"), (dA 9, .object "java/lang/Object")]
/-- the contents of a cell: an array, an object of a told class, or a lambda's object (its site, what it caught) -/
abbrev gE : Type := va_E ⊕ (Nat × List Value)
/-- classes, array classes, lambdas' classes; the law's arguments and its start -/
abbrev gX : Type := va_G × (Nat → ClassId) × (Nat → ClassId) × Array Value × State
/-- the first address that may be written -/
abbrev gB (X : gX) : Nat := X.2.2.2.2.heap.size
abbrev gS : Type := Nat → Option (Nat × gE)
abbrev gO (ci : Nat) (fs : List Value) : gE := .inl (.inr (ci, fs))
abbrev gI (cA : ClassId) (n : Nat) (g : Int → Int) : gE := .inl (.inl (cA, n, .inl (fun j : Nat => iI (g (j : Int)))))
abbrev gV (cA : ClassId) (n : Nat) (g : Int → Option Nat) : gE := .inl (.inl (cA, n, .inr (.inr (.inr (.inr (fun j : Nat => g (j : Int)))))))
abbrev gL (k : Nat) (vs : List Value) : gE := .inr (k, vs)
def gat (X : gX) (a : Nat) (x : gE) (H : Heap) : Prop := match x with
  | .inl e => va_at X.1 vwCl (a, e) H
  | .inr q => H[a]? = some { cls := X.2.2.1 q.1, slots := q.2.toArray, vm := .none }
theorem gat.kept {X : gX} {a : Nat} {x : gE} {H H1 : Heap} (h : gat X a x H) (hq : H1[a]? = H[a]?) : gat X a x H1 := by
  cases x with
  | inl e => exact va_at.kept (q := (a, e)) h hq
  | inr q => exact hq.trans h
theorem gat.lt {X : gX} {a : Nat} {x : gE} {H : Heap} (h : gat X a x H) : a < H.size := by
  cases x with
  | inl e => exact va_at.lt (q := (a, e)) h
  | inr q => exact (Array.getElem?_eq_some_iff.mp h).1
def gSat (X : gX) (σ : gS) (H : Heap) : Prop := ∀ (a t : Nat) (x : gE), σ a = some (t, x) → gat X a x H ∧ gB X ≤ a
def gup (σ : gS) (a : Nat) (x : Nat × gE) : gS := fun b => if b = a then some x else σ b
theorem gup_s {σ : gS} {a : Nat} {x : Nat × gE} : gup σ a x a = some x := if_pos rfl
theorem gup_n {σ : gS} {a b : Nat} {x : Nat × gE} (h : b ≠ a) : gup σ a x b = σ b := if_neg h
theorem gSat.lt {X : gX} {σ : gS} {H : Heap} (h : gSat X σ H) {a : Nat} {y : Nat × gE} (ha : σ a = some y) : a < H.size := (h a y.1 y.2 ha).1.lt
theorem gSat.fresh {X : gX} {σ : gS} {H : Heap} (h : gSat X σ H) : σ H.size = none := by
  cases hq : σ H.size with
  | none => rfl
  | some y => exact absurd (h.lt hq) (Nat.lt_irrefl _)
theorem gSat.set {X : gX} {σ : gS} {H H1 : Heap} {a t : Nat} {x : gE} (h : gSat X σ H) (hB : gB X ≤ a) (hx : gat X a x H1) (oq : ∀ q : Nat, q ≠ a → q < H.size → H1[q]? = H[q]?) : gSat X (gup σ a (t, x)) H1 := by
  intro b t' y hb
  by_cases e : b = a
  · subst e
    rw [gup_s] at hb
    cases hb
    exact ⟨hx, hB⟩
  · rw [gup_n e] at hb
    obtain ⟨h1, h2⟩ := h b t' y hb
    exact ⟨h1.kept (oq b e h1.lt), h2⟩
/-- the cell alone, as the kit's world -/
theorem gSat.P {X : gX} {σ : gS} {H : Heap} {a t : Nat} {e : va_E} (h : gSat X σ H) (ha : σ a = some (t, .inl e)) : va_P X.1 vwCl [(a, e)] H := by
  intro k q hk
  match k, hk with
  | 0, hk => cases hk; exact (h a t _ ha).1
  | k + 1, hk => simp at hk
def gA (X : gX) : Nat → Prop := fun q => gB X ≤ q
/-- what the two maps have in common: the cells of owners that tg doesn't tell -/
def gKeep (tg : Nat → Prop) (σ σ' : gS) : Prop := ∀ (a t : Nat) (x : gE), σ a = some (t, x) → ¬ tg t → σ' a = some (t, x)
theorem gKeep.rf {tg : Nat → Prop} {σ : gS} : gKeep tg σ σ := fun _ _ _ h _ => h
theorem gKeep.tr {tg : Nat → Prop} {σ σ' σ2 : gS} (h : gKeep tg σ σ') (h2 : gKeep tg σ' σ2) : gKeep tg σ σ2 := fun a t x q n => h2 a t x (h a t x q n) n
theorem gKeep.mono {tg tg2 : Nat → Prop} {σ σ' : gS} (h : gKeep tg σ σ') (hm : ∀ t, tg t → tg2 t) : gKeep tg2 σ σ' := fun a t x q n => h a t x q (fun z => n (hm t z))
theorem gKeep.up {tg : Nat → Prop} {σ : gS} {a t : Nat} {x y : gE} (h : σ a = some (t, x)) (ht : tg t) : gKeep tg σ (gup σ a (t, y)) := by
  intro b t' z hb hn
  by_cases e : b = a
  · subst e
    rw [h] at hb
    cases hb
    exact absurd ht hn
  · rw [gup_n e]; exact hb
theorem gKeep.new {tg : Nat → Prop} {σ : gS} {a : Nat} {y : Nat × gE} (h : σ a = none) : gKeep tg σ (gup σ a y) := by
  intro b t' z hb hn
  by_cases e : b = a
  · subst e
    rw [h] at hb
    cases hb
  · rw [gup_n e]; exact hb

/-! the sites of the lambdas -/
def lm_0 : Jvm.Lambda.Shape := { iface := "KeptCurves$Turn", name := "turns", sam := ⟨[.int], some .int⟩, captured := [.object "KeptCurves"], kind := 5, implClass := "KeptCurves", implName := "swapsX", implDesc := ⟨[.int], some .int⟩, implItf := false, inst := ⟨[.int], some .int⟩ }
def lm_1 : Jvm.Lambda.Shape := { iface := "KeptCurves$Turn", name := "turns", sam := ⟨[.int], some .int⟩, captured := [.object "KeptCurves"], kind := 5, implClass := "KeptCurves", implName := "swapsY", implDesc := ⟨[.int], some .int⟩, implItf := false, inst := ⟨[.int], some .int⟩ }
def lm_2 : Jvm.Lambda.Shape := { iface := "KeptCurves$Turn", name := "turns", sam := ⟨[.int], some .int⟩, captured := [.object "KeptCurves"], kind := 5, implClass := "KeptCurves", implName := "steps", implDesc := ⟨[.int], some .int⟩, implItf := false, inst := ⟨[.int], some .int⟩ }
def lm_3 : Jvm.Lambda.Shape := { iface := "KeptCurves$Turn", name := "turns", sam := ⟨[.int], some .int⟩, captured := [.object "KeptCurves"], kind := 5, implClass := "KeptCurves", implName := "stepsBack", implDesc := ⟨[.int], some .int⟩, implItf := false, inst := ⟨[.int], some .int⟩ }
def lm_4 : Jvm.Lambda.Shape := { iface := "KeptCurves$Act", name := "does", sam := ⟨[.int, .int], some .int⟩, captured := [.object "KeptCurves"], kind := 5, implClass := "KeptCurves", implName := "lambda$new$0", implDesc := ⟨[.int, .int], some .int⟩, implItf := false, inst := ⟨[.int, .int], some .int⟩ }
def lm_5 : Jvm.Lambda.Shape := { iface := "KeptCurves$Act", name := "does", sam := ⟨[.int, .int], some .int⟩, captured := [.object "KeptCurves"], kind := 5, implClass := "KeptCurves", implName := "lambda$new$1", implDesc := ⟨[.int, .int], some .int⟩, implItf := false, inst := ⟨[.int, .int], some .int⟩ }
def lm_6 : Jvm.Lambda.Shape := { iface := "KeptCurves$Act", name := "does", sam := ⟨[.int, .int], some .int⟩, captured := [.object "KeptCurves"], kind := 5, implClass := "KeptCurves", implName := "swapsOne", implDesc := ⟨[.int, .int], some .int⟩, implItf := false, inst := ⟨[.int, .int], some .int⟩ }
def lm_7 : Jvm.Lambda.Shape := { iface := "KeptCurves$Act", name := "does", sam := ⟨[.int, .int], some .int⟩, captured := [], kind := 6, implClass := "KeptCurves", implName := "turnedOver", implDesc := ⟨[.int, .int], some .int⟩, implItf := false, inst := ⟨[.int, .int], some .int⟩ }
def lm_8 : Jvm.Lambda.Shape := { iface := "KeptCurves$Looks", name := "looks", sam := ⟨[.int, .int], none⟩, captured := [.object "KeptCurves", .int], kind := 5, implClass := "KeptCurves", implName := "lambda$gathers$2", implDesc := ⟨[.int, .int, .int], none⟩, implItf := false, inst := ⟨[.int, .int], none⟩ }
def lm_9 : Jvm.Lambda.Shape := { iface := "KeptCurves$Looks", name := "looks", sam := ⟨[.int, .int], none⟩, captured := [.array (.object "KeptCurves$Fibre")], kind := 6, implClass := "KeptCurves", implName := "lambda$rank$3", implDesc := ⟨[.array (.object "KeptCurves$Fibre"), .int, .int], none⟩, implItf := false, inst := ⟨[.int, .int], none⟩ }
def lmS : Nat → Jvm.Lambda.Shape := fun k => match k with
  | 0 => lm_0
  | 1 => lm_1
  | 2 => lm_2
  | 3 => lm_3
  | 4 => lm_4
  | 5 => lm_5
  | 6 => lm_6
  | 7 => lm_7
  | 8 => lm_8
  | _ => lm_9
def lmX : Nat → MethodName := fun k => if k < 8 then ⟨"KeptCurves", "<init>", "()V"⟩ else if k = 8 then ⟨"KeptCurves", "gathers", "(I)V"⟩ else ⟨"KeptCurves", "rank", "(I)I"⟩
def lmP : Nat → Nat := fun k => match k with
  | 0 => 307
  | 1 => 319
  | 2 => 331
  | 3 => 343
  | 4 => 355
  | 5 => 367
  | 6 => 379
  | 7 => 390
  | 8 => 8
  | _ => 42
def lmI : Nat → Nat := fun k => match k with
  | 0 => 111
  | 1 => 114
  | 2 => 115
  | 3 => 116
  | 4 => 117
  | 5 => 121
  | 6 => 122
  | 7 => 123
  | 8 => 239
  | _ => 257
/-- the class of a site's objects, at a state -/
def lamC (s : State) (k : Nat) : ClassId := match s.lambdaAt? (lmX k) (lmP k) (lmI k) (lmS k) with
  | some (c, _) => c
  | none => 0
/-! what holds at the law's start, and of every later state -/
def gOK (X : gX) : Prop := (∀ w ∈ lw_tbl, w.before X.2.2.2.1 X.2.2.2.2 = true) ∧ ((Jvm.Cond.and given_1 narrow_1).before X.2.2.2.1 X.2.2.2.2 = true ∧ ∀ k, X.2.2.1 k = lamC X.2.2.2.2 k) ∧ va_K X.1 vwCl (gTys X.2.1) X.2.2.2.2
def gIn (X : gX) (U : State) : Prop := gOK X ∧ X.2.2.2.2.WarmedH U.vm ∧ gB X ≤ U.heap.size ∧ ∀ q : Nat, q < gB X → U.heap[q]? = X.2.2.2.2.heap[q]?
theorem gIn.ok {X : gX} {U : State} (h : gIn X U) : gOK X := h.1
theorem gIn.warm {X : gX} {U : State} (h : gIn X U) : X.2.2.2.2.WarmedH U.vm := h.2.1
theorem gIn.K {X : gX} {U : State} (h : gIn X U) : va_K X.1 vwCl (gTys X.2.1) U := h.1.2.2.moved h.2.1.alike
theorem gIn.next {X : gX} {s U : State} {H : Heap} {locs : List Loc} (h : gIn X s) (hS : va_S (gA X) s.heap H locs) (hU : U.heap = H) (hW : s.WarmedH U.vm) : gIn X U :=
  ⟨h.1, State.WarmedH.trans h.2.1 hW, by rw [hU]; exact Nat.le_trans h.2.2.1 hS.1, fun q hq => by
    rw [hU, hS.2.1 q (Nat.lt_of_lt_of_le hq h.2.2.1) (fun z => Nat.not_le.mpr hq z)]
    exact h.2.2.2 q hq⟩
theorem gIn.nF {X : gX} {U : State} {A : Array Value} {a : String} {i : Nat} {b n d hh : String} (h : gIn X U) (hw : (Cond.fieldLinkNest a i b n d hh) ∈ lw_tbl) : (Cond.fieldLinkNest a i b n d hh).before A U = true :=
  va_Nw.use rfl (va_Nw.warmF h.2.1 (va_Nw.of rfl (h.1.1 _ hw)))
theorem gIn.nM {X : gX} {U : State} {a : String} {i : Nat} {x : MethodName} {hh : String} (h : gIn X U) (hw : (Cond.methodLinkNest a i x hh) ∈ lw_tbl) : va_Nw (Cond.methodLinkNest a i x hh) U :=
  va_Nw.warmM h.2.1 (va_Nw.of rfl (h.1.1 _ hw))
theorem gIn.nD {X : gX} {U : State} {x : MethodName} (h : gIn X U) (hw : (Cond.declares x) ∈ lw_tbl) : va_Nw (Cond.declares x) U := va_Nw.warmD h.2.1 (va_Nw.of rfl (h.1.1 _ hw))
theorem gIn.nC {X : gX} {U : State} {C T : String} (h : gIn X U) (hw : (Cond.castable C T) ∈ lw_tbl) : va_Nw (Cond.castable C T) U := va_Nw.warmC h.2.1 (va_Nw.of rfl (h.1.1 _ hw))
theorem gIn.ao {X : gX} {U : State} {C : String} (h : gIn X U) (hw : (Cond.arrayOver (.object C)) ∈ lw_tbl) : va_AO C U := va_AO.moved h.2.1.alike (va_AO.of (h.1.1 _ hw))
theorem gIn.fw {X : gX} {U : State} {C : String} {x y : MethodName} (h : gIn X U) (hx : x.cls ≠ "java/lang/invoke/MethodHandle" ∧ x.cls ≠ "java/lang/invoke/VarHandle") (h1 : Cond.declares x ∈ lw_tbl) (h2 : Cond.interfaceMethod x.cls x.cls x.name x.desc ∈ lw_tbl) (h3 : Cond.publicMethod y ∈ lw_tbl) (h4 : Cond.unhidden C x.name x.desc ∈ lw_tbl) (h5 : Cond.castable C x.cls ∈ lw_tbl) : va_Fw C x y U :=
  va_Fw.moved hx h.2.1.alike (va_Fw.of (h.1.1 _ h1) (h.1.1 _ h2) (h.1.1 _ h3) (h.1.1 _ h4) (h.1.1 _ h5))

/-! contracts: from a map σ the method answers, and the heap then has a map of which post tells -/
def gPc (X : gX) (σ : gS) (av : List Value) : Array Value → State → Prop := va_Pc av (fun U => gSat X σ U.heap ∧ gIn X U)
theorem gPc_blind {X : gX} {σ : gS} {av : List Value} : FrameBlind (gPc X σ av) := fun _ _ _ _ h => h
def gT (X : gX) (post : Option Value → gS → Prop) : Array Value → State → Outcome → State → Prop := fun _ st o t => (∃ (v : Option Value) (σ' : gS), o = .returned v ∧ post v σ' ∧ gSat X σ' t.heap) ∧ va_F (gA X) st t
abbrev gR (fr mc ms lo : Nat) : Room := { frames := fr, cells := mc, slots := ms, locals := lo }
def gMet (l : Launch) (X : gX) (y : MethodName) (cc : ByteArray) (L : Nat) (ret : Option FieldType) (fr mc ms lo : Nat) (σ : gS) (av : List Value) (post : Option Value → gS → Prop) : Prop :=
  Met l y (ws_ y cc L ret) (gR fr mc ms lo) (gPc X σ av) (gT X post) mc ms (gA X)
/-- a contract's end: what its Q is -/
def gEnd (X : gX) (post : Option Value → gS → Prop) (below : List Frame) (args : Array Value) (s : State) (mc ms : Nat) (Q : State → Prop) : Prop := ∀ t, MQ below (gT X post) args s mc ms (gA X) t → Q t
theorem gMet.of {l : Launch} {X : gX} {y : MethodName} {cc : ByteArray} {L : Nat} {ret : Option FieldType} {fr mc ms lo : Nat} {σ : gS} {av : List Value} {post : Option Value → gS → Prop} (hy : plainName y.cls = true) (hL : (lg_sl av).length ≤ L)
    (body : ∀ (p : Program) (e : Env) (s : State) (m : MethodId) (args : Array Value) (below : List Frame) (meth : Method) (c : Code) (Q : State → Prop) (H : Heap) (locs : List Loc) (ls : Array Slot), args = av.toArray → p.tables.exec = Jvm.exec → c.code = cc → meth.sig.returnType = ret → meth.locks = false → c.maxLocals = L → s.vm.findClass y.cls = some m.cls → meth.name = y.name →
      (∀ w ∈ lw_all, w.before args s = true) → gIn X s → gSat X σ H → va_S (gA X) s.heap H locs → gEnd X post below args s mc ms Q → lv_has ls L (lv_args 0 av) → W p l e (gR fr mc ms lo) s m args below meth c H locs 0 0 Q (F0 m 0 ls [])) :
    gMet l X y cc L ret fr mc ms lo σ av post := by
  refine Met.ofW (cc := cc) (maxL := L) (ret := ret) hy rfl ?_
  intro p e s m args below meth c s₁ B hml hv
  obtain ⟨rfl, hG, hK⟩ := hv
  have hts := atoms_spec (ws := ws_ y cc L ret) B.pre
  have hts : ∀ w ∈ lw_all, w.before _ s = true := fun w h => hts w (List.mem_cons_of_mem _ h)
  have hl := lv_entry av (n := L) hL
  rw [lg_entry_eq]
  exact body p e s m _ below meth c _ s.heap [] _ rfl B.exec B.bytes B.returns B.notSynchronized hml (findClass_of_methodNamed B.named) (name_of_methodNamed B.named B.method).1 hts hK hG va_S.rf (fun t h => h) hl

section GW
variable {p : Program} {l : Launch} {e : Env} {R : Room} {s : State} {m : MethodId} {args : Array Value} {below : List Frame} {meth : Method} {c : Code} {H : Heap} {locs : List Loc} {cells slots : Nat} {Q : State → Prop} {cc : ByteArray} {pc : Nat} {ls : Array Slot} {rest : List Value}
theorem g_cons {Q1 : State → Prop} {g : JFrame} (h : ∀ t, Q1 t → Q t) (k : W p l e R s m args below meth c H locs cells slots Q1 g) : W p l e R s m args below meth c H locs cells slots Q g := fun T hT X => by
  obtain ⟨t, a, b⟩ := k T hT X
  exact ⟨t, a, h t b⟩
theorem g_iadd (hx : p.tables.exec = Jvm.exec) (hb : c.code = cc) {a b : Int} (hdg : decode cc pc = .ok (.iadd, 1)) (k : W p l e R s m args below meth c H locs cells slots Q (F0 m (pc + 1) ls (.int (iI (a + b)) :: rest))) : W p l e R s m args below meth c H locs cells slots Q (F0 m pc ls (.int (iI b) :: .int (iI a) :: rest)) := lv_iadd hx hb hdg (by rw [iI_add]; exact k)
theorem g_isub (hx : p.tables.exec = Jvm.exec) (hb : c.code = cc) {a b : Int} (hdg : decode cc pc = .ok (.isub, 1)) (k : W p l e R s m args below meth c H locs cells slots Q (F0 m (pc + 1) ls (.int (iI (a - b)) :: rest))) : W p l e R s m args below meth c H locs cells slots Q (F0 m pc ls (.int (iI b) :: .int (iI a) :: rest)) := lv_isub hx hb hdg (by rw [iI_sub]; exact k)
theorem g_imul (hx : p.tables.exec = Jvm.exec) (hb : c.code = cc) {a b : Int} (hdg : decode cc pc = .ok (.imul, 1)) (k : W p l e R s m args below meth c H locs cells slots Q (F0 m (pc + 1) ls (.int (iI (a * b)) :: rest))) : W p l e R s m args below meth c H locs cells slots Q (F0 m pc ls (.int (iI b) :: .int (iI a) :: rest)) := lv_imul hx hb hdg (by rw [iI_mul]; exact k)
theorem g_ineg (hx : p.tables.exec = Jvm.exec) (hb : c.code = cc) {a : Int} (hdg : decode cc pc = .ok (.ineg, 1)) (k : W p l e R s m args below meth c H locs cells slots Q (F0 m (pc + 1) ls (.int (iI (-a)) :: rest))) : W p l e R s m args below meth c H locs cells slots Q (F0 m pc ls (.int (iI a) :: rest)) := lv_ineg hx hb hdg (by rw [iI_neg]; exact k)
theorem g_irem (hx : p.tables.exec = Jvm.exec) (hb : c.code = cc) {a b : Int} (hdg : decode cc pc = .ok (.irem, 1)) (ha : 0 ≤ a ∧ a ≤ 2147483647) (hb0 : 0 < b ∧ b ≤ 2147483647) (k : W p l e R s m args below meth c H locs cells slots Q (F0 m (pc + 1) ls (.int (iI (a % b)) :: rest))) : W p l e R s m args below meth c H locs cells slots Q (F0 m pc ls (.int (iI b) :: .int (iI a) :: rest)) := lv_irem hx hb hdg (by rw [← iI_0, iI_eq (by omega) (by omega)]; omega) (by rw [iI_rem ha hb0]; exact k)
theorem g_itrem (hx : p.tables.exec = Jvm.exec) (hb : c.code = cc) {a b : Int} (hdg : decode cc pc = .ok (.irem, 1)) (ha : -2147483648 ≤ a ∧ a ≤ 2147483647) (hb0 : 0 < b ∧ b ≤ 2147483647) (k : W p l e R s m args below meth c H locs cells slots Q (F0 m (pc + 1) ls (.int (iI (a.tmod b)) :: rest))) : W p l e R s m args below meth c H locs cells slots Q (F0 m pc ls (.int (iI b) :: .int (iI a) :: rest)) := lv_irem hx hb hdg (by rw [← iI_0, iI_eq (by omega) (by omega)]; omega) (by rw [iI_trem ha hb0]; exact k)
theorem g_idiv (hx : p.tables.exec = Jvm.exec) (hb : c.code = cc) {a b : Int} (hdg : decode cc pc = .ok (.idiv, 1)) (ha : 0 ≤ a ∧ a ≤ 2147483647) (hb0 : 0 < b ∧ b ≤ 2147483647) (k : W p l e R s m args below meth c H locs cells slots Q (F0 m (pc + 1) ls (.int (iI (a / b)) :: rest))) : W p l e R s m args below meth c H locs cells slots Q (F0 m pc ls (.int (iI b) :: .int (iI a) :: rest)) := lv_idiv hx hb hdg (by rw [← iI_0, iI_eq (by omega) (by omega)]; omega) (by rw [iI_div ha hb0]; exact k)
theorem g_iconst (hx : p.tables.exec = Jvm.exec) (hb : c.code = cc) {n : Int} (hdg : decode cc pc = .ok (.iconst n, 1)) (k : W p l e R s m args below meth c H locs cells slots Q (F0 m (pc + 1) ls (.int (iI n) :: rest))) : W p l e R s m args below meth c H locs cells slots Q (F0 m pc ls (rest)) := lv_iconst hx hb hdg rfl k
theorem g_bipush (hx : p.tables.exec = Jvm.exec) (hb : c.code = cc) {n : Int} (hdg : decode cc pc = .ok (.bipush n, 2)) (hv : (Int8.ofInt n).toInt32 = iI n) (k : W p l e R s m args below meth c H locs cells slots Q (F0 m (pc + 2) ls (.int (iI n) :: rest))) : W p l e R s m args below meth c H locs cells slots Q (F0 m pc ls (rest)) := lv_bipush hx hb hdg hv k
theorem g_sipush (hx : p.tables.exec = Jvm.exec) (hb : c.code = cc) {n : Int} (hdg : decode cc pc = .ok (.sipush n, 3)) (hv : (Int16.ofInt n).toInt32 = iI n) (k : W p l e R s m args below meth c H locs cells slots Q (F0 m (pc + 3) ls (.int (iI n) :: rest))) : W p l e R s m args below meth c H locs cells slots Q (F0 m pc ls (rest)) := lv_sipush hx hb hdg hv k
theorem g_ldc (hx : p.tables.exec = Jvm.exec) (hb : c.code = cc) {own : String} {index : Nat} {v : Int32} (n : Int) (hown : s.vm.findClass own = some m.cls) (hconst : (Jvm.Cond.constant own index v).before args s = true) (hv : v = iI n) (hdg : decode cc pc = .ok (.ldc index, 2)) (k : W p l e R s m args below meth c H locs cells slots Q (F0 m (pc + 2) ls (.int (iI n) :: rest))) : W p l e R s m args below meth c H locs cells slots Q (F0 m pc ls (rest)) := lv_ldc hx hb hown hconst hdg (by rw [hv]; exact k)
theorem g_ldc2 (hx : p.tables.exec = Jvm.exec) (hb : c.code = cc) {own : String} {index : Nat} {v : Int64} (n : Int) (hown : s.vm.findClass own = some m.cls) (hconst : (Jvm.Cond.constantLong own index v).before args s = true) (hv : v = lI n) (hdg : decode cc pc = .ok (.ldc2_w index, 3)) (k : W p l e R s m args below meth c H locs cells slots Q (F0 m (pc + 3) ls (.long (lI n) :: rest))) : W p l e R s m args below meth c H locs cells slots Q (F0 m pc ls (rest)) := lv_ldc2 hx hb hown hconst hdg (by rw [hv]; exact k)
theorem g_i2l (hx : p.tables.exec = Jvm.exec) (hb : c.code = cc) {a : Int} (hdg : decode cc pc = .ok (.i2l, 1)) (ha : -2147483648 ≤ a ∧ a ≤ 2147483647) (k : W p l e R s m args below meth c H locs cells slots Q (F0 m (pc + 1) ls (.long (lI a) :: rest))) : W p l e R s m args below meth c H locs cells slots Q (F0 m pc ls (.int (iI a) :: rest)) := lv_i2l hx hb hdg (iI_l ha) k
theorem g_lcmp (hx : p.tables.exec = Jvm.exec) (hb : c.code = cc) {a b : Int} (hdg : decode cc pc = .ok (.lcmp, 1)) (ha : -9223372036854775808 ≤ a ∧ a ≤ 9223372036854775807) (hb2 : -9223372036854775808 ≤ b ∧ b ≤ 9223372036854775807) (k : ∀ z : Int, (z = 1 ∧ b < a) ∨ (z = 0 ∧ a = b) ∨ (z = -1 ∧ a < b) → W p l e R s m args below meth c H locs cells slots Q (F0 m (pc + 1) ls (.int (iI z) :: rest))) : W p l e R s m args below meth c H locs cells slots Q (F0 m pc ls (.long (lI b) :: .long (lI a) :: rest)) := by
  refine W.lcmp hx hb hdg ?_
  unfold lg_cmp
  by_cases h1 : lI a > lI b
  · rw [if_pos h1]
    exact k 1 (Or.inl ⟨rfl, (lI_lt hb2 ha).mp h1⟩)
  · rw [if_neg h1]
    by_cases h2 : lI a = lI b
    · rw [if_pos h2]
      exact k 0 (Or.inr (Or.inl ⟨rfl, (lI_eq ha hb2).mp h2⟩))
    · rw [if_neg h2]
      refine k (-1) (Or.inr (Or.inr ⟨rfl, ?_⟩))
      have h3 : ¬ b < a := fun z => h1 ((lI_lt hb2 ha).mpr z)
      have h4 : ¬ a = b := fun z => h2 ((lI_eq ha hb2).mpr z)
      omega
theorem g_if_eq (hx : p.tables.exec = Jvm.exec) (hb : c.code = cc) {a : Int} {off : Int} {tgt : Nat} (hdg : decode cc pc = .ok (.ifCond .eq off, 3)) (ht : (pc : Int) + off = (tgt : Int)) (h : -2147483648 ≤ a ∧ a ≤ 2147483647) (kt : a = 0 → W p l e R s m args below meth c H locs cells slots Q (F0 m tgt ls (rest))) (kf : ¬ a = 0 → W p l e R s m args below meth c H locs cells slots Q (F0 m (pc + 3) ls (rest))) : W p l e R s m args below meth c H locs cells slots Q (F0 m pc ls (.int (iI a) :: rest)) := by
  refine lv_if_eq hx hb hdg ht (fun q => kt ?_) (fun q => kf ?_)
  all_goals
    rw [← iI_0, iI_eq h (by omega)] at q
    omega
theorem g_if_ne (hx : p.tables.exec = Jvm.exec) (hb : c.code = cc) {a : Int} {off : Int} {tgt : Nat} (hdg : decode cc pc = .ok (.ifCond .ne off, 3)) (ht : (pc : Int) + off = (tgt : Int)) (h : -2147483648 ≤ a ∧ a ≤ 2147483647) (kt : ¬ a = 0 → W p l e R s m args below meth c H locs cells slots Q (F0 m tgt ls (rest))) (kf : a = 0 → W p l e R s m args below meth c H locs cells slots Q (F0 m (pc + 3) ls (rest))) : W p l e R s m args below meth c H locs cells slots Q (F0 m pc ls (.int (iI a) :: rest)) := by
  refine lv_if_ne hx hb hdg ht (fun q => kt ?_) (fun q => kf ?_)
  all_goals
    rw [← iI_0, iI_eq h (by omega)] at q
    omega
theorem g_if_lt (hx : p.tables.exec = Jvm.exec) (hb : c.code = cc) {a : Int} {off : Int} {tgt : Nat} (hdg : decode cc pc = .ok (.ifCond .lt off, 3)) (ht : (pc : Int) + off = (tgt : Int)) (h : -2147483648 ≤ a ∧ a ≤ 2147483647) (kt : a < 0 → W p l e R s m args below meth c H locs cells slots Q (F0 m tgt ls (rest))) (kf : 0 ≤ a → W p l e R s m args below meth c H locs cells slots Q (F0 m (pc + 3) ls (rest))) : W p l e R s m args below meth c H locs cells slots Q (F0 m pc ls (.int (iI a) :: rest)) := by
  refine lv_if_lt hx hb hdg ht (fun q => kt ?_) (fun q => kf ?_)
  all_goals
    rw [← iI_0, iI_lt h (by omega)] at q
    omega
theorem g_if_ge (hx : p.tables.exec = Jvm.exec) (hb : c.code = cc) {a : Int} {off : Int} {tgt : Nat} (hdg : decode cc pc = .ok (.ifCond .ge off, 3)) (ht : (pc : Int) + off = (tgt : Int)) (h : -2147483648 ≤ a ∧ a ≤ 2147483647) (kt : 0 ≤ a → W p l e R s m args below meth c H locs cells slots Q (F0 m tgt ls (rest))) (kf : a < 0 → W p l e R s m args below meth c H locs cells slots Q (F0 m (pc + 3) ls (rest))) : W p l e R s m args below meth c H locs cells slots Q (F0 m pc ls (.int (iI a) :: rest)) := by
  refine lv_if_ge hx hb hdg ht (fun q => kt ?_) (fun q => kf ?_)
  all_goals
    rw [← iI_0, iI_le (by omega) h] at q
    omega
theorem g_if_gt (hx : p.tables.exec = Jvm.exec) (hb : c.code = cc) {a : Int} {off : Int} {tgt : Nat} (hdg : decode cc pc = .ok (.ifCond .gt off, 3)) (ht : (pc : Int) + off = (tgt : Int)) (h : -2147483648 ≤ a ∧ a ≤ 2147483647) (kt : 0 < a → W p l e R s m args below meth c H locs cells slots Q (F0 m tgt ls (rest))) (kf : a ≤ 0 → W p l e R s m args below meth c H locs cells slots Q (F0 m (pc + 3) ls (rest))) : W p l e R s m args below meth c H locs cells slots Q (F0 m pc ls (.int (iI a) :: rest)) := by
  refine lv_if_gt hx hb hdg ht (fun q => kt ?_) (fun q => kf ?_)
  all_goals
    rw [← iI_0, iI_lt (by omega) h] at q
    omega
theorem g_if_le (hx : p.tables.exec = Jvm.exec) (hb : c.code = cc) {a : Int} {off : Int} {tgt : Nat} (hdg : decode cc pc = .ok (.ifCond .le off, 3)) (ht : (pc : Int) + off = (tgt : Int)) (h : -2147483648 ≤ a ∧ a ≤ 2147483647) (kt : a ≤ 0 → W p l e R s m args below meth c H locs cells slots Q (F0 m tgt ls (rest))) (kf : 0 < a → W p l e R s m args below meth c H locs cells slots Q (F0 m (pc + 3) ls (rest))) : W p l e R s m args below meth c H locs cells slots Q (F0 m pc ls (.int (iI a) :: rest)) := by
  refine lv_if_le hx hb hdg ht (fun q => kt ?_) (fun q => kf ?_)
  all_goals
    rw [← iI_0, iI_le h (by omega)] at q
    omega
theorem g_icmp_eq (hx : p.tables.exec = Jvm.exec) (hb : c.code = cc) {a b : Int} {off : Int} {tgt : Nat} (hdg : decode cc pc = .ok (.if_icmp .eq off, 3)) (ht : (pc : Int) + off = (tgt : Int)) (ha : -2147483648 ≤ a ∧ a ≤ 2147483647) (hb2 : -2147483648 ≤ b ∧ b ≤ 2147483647) (kt : a = b → W p l e R s m args below meth c H locs cells slots Q (F0 m tgt ls (rest))) (kf : ¬ a = b → W p l e R s m args below meth c H locs cells slots Q (F0 m (pc + 3) ls (rest))) : W p l e R s m args below meth c H locs cells slots Q (F0 m pc ls (.int (iI b) :: .int (iI a) :: rest)) := by
  refine lv_icmp_eq hx hb hdg ht (fun q => kt ?_) (fun q => kf ?_)
  all_goals
    rw [iI_eq ha hb2] at q
    omega
theorem g_icmp_ne (hx : p.tables.exec = Jvm.exec) (hb : c.code = cc) {a b : Int} {off : Int} {tgt : Nat} (hdg : decode cc pc = .ok (.if_icmp .ne off, 3)) (ht : (pc : Int) + off = (tgt : Int)) (ha : -2147483648 ≤ a ∧ a ≤ 2147483647) (hb2 : -2147483648 ≤ b ∧ b ≤ 2147483647) (kt : ¬ a = b → W p l e R s m args below meth c H locs cells slots Q (F0 m tgt ls (rest))) (kf : a = b → W p l e R s m args below meth c H locs cells slots Q (F0 m (pc + 3) ls (rest))) : W p l e R s m args below meth c H locs cells slots Q (F0 m pc ls (.int (iI b) :: .int (iI a) :: rest)) := by
  refine lv_icmp_ne hx hb hdg ht (fun q => kt ?_) (fun q => kf ?_)
  all_goals
    rw [iI_eq ha hb2] at q
    omega
theorem g_icmp_lt (hx : p.tables.exec = Jvm.exec) (hb : c.code = cc) {a b : Int} {off : Int} {tgt : Nat} (hdg : decode cc pc = .ok (.if_icmp .lt off, 3)) (ht : (pc : Int) + off = (tgt : Int)) (ha : -2147483648 ≤ a ∧ a ≤ 2147483647) (hb2 : -2147483648 ≤ b ∧ b ≤ 2147483647) (kt : a < b → W p l e R s m args below meth c H locs cells slots Q (F0 m tgt ls (rest))) (kf : b ≤ a → W p l e R s m args below meth c H locs cells slots Q (F0 m (pc + 3) ls (rest))) : W p l e R s m args below meth c H locs cells slots Q (F0 m pc ls (.int (iI b) :: .int (iI a) :: rest)) := by
  refine lv_icmp_lt hx hb hdg ht (fun q => kt ?_) (fun q => kf ?_)
  all_goals
    rw [iI_lt ha hb2] at q
    omega
theorem g_icmp_ge (hx : p.tables.exec = Jvm.exec) (hb : c.code = cc) {a b : Int} {off : Int} {tgt : Nat} (hdg : decode cc pc = .ok (.if_icmp .ge off, 3)) (ht : (pc : Int) + off = (tgt : Int)) (ha : -2147483648 ≤ a ∧ a ≤ 2147483647) (hb2 : -2147483648 ≤ b ∧ b ≤ 2147483647) (kt : b ≤ a → W p l e R s m args below meth c H locs cells slots Q (F0 m tgt ls (rest))) (kf : a < b → W p l e R s m args below meth c H locs cells slots Q (F0 m (pc + 3) ls (rest))) : W p l e R s m args below meth c H locs cells slots Q (F0 m pc ls (.int (iI b) :: .int (iI a) :: rest)) := by
  refine lv_icmp_ge hx hb hdg ht (fun q => kt ?_) (fun q => kf ?_)
  all_goals
    rw [iI_le hb2 ha] at q
    omega
theorem g_icmp_gt (hx : p.tables.exec = Jvm.exec) (hb : c.code = cc) {a b : Int} {off : Int} {tgt : Nat} (hdg : decode cc pc = .ok (.if_icmp .gt off, 3)) (ht : (pc : Int) + off = (tgt : Int)) (ha : -2147483648 ≤ a ∧ a ≤ 2147483647) (hb2 : -2147483648 ≤ b ∧ b ≤ 2147483647) (kt : b < a → W p l e R s m args below meth c H locs cells slots Q (F0 m tgt ls (rest))) (kf : a ≤ b → W p l e R s m args below meth c H locs cells slots Q (F0 m (pc + 3) ls (rest))) : W p l e R s m args below meth c H locs cells slots Q (F0 m pc ls (.int (iI b) :: .int (iI a) :: rest)) := by
  refine lv_icmp_gt hx hb hdg ht (fun q => kt ?_) (fun q => kf ?_)
  all_goals
    rw [iI_lt hb2 ha] at q
    omega
theorem g_icmp_le (hx : p.tables.exec = Jvm.exec) (hb : c.code = cc) {a b : Int} {off : Int} {tgt : Nat} (hdg : decode cc pc = .ok (.if_icmp .le off, 3)) (ht : (pc : Int) + off = (tgt : Int)) (ha : -2147483648 ≤ a ∧ a ≤ 2147483647) (hb2 : -2147483648 ≤ b ∧ b ≤ 2147483647) (kt : a ≤ b → W p l e R s m args below meth c H locs cells slots Q (F0 m tgt ls (rest))) (kf : b < a → W p l e R s m args below meth c H locs cells slots Q (F0 m (pc + 3) ls (rest))) : W p l e R s m args below meth c H locs cells slots Q (F0 m pc ls (.int (iI b) :: .int (iI a) :: rest)) := by
  refine lv_icmp_le hx hb hdg ht (fun q => kt ?_) (fun q => kf ?_)
  all_goals
    rw [iI_le ha hb2] at q
    omega
theorem g_name {a : Int} (k : ∀ z : Int, z = a → W p l e R s m args below meth c H locs cells slots Q (F0 m pc ls (.int (iI z) :: rest))) : W p l e R s m args below meth c H locs cells slots Q (F0 m pc ls (.int (iI a) :: rest)) := k a rfl
theorem g_rw {a b : Int} (h : a = b) (k : W p l e R s m args below meth c H locs cells slots Q (F0 m pc ls (.int (iI b) :: rest))) : W p l e R s m args below meth c H locs cells slots Q (F0 m pc ls (.int (iI a) :: rest)) := h ▸ k
theorem g_iinc (hx : p.tables.exec = Jvm.exec) (hb : c.code = cc) {i nL k : Nat} {n x : Int} {lv lv' : List (Nat × Value)} (hdg : decode cc pc = .ok (.iinc i n, 3)) (h : lv_has ls nL lv) (hk : lv[k]? = some (i, .int (iI x))) (hn : i < nL) (hl : (i, Value.int (iI (x + n))) :: lv.filter (fun q => !(q.1 == i) && !(q.1 + 1 == i && q.2.category == 2)) = lv')
    (kk : ∀ ls' : Array Slot, lv_has ls' nL lv' → W p l e R s m args below meth c H locs cells slots Q (F0 m (pc + 3) ls' rest)) : W p l e R s m args below meth c H locs cells slots Q (F0 m pc ls (rest)) := lv_iinc hx hb hdg h hk (iI_add x n) hn hl kk
theorem g_get (hx : p.tables.exec = Jvm.exec) (hb : c.code = cc) {X : gX} {σ : gS} {a : Nat} {own ref C : String} {T : u_T} {N ci index t : Nat} {fs : List Value} (hts : ∀ w ∈ lw_all, w.before args s = true) (hown : s.vm.findClass own = some m.cls) (hK : gIn X s) (hG : gSat X σ H) (ha : σ a = some (t, gO ci fs)) (hc : vwCl[ci]? = some (C, T, N)) (hin : ∀ w ∈ u_ws C T N, w ∈ lw_all) (k : Nat) (hk : k < N) (hlink : Cond.fieldLink own index ref (T k).2.1 (T k).2.2.1 ∈ lw_all) (hsame : (T k).1 = ref) {v : Value} (hv : fs[k]? = some v) (hdg : decode cc pc = .ok (.getfield index, 3))
    (kk : W p l e R s m args below meth c H locs cells slots Q (F0 m (pc + 3) ls (v :: rest))) : W p l e R s m args below meth c H locs cells slots Q (F0 m pc ls (.ref a :: rest)) := by
  refine va_get (D := X.1) (cl := vwCl) hx hb hts hin hown hK.K (hG.P ha) 0 rfl hc k hk (hts _ hlink) ?_ hv hdg kk
  rw [hsame]
  exact fun _ h => h
theorem g_getN (hx : p.tables.exec = Jvm.exec) (hb : c.code = cc) {X : gX} {σ : gS} {a : Nat} {host : String} {own ref C : String} {T : u_T} {N ci index t : Nat} {fs : List Value} (hts : ∀ w ∈ lw_all, w.before args s = true) (hown : s.vm.findClass own = some m.cls) (hK : gIn X s) (hG : gSat X σ H) (ha : σ a = some (t, gO ci fs)) (hc : vwCl[ci]? = some (C, T, N)) (hin : ∀ w ∈ u_ws C T N, w ∈ lw_all) (k : Nat) (hk : k < N) (hlink : Cond.fieldLinkNest own index ref (T k).2.1 (T k).2.2.1 host ∈ lw_tbl) (hsame : (T k).1 = ref) {v : Value} (hv : fs[k]? = some v) (hdg : decode cc pc = .ok (.getfield index, 3))
    (kk : W p l e R s m args below meth c H locs cells slots Q (F0 m (pc + 3) ls (v :: rest))) : W p l e R s m args below meth c H locs cells slots Q (F0 m pc ls (.ref a :: rest)) := by
  refine va_getN (D := X.1) (cl := vwCl) hx hb hts hin hown hK.K (hG.P ha) 0 rfl hc k hk (hK.nF hlink) ?_ hv hdg kk
  rw [hsame]
  exact fun _ h => h
theorem g_put (hx : p.tables.exec = Jvm.exec) (hb : c.code = cc) {X : gX} {σ : gS} {a : Nat} {own ref C : String} {T : u_T} {N ci index t : Nat} {fs : List Value} {ty0 : Nat → FieldType} (hts : ∀ w ∈ lw_all, w.before args s = true) (hown : s.vm.findClass own = some m.cls) (hK : gIn X s) (hG : gSat X σ H) (hS : va_S (gA X) s.heap H locs) (ha : σ a = some (t, gO ci fs)) (hc : vwCl[ci]? = some (C, T, N)) (hin : ∀ w ∈ u_ws C T N, w ∈ lw_all) (hty : ∀ k, k < N → parseFieldDescriptor (T k).2.2.1 = some (ty0 k)) (hnm : ∀ a, a < N → ∀ b, b < N → a ≠ b → (T a).2.1 ≠ (T b).2.1) (k : Nat) (hk : k < N) (hlink : Cond.fieldLink own index ref (T k).2.1 (T k).2.2.1 ∈ lw_all) (hsame : (T k).1 = ref) (hfin : (T k).2.2.2 = false) {v : Value} (hn : narrow (ty0 k) v = v) (hfit : fits (ty0 k) v = true) (hl : k < fs.length) (hdg : decode cc pc = .ok (.putfield index, 3))
    (kk : ∀ (H1 : Heap) (locs1 : List Loc), gSat X (gup σ a (t, gO ci (fs.set k v))) H1 → va_S (gA X) s.heap H1 locs1 → W p l e R s m args below meth c H1 locs1 cells slots Q (F0 m (pc + 3) ls rest)) : W p l e R s m args below meth c H locs cells slots Q (F0 m pc ls (v :: .ref a :: rest)) := by
  have hsm : ∀ x, s.fieldFound? (T k).1 (T k).2.1 (T k).2.2.1 = some x → s.fieldFound? ref (T k).2.1 (T k).2.2.1 = some x := by rw [hsame]; exact fun _ h => h
  have hKv := hK.K
  have hap := va_apart (own := own) hts hin ty0 hty hnm hKv hc
  obtain ⟨⟨r, h1, cell, q1, q2, q3, q4⟩, hB⟩ := hG a t _ ha
  have hr : r = (C, T, N) := Option.some.inj (h1.symm.trans hc)
  subst hr
  obtain ⟨hSl, hfc, kC, hkC, hkind⟩ := hKv.1 ci _ hc
  obtain ⟨cf, kf, fi, f, hi, hsl⟩ := hSl k hk
  have hlay := hts _ (hin _ (u_in_lay hk))
  unfold u_lay at hlay
  rw [if_neg (by rw [hfin]; decide)] at hlay
  have hst := (u_facts hfc hkC (u_lays hts hin hk) hi).1
  have h6 := u_store hfc hkC hkind hlay hi (hty k hk) hn hfit
  refine W.putK hx hb (f := f) ⟨hown, hts _ hlink, ⟨_, _, _, hsm _ hi⟩, hst⟩ (by rw [q2]; exact h6) q1 q3 (by rw [hsl]; exact k2_hasslot (q4 k hk)) rfl rfl hdg fun H' e1 e2 e3 => ?_
  rw [hsl] at e1 ⊢
  exact kk H' _ (hG.set hB (show va_at X.1 vwCl (a, .inr (ci, fs.set k v)) H' from ⟨_, hc, t_OB.to (V := updV (vp_V fs) k v) ⟨_, e1, q2, q3, t_set q4 hap hk v⟩ (fun j _ => vp_updV_set hl v j)⟩) (fun q hq _ => e3 q hq)) (hS.put e2 e3 hB)
theorem g_putN (hx : p.tables.exec = Jvm.exec) (hb : c.code = cc) {X : gX} {σ : gS} {a : Nat} {host : String} {own ref C : String} {T : u_T} {N ci index t : Nat} {fs : List Value} {ty0 : Nat → FieldType} (hts : ∀ w ∈ lw_all, w.before args s = true) (hown : s.vm.findClass own = some m.cls) (hK : gIn X s) (hG : gSat X σ H) (hS : va_S (gA X) s.heap H locs) (ha : σ a = some (t, gO ci fs)) (hc : vwCl[ci]? = some (C, T, N)) (hin : ∀ w ∈ u_ws C T N, w ∈ lw_all) (hty : ∀ k, k < N → parseFieldDescriptor (T k).2.2.1 = some (ty0 k)) (hnm : ∀ a, a < N → ∀ b, b < N → a ≠ b → (T a).2.1 ≠ (T b).2.1) (k : Nat) (hk : k < N) (hlink : Cond.fieldLinkNest own index ref (T k).2.1 (T k).2.2.1 host ∈ lw_tbl) (hsame : (T k).1 = ref) (hfin : (T k).2.2.2 = false) {v : Value} (hn : narrow (ty0 k) v = v) (hfit : fits (ty0 k) v = true) (hl : k < fs.length) (hdg : decode cc pc = .ok (.putfield index, 3))
    (kk : ∀ (H1 : Heap) (locs1 : List Loc), gSat X (gup σ a (t, gO ci (fs.set k v))) H1 → va_S (gA X) s.heap H1 locs1 → W p l e R s m args below meth c H1 locs1 cells slots Q (F0 m (pc + 3) ls rest)) : W p l e R s m args below meth c H locs cells slots Q (F0 m pc ls (v :: .ref a :: rest)) := by
  have hsm : ∀ x, s.fieldFound? (T k).1 (T k).2.1 (T k).2.2.1 = some x → s.fieldFound? ref (T k).2.1 (T k).2.2.1 = some x := by rw [hsame]; exact fun _ h => h
  have hKv := hK.K
  have hap := va_apart (own := own) hts hin ty0 hty hnm hKv hc
  obtain ⟨⟨r, h1, cell, q1, q2, q3, q4⟩, hB⟩ := hG a t _ ha
  have hr : r = (C, T, N) := Option.some.inj (h1.symm.trans hc)
  subst hr
  obtain ⟨hSl, hfc, kC, hkC, hkind⟩ := hKv.1 ci _ hc
  obtain ⟨cf, kf, fi, f, hi, hsl⟩ := hSl k hk
  have hlay := hts _ (hin _ (u_in_lay hk))
  unfold u_lay at hlay
  rw [if_neg (by rw [hfin]; decide)] at hlay
  have hst := (u_facts hfc hkC (u_lays hts hin hk) hi).1
  have h6 := u_store hfc hkC hkind hlay hi (hty k hk) hn hfit
  refine va_WputK hx hb (f := f) hown (hK.nF hlink) (hsm _ hi) hst (by rw [q2]; exact h6) q1 q3 (by rw [hsl]; exact k2_hasslot (q4 k hk)) rfl rfl hdg fun H' e1 e2 e3 => ?_
  rw [hsl] at e1 ⊢
  exact kk H' _ (hG.set hB (show va_at X.1 vwCl (a, .inr (ci, fs.set k v)) H' from ⟨_, hc, t_OB.to (V := updV (vp_V fs) k v) ⟨_, e1, q2, q3, t_set q4 hap hk v⟩ (fun j _ => vp_updV_set hl v j)⟩) (fun q hq _ => e3 q hq)) (hS.put e2 e3 hB)
theorem g_putF (hx : p.tables.exec = Jvm.exec) (hb : c.code = cc) {X : gX} {σ : gS} {a : Nat} {own ref C : String} {T : u_T} {N ci index t : Nat} {fs : List Value} {ty0 : Nat → FieldType} (hts : ∀ w ∈ lw_all, w.before args s = true) (hown : s.vm.findClass own = some m.cls) (hK : gIn X s) (hG : gSat X σ H) (hS : va_S (gA X) s.heap H locs) (ha : σ a = some (t, gO ci fs)) (hc : vwCl[ci]? = some (C, T, N)) (hin : ∀ w ∈ u_ws C T N, w ∈ lw_all) (hty : ∀ k, k < N → parseFieldDescriptor (T k).2.2.1 = some (ty0 k)) (hnm : ∀ a, a < N → ∀ b, b < N → a ≠ b → (T a).2.1 ≠ (T b).2.1) (k : Nat) (hk : k < N) (hlink : Cond.fieldLink own index ref (T k).2.1 (T k).2.2.1 ∈ lw_all) (hsame : (T k).1 = ref) (hfin : (T k).2.2.2 = true) (hin2 : meth.name = "<init>") (hdecl : (T k).1 = own) {v : Value} (hn : narrow (ty0 k) v = v) (hfit : fits (ty0 k) v = true) (hl : k < fs.length) (hdg : decode cc pc = .ok (.putfield index, 3))
    (kk : ∀ (H1 : Heap) (locs1 : List Loc), gSat X (gup σ a (t, gO ci (fs.set k v))) H1 → va_S (gA X) s.heap H1 locs1 → W p l e R s m args below meth c H1 locs1 cells slots Q (F0 m (pc + 3) ls rest)) : W p l e R s m args below meth c H locs cells slots Q (F0 m pc ls (v :: .ref a :: rest)) := by
  have hsm : ∀ x, s.fieldFound? (T k).1 (T k).2.1 (T k).2.2.1 = some x → s.fieldFound? ref (T k).2.1 (T k).2.2.1 = some x := by rw [hsame]; exact fun _ h => h
  have hKv := hK.K
  have hap := va_apart (own := own) hts hin ty0 hty hnm hKv hc
  obtain ⟨⟨r, h1, cell, q1, q2, q3, q4⟩, hB⟩ := hG a t _ ha
  have hr : r = (C, T, N) := Option.some.inj (h1.symm.trans hc)
  subst hr
  obtain ⟨hSl, hfc, kC, hkC, hkind⟩ := hKv.1 ci _ hc
  obtain ⟨cf, kf, fi, f, hi, hsl⟩ := hSl k hk
  have hlay := hts _ (hin _ (u_in_lay hk))
  unfold u_lay at hlay
  rw [if_pos hfin] at hlay
  have hst := (u_facts hfc hkC (u_lays hts hin hk) hi).1
  have hcf : m.cls = cf := by
    obtain ⟨_, _, c', _, _, _, -, -, hf', -, -, -, hown2, -⟩ := Cond.laysFinal_spec hlay
    have e1 : c' = cf := by have := hi.symm.trans hf'; simp at this; exact this.1.symm
    rw [hdecl] at hown2
    rw [← e1]; exact Option.some.inj (hown.symm.trans hown2)
  have h6 := u_fits hfc hkC hkind (Or.inr hlay) hi (hty k hk) hn hfit
  refine W.putFinK hx hb hown (hts _ hlink) (hsm _ hi) hst hcf hin2 (by rw [q2]; exact h6) q1 q3 (by rw [hsl]; exact k2_hasslot (q4 k hk)) rfl rfl hdg fun H' e1 e2 e3 => ?_
  rw [hsl] at e1 ⊢
  exact kk H' _ (hG.set hB (show va_at X.1 vwCl (a, .inr (ci, fs.set k v)) H' from ⟨_, hc, t_OB.to (V := updV (vp_V fs) k v) ⟨_, e1, q2, q3, t_set q4 hap hk v⟩ (fun j _ => vp_updV_set hl v j)⟩) (fun q hq _ => e3 q hq)) (hS.put e2 e3 hB)
theorem g_iald (hx : p.tables.exec = Jvm.exec) (hb : c.code = cc) {X : gX} {σ : gS} {a n t : Nat} {g : Int → Int} {z : Int} (hK : gIn X s) (hG : gSat X σ H) (ha : σ a = some (t, gI (X.2.1 0) n g)) (hdg : decode cc pc = .ok (.iaload, 1)) (hz : 0 ≤ z ∧ z < n ∧ z ≤ 2147483647)
    (kk : W p l e R s m args below meth c H locs cells slots Q (F0 m (pc + 1) ls (.int (iI (g z)) :: rest))) : W p l e R s m args below meth c H locs cells slots Q (F0 m pc ls (.int (iI z) :: .ref a :: rest)) := by
  refine va_iald (D := X.1) (cl := vwCl) hx hb hK.K (hG.P ha) 0 0 rfl rfl (iI_in hz.1 hz.2.1 hz.2.2) hdg ?_
  rw [iI_clamp hz.1 hz.2.2]
  show W p l e R s m args below meth c H locs cells slots Q (F0 m (pc + 1) ls (.int (iI (g (z.toNat : Int))) :: rest))
  rw [Int.toNat_of_nonneg hz.1]
  exact kk
theorem g_iast (hx : p.tables.exec = Jvm.exec) (hb : c.code = cc) {X : gX} {σ : gS} {a n t : Nat} {g : Int → Int} {z v : Int} (hK : gIn X s) (hG : gSat X σ H) (hS : va_S (gA X) s.heap H locs) (ha : σ a = some (t, gI (X.2.1 0) n g)) (hdg : decode cc pc = .ok (.iastore, 1)) (hz : 0 ≤ z ∧ z < n ∧ z ≤ 2147483647)
    (kk : ∀ (H1 : Heap) (locs1 : List Loc), gSat X (gup σ a (t, gI (X.2.1 0) n (iup g z v))) H1 → va_S (gA X) s.heap H1 locs1 → W p l e R s m args below meth c H1 locs1 cells slots Q (F0 m (pc + 1) ls rest)) : W p l e R s m args below meth c H locs cells slots Q (F0 m pc ls (.int (iI v) :: .int (iI z) :: .ref a :: rest)) := by
  obtain ⟨h1, hB⟩ := hG a t _ ha
  refine W.iast hx hb h1 ((hK.K.2 0 _ rfl).1 n (fun j => .int (iI (g j)))) (fun q => by cases q) (by show ¬ (_ ∨ (arrV _ _ _).slots.size ≤ _); rw [arrV_size]; exact iI_in hz.1 hz.2.1 hz.2.2) rfl rfl hdg fun H1 e z1 oq => ?_
  refine kk H1 _ (hG.set hB ?_ (fun q hq _ => oq q hq)) (hS.put z1 oq hB)
  show H1[a]? = some (vp_cell _ _)
  rw [e]
  rw [vp_cell_i, vp_cell_i, arrV_store, iI_clamp hz.1 hz.2.2]
  congr 2
  funext q
  by_cases hq : q = z.toNat
  · have e1 : iup g z v (q : Int) = v := by rw [hq, Int.toNat_of_nonneg hz.1]; exact iup_s
    simp only [updV, upd, hq, if_true]
    rw [hq] at e1
    rw [e1]
  · have e2 : iup g z v (q : Int) = g (q : Int) := iup_n (by omega)
    simp only [updV, upd, hq, if_false, e2]
theorem g_zald (hx : p.tables.exec = Jvm.exec) (hb : c.code = cc) {X : gX} {σ : gS} {a n t : Nat} {g : Int → Int} {z : Int} (hK : gIn X s) (hG : gSat X σ H) (ha : σ a = some (t, gI (X.2.1 1) n g)) (hdg : decode cc pc = .ok (.baload, 1)) (hz : 0 ≤ z ∧ z < n ∧ z ≤ 2147483647)
    (kk : W p l e R s m args below meth c H locs cells slots Q (F0 m (pc + 1) ls (.int (iI (g z)) :: rest))) : W p l e R s m args below meth c H locs cells slots Q (F0 m pc ls (.int (iI z) :: .ref a :: rest)) := by
  refine va_zald (D := X.1) (cl := vwCl) hx hb hK.K (hG.P ha) 0 1 rfl rfl (iI_in hz.1 hz.2.1 hz.2.2) hdg ?_
  rw [iI_clamp hz.1 hz.2.2]
  show W p l e R s m args below meth c H locs cells slots Q (F0 m (pc + 1) ls (.int (iI (g (z.toNat : Int))) :: rest))
  rw [Int.toNat_of_nonneg hz.1]
  exact kk
theorem g_zast (hx : p.tables.exec = Jvm.exec) (hb : c.code = cc) {X : gX} {σ : gS} {a n t : Nat} {g : Int → Int} {z v : Int} (hK : gIn X s) (hG : gSat X σ H) (hS : va_S (gA X) s.heap H locs) (ha : σ a = some (t, gI (X.2.1 1) n g)) (hdg : decode cc pc = .ok (.bastore, 1)) (hv : narrow .boolean (.int (iI v)) = .int (iI v)) (hz : 0 ≤ z ∧ z < n ∧ z ≤ 2147483647)
    (kk : ∀ (H1 : Heap) (locs1 : List Loc), gSat X (gup σ a (t, gI (X.2.1 1) n (iup g z v))) H1 → va_S (gA X) s.heap H1 locs1 → W p l e R s m args below meth c H1 locs1 cells slots Q (F0 m (pc + 1) ls rest)) : W p l e R s m args below meth c H locs cells slots Q (F0 m pc ls (.int (iI v) :: .int (iI z) :: .ref a :: rest)) := by
  obtain ⟨h1, hB⟩ := hG a t _ ha
  refine W.zast hx hb h1 ((hK.K.2 1 _ rfl).1 n (fun j => .int (iI (g j)))) (fun q => by cases q) (by show ¬ (_ ∨ (arrV _ _ _).slots.size ≤ _); rw [arrV_size]; exact iI_in hz.1 hz.2.1 hz.2.2) rfl rfl hdg fun H1 e z1 oq => ?_
  refine kk H1 _ (hG.set hB ?_ (fun q hq _ => oq q hq)) (hS.put z1 oq hB)
  show H1[a]? = some (vp_cell _ _)
  rw [e]
  rw [vp_cell_i, vp_cell_i, arrV_store, iI_clamp hz.1 hz.2.2]
  congr 2
  funext q
  by_cases hq : q = z.toNat
  · have e1 : iup g z v (q : Int) = v := by rw [hq, Int.toNat_of_nonneg hz.1]; exact iup_s
    simp only [updV, upd, hq, if_true]
    rw [hq] at e1
    rw [e1]
    exact hv
  · have e2 : iup g z v (q : Int) = g (q : Int) := iup_n (by omega)
    simp only [updV, upd, hq, if_false, e2]
theorem g_bald (hx : p.tables.exec = Jvm.exec) (hb : c.code = cc) {X : gX} {σ : gS} {a n t : Nat} {g : Int → Int} {z : Int} (hK : gIn X s) (hG : gSat X σ H) (ha : σ a = some (t, gI (X.2.1 2) n g)) (hdg : decode cc pc = .ok (.baload, 1)) (hz : 0 ≤ z ∧ z < n ∧ z ≤ 2147483647)
    (kk : W p l e R s m args below meth c H locs cells slots Q (F0 m (pc + 1) ls (.int (iI (g z)) :: rest))) : W p l e R s m args below meth c H locs cells slots Q (F0 m pc ls (.int (iI z) :: .ref a :: rest)) := by
  refine va_bald (D := X.1) (cl := vwCl) hx hb hK.K (hG.P ha) 0 2 rfl rfl (iI_in hz.1 hz.2.1 hz.2.2) hdg ?_
  rw [iI_clamp hz.1 hz.2.2]
  show W p l e R s m args below meth c H locs cells slots Q (F0 m (pc + 1) ls (.int (iI (g (z.toNat : Int))) :: rest))
  rw [Int.toNat_of_nonneg hz.1]
  exact kk
theorem g_bast (hx : p.tables.exec = Jvm.exec) (hb : c.code = cc) {X : gX} {σ : gS} {a n t : Nat} {g : Int → Int} {z v : Int} (hK : gIn X s) (hG : gSat X σ H) (hS : va_S (gA X) s.heap H locs) (ha : σ a = some (t, gI (X.2.1 2) n g)) (hdg : decode cc pc = .ok (.bastore, 1)) (hv : narrow .byte (.int (iI v)) = .int (iI v)) (hz : 0 ≤ z ∧ z < n ∧ z ≤ 2147483647)
    (kk : ∀ (H1 : Heap) (locs1 : List Loc), gSat X (gup σ a (t, gI (X.2.1 2) n (iup g z v))) H1 → va_S (gA X) s.heap H1 locs1 → W p l e R s m args below meth c H1 locs1 cells slots Q (F0 m (pc + 1) ls rest)) : W p l e R s m args below meth c H locs cells slots Q (F0 m pc ls (.int (iI v) :: .int (iI z) :: .ref a :: rest)) := by
  obtain ⟨h1, hB⟩ := hG a t _ ha
  refine W.bast hx hb h1 ((hK.K.2 2 _ rfl).1 n (fun j => .int (iI (g j)))) (fun q => by cases q) (by show ¬ (_ ∨ (arrV _ _ _).slots.size ≤ _); rw [arrV_size]; exact iI_in hz.1 hz.2.1 hz.2.2) rfl rfl hdg fun H1 e z1 oq => ?_
  refine kk H1 _ (hG.set hB ?_ (fun q hq _ => oq q hq)) (hS.put z1 oq hB)
  show H1[a]? = some (vp_cell _ _)
  rw [e]
  rw [vp_cell_i, vp_cell_i, arrV_store, iI_clamp hz.1 hz.2.2]
  congr 2
  funext q
  by_cases hq : q = z.toNat
  · have e1 : iup g z v (q : Int) = v := by rw [hq, Int.toNat_of_nonneg hz.1]; exact iup_s
    simp only [updV, upd, hq, if_true]
    rw [hq] at e1
    rw [e1]
    exact hv
  · have e2 : iup g z v (q : Int) = g (q : Int) := iup_n (by omega)
    simp only [updV, upd, hq, if_false, e2]
theorem g_alen (hx : p.tables.exec = Jvm.exec) (hb : c.code = cc) {X : gX} {σ : gS} {a t : Nat} {cA : ClassId} {y : vp_A} {n : Nat} (k0 : Nat) {ty : FieldType} (hK : gIn X s) (hG : gSat X σ H) (ha : σ a = some (t, .inl (.inl (cA, y)))) (ht : (gTys X.2.1)[k0]? = some (cA, ty)) (hn : y.1 = n) (hdg : decode cc pc = .ok (.arraylength, 1))
    (kk : W p l e R s m args below meth c H locs cells slots Q (F0 m (pc + 1) ls (.int (iI (n : Int)) :: rest))) : W p l e R s m args below meth c H locs cells slots Q (F0 m pc ls (.ref a :: rest)) := by
  subst hn
  exact va_alen (D := X.1) (cl := vwCl) (v := iI (y.1 : Int)) hx hb hK.K (hG.P ha) 0 k0 rfl ht (iI_nat _) hdg kk
theorem g_aald (hx : p.tables.exec = Jvm.exec) (hb : c.code = cc) {X : gX} {σ : gS} {a n t : Nat} {cA : ClassId} {C : String} {g : Int → Option Nat} {z : Int} (k0 : Nat) {v : Value} (hK : gIn X s) (hG : gSat X σ H) (ha : σ a = some (t, gV cA n g)) (ht : (gTys X.2.1)[k0]? = some (cA, .object C)) (hdg : decode cc pc = .ok (.aaload, 1)) (hz : 0 ≤ z ∧ z < n ∧ z ≤ 2147483647) (hv : va_rf (g z) = v)
    (kk : W p l e R s m args below meth c H locs cells slots Q (F0 m (pc + 1) ls (v :: rest))) : W p l e R s m args below meth c H locs cells slots Q (F0 m pc ls (.int (iI z) :: .ref a :: rest)) := by
  refine va_aldq (D := X.1) (cl := vwCl) hx hb hK.K (hG.P ha) 0 k0 rfl ht (iI_in hz.1 hz.2.1 hz.2.2) hdg ?_
  rw [iI_clamp hz.1 hz.2.2]
  show W p l e R s m args below meth c H locs cells slots Q (F0 m (pc + 1) ls (va_rf (g (z.toNat : Int)) :: rest))
  rw [Int.toNat_of_nonneg hz.1, hv]
  exact kk
theorem g_aaldA (hx : p.tables.exec = Jvm.exec) (hb : c.code = cc) {X : gX} {σ : gS} {a n t : Nat} {cA : ClassId} {ty : FieldType} {g : Int → Option Nat} {z : Int} (k0 : Nat) {v : Value} (hK : gIn X s) (hG : gSat X σ H) (ha : σ a = some (t, gV cA n g)) (ht : (gTys X.2.1)[k0]? = some (cA, .array ty)) (hdg : decode cc pc = .ok (.aaload, 1)) (hz : 0 ≤ z ∧ z < n ∧ z ≤ 2147483647) (hv : va_rf (g z) = v)
    (kk : W p l e R s m args below meth c H locs cells slots Q (F0 m (pc + 1) ls (v :: rest))) : W p l e R s m args below meth c H locs cells slots Q (F0 m pc ls (.int (iI z) :: .ref a :: rest)) := by
  obtain ⟨h1, hB⟩ := hG a t _ ha
  have hlt : z.toNat < n := by omega
  refine W.aald (v := v) (ty := .array ty) hx hb h1 ((hK.K.2 k0 _ ht).1 n (fun j => va_rf (g (j : Int)))) rfl (fun q => by cases q) (by show ¬ (_ ∨ (arrV _ _ _).slots.size ≤ _); rw [arrV_size]; exact iI_in hz.1 hz.2.1 hz.2.2) ?_ rfl rfl hdg kk
  show (arrV _ _ _).slots[_]? = _
  rw [iI_clamp hz.1 hz.2.2, arrV_read _ _ hlt, ← hv]
  simp only [Int.toNat_of_nonneg hz.1]
theorem g_new (hx : p.tables.exec = Jvm.exec) (hb : c.code = cc) {X : gX} {σ : gS} {own C : String} {T : u_T} {N ci index : Nat} {ty : Nat → FieldType} (t : Nat) {fs : List Value} (hts : ∀ w ∈ lw_all, w.before args s = true) (hown : s.vm.findClass own = some m.cls) (hK : gIn X s) (hG : gSat X σ H) (hS : va_S (gA X) s.heap H locs) (hc : vwCl[ci]? = some (C, T, N)) (hin : ∀ w ∈ u_ws C T N, w ∈ lw_all) (hty : ∀ k, k < N → parseFieldDescriptor (T k).2.2.1 = some (ty k)) (hcl : Cond.classLink own index C ∈ lw_all) (hinst : Cond.instantiable C N ∈ lw_all) (hini : Cond.initialized C ∈ lw_all) (hfs : ∀ j, j < N → defaultValue (ty j) = vp_V fs j) (hcells : cells + 1 ≤ R.cells) (hslots : slots + N ≤ R.slots) (hdg : decode cc pc = .ok (.new index, 3))
    (kk : ∀ (q : Nat) (H1 : Heap), σ q = none → gSat X (gup σ q (t, gO ci fs)) H1 → va_S (gA X) s.heap H1 locs → W p l e R s m args below meth c H1 locs (cells + 1) (slots + N) Q (F0 m (pc + 3) ls (.ref q :: rest))) : W p l e R s m args below meth c H locs cells slots Q (F0 m pc ls (rest)) := by
  have hKv := hK.K
  have hKn := hKv.1 ci _ hc
  refine W.newcK hx hb hown (hts _ hcl) (hts _ hinst) (hts _ hini) rfl hdg hcells hslots hKn.2.1 rfl fun H1 kC hkC e1 z1 o1 => ?_
  have hB : gB X ≤ H.size := Nat.le_trans hK.2.2.1 hS.1
  refine kk H.size H1 hG.fresh (hG.set hB ?_ (fun q _ hq => o1 q hq)) ⟨Nat.le_trans hS.1 (by omega), fun x h1 h2 => (o1 x (Nat.lt_of_lt_of_le h1 hS.1)).trans (hS.2.1 x h1 h2), hS.2.2⟩
  exact (show va_at X.1 vwCl (H.size, .inr (ci, fs)) H1 from ⟨_, hc, (u_born ty hts hin hKn hkC e1 hty).to hfs⟩)
theorem g_nmA {X : gX} {k0 : Nat} {ty : FieldType} (hK : gIn X s) (ht : (gTys X.2.1)[k0]? = some (X.2.1 k0, ty)) (hno : ∀ C, ty ≠ .object C) {cA : ClassId} (h : s.vm.findClass ("[" ++ ty.toString) = some cA) : cA = X.2.1 k0 := by
  have h1 := (hK.K.2 k0 _ ht).2
  cases ty with
  | object C => exact absurd rfl (hno C)
  | _ => exact Option.some.inj (h.symm.trans h1)
theorem g_newa (hx : p.tables.exec = Jvm.exec) (hb : c.code = cc) {X : gX} {σ : gS} {atype : ArrayType} {z : Int} (t k0 : Nat) (N : Nat) (hts : ∀ w ∈ lw_all, w.before args s = true) (hK : gIn X s) (hG : gSat X σ H) (hS : va_S (gA X) s.heap H locs) (harr : Cond.arrayClass (newarray.typeOf atype) ∈ lw_all) (ht : (gTys X.2.1)[k0]? = some (X.2.1 k0, newarray.typeOf atype)) (hno : ∀ C, newarray.typeOf atype ≠ .object C) (hd : defaultValue (newarray.typeOf atype) = .int 0) (hz : z = (N : Int)) (hN : N ≤ 16777216) (hw : componentBytes (newarray.typeOf atype) ≤ 8) (hcells : cells + 1 ≤ R.cells) (hslots : slots + N ≤ R.slots) (hdg : decode cc pc = .ok (.newarray atype, 2))
    (kk : ∀ (q : Nat) (H1 : Heap), σ q = none → gSat X (gup σ q (t, gI (X.2.1 k0) N (fun _ => 0))) H1 → va_S (gA X) s.heap H1 locs → W p l e R s m args below meth c H1 locs (cells + 1) (slots + N) Q (F0 m (pc + 2) ls (.ref q :: rest))) : W p l e R s m args below meth c H locs cells slots Q (F0 m pc ls (.int (iI z) :: rest)) := by
  subst hz
  refine va_newaK hx hb (hts _ harr) rfl hdg rfl (by rw [← iI_0, iI_lt (by omega) (by omega)]; omega) (iI_cl rfl (by omega)) ?_ hcells hslots rfl fun H1 cA e1 z1 o1 hAr hNm => ?_
  · exact Nat.le_trans (Nat.mul_le_mul hN hw) (by decide)
  have hc := g_nmA hK ht hno hNm
  subst hc
  have hB : gB X ≤ H.size := Nat.le_trans hK.2.2.1 hS.1
  refine kk H.size H1 hG.fresh (hG.set hB ?_ (fun q _ hq => o1 q hq)) ⟨Nat.le_trans hS.1 (by omega), fun x h1 h2 => (o1 x (Nat.lt_of_lt_of_le h1 hS.1)).trans (hS.2.1 x h1 h2), hS.2.2⟩
  show H1[H.size]? = some (vp_cell _ _)
  rw [vp_cell_i, e1, hd]
  rfl
theorem g_iret (hx : p.tables.exec = Jvm.exec) (hb : c.code = cc) {X : gX} {post : Option Value → gS → Prop} {mc ms : Nat} {σ : gS} {a : Int} (hr : meth.sig.returnType = some .int) (hlocks : meth.locks = false) (hQ : gEnd X post below args s mc ms Q) (hG : gSat X σ H) (hS : va_S (gA X) s.heap H locs) (hc : cells ≤ mc) (hs : slots ≤ ms) (hp : post (some (.int (iI a))) σ) (hdg : decode cc pc = .ok (.ireturn, 1)) : W p l e R s m args below meth c H locs cells slots Q (F0 m pc ls ([.int (iI a)])) := by
  refine g_cons hQ (W.widen hc hs ?_)
  exact W.iret (v := iI a) hx hb hr (fun t ht _ => ⟨⟨_, σ, rfl, hp, by rw [ht]; exact hG⟩, hS.F ht⟩) hS.2.2 hdg
theorem g_zret (hx : p.tables.exec = Jvm.exec) (hb : c.code = cc) {X : gX} {post : Option Value → gS → Prop} {mc ms : Nat} {σ : gS} {a : Int} (hr : meth.sig.returnType = some .boolean) (hlocks : meth.locks = false) (hQ : gEnd X post below args s mc ms Q) (hG : gSat X σ H) (hS : va_S (gA X) s.heap H locs) (hc : cells ≤ mc) (hs : slots ≤ ms) (hz : narrow .boolean (.int (iI a)) = .int (iI a)) (hp : post (some (.int (iI a))) σ) (hdg : decode cc pc = .ok (.ireturn, 1)) : W p l e R s m args below meth c H locs cells slots Q (F0 m pc ls ([.int (iI a)])) := by
  refine g_cons hQ (W.widen hc hs ?_)
  exact W.zret (v := iI a) hx hb hr hz (fun t ht _ => ⟨⟨_, σ, rfl, hp, by rw [ht]; exact hG⟩, hS.F ht⟩) hS.2.2 hdg
theorem g_lret (hx : p.tables.exec = Jvm.exec) (hb : c.code = cc) {X : gX} {post : Option Value → gS → Prop} {mc ms : Nat} {σ : gS} {a : Int64} (hr : meth.sig.returnType = some .long) (hlocks : meth.locks = false) (hQ : gEnd X post below args s mc ms Q) (hG : gSat X σ H) (hS : va_S (gA X) s.heap H locs) (hc : cells ≤ mc) (hs : slots ≤ ms) (hp : post (some (.long a)) σ) (hdg : decode cc pc = .ok (.lreturn, 1)) : W p l e R s m args below meth c H locs cells slots Q (F0 m pc ls ([.long a])) := by
  refine g_cons hQ (W.widen hc hs ?_)
  exact W.lret (v := a) hx hb hr (fun t ht _ => ⟨⟨_, σ, rfl, hp, by rw [ht]; exact hG⟩, hS.F ht⟩) hS.2.2 hdg
theorem g_vret (hx : p.tables.exec = Jvm.exec) (hb : c.code = cc) {X : gX} {post : Option Value → gS → Prop} {mc ms : Nat} {σ : gS} (hr : meth.sig.returnType = none) (hlocks : meth.locks = false) (hQ : gEnd X post below args s mc ms Q) (hG : gSat X σ H) (hS : va_S (gA X) s.heap H locs) (hc : cells ≤ mc) (hs : slots ≤ ms) (hp : post none σ) (hdg : decode cc pc = .ok (.return_, 1)) : W p l e R s m args below meth c H locs cells slots Q (F0 m pc ls ([])) := by
  refine g_cons hQ (W.widen hc hs ?_)
  exact W.vret hx hb hr (fun t ht _ => ⟨⟨_, σ, rfl, hp, by rw [ht]; exact hG⟩, hS.F ht⟩) hS.2.2 hdg
theorem g_aret (hx : p.tables.exec = Jvm.exec) (hb : c.code = cc) {X : gX} {post : Option Value → gS → Prop} {mc ms : Nat} {σ : gS} {v : Value} {rt : FieldType} (hr : meth.sig.returnType = some rt) (hrt : (∃ n, rt = .object n) ∨ ∃ t, rt = .array t) (hv : v = .null ∨ ∃ a, v = .ref a) (hlocks : meth.locks = false) (hQ : gEnd X post below args s mc ms Q) (hG : gSat X σ H) (hS : va_S (gA X) s.heap H locs) (hc : cells ≤ mc) (hs : slots ≤ ms) (hp : post (some v) σ) (hdg : decode cc pc = .ok (.areturn, 1)) : W p l e R s m args below meth c H locs cells slots Q (F0 m pc ls ([v])) := by
  refine g_cons hQ (W.widen hc hs ?_)
  exact W.aret (v := v) hx hb hr hrt hv (fun t ht _ => ⟨⟨_, σ, rfl, hp, by rw [ht]; exact hG⟩, hS.F ht⟩) hS.2.2 hdg
theorem g_recv {X : gX} {σ : gS} {b t ci : Nat} {fs : List Value} {q : vw_C} (hK : gIn X s) (hG : gSat X σ H) (hb : σ b = some (t, gO ci fs)) (hc : vwCl[ci]? = some q) : ∃ cellB : Cell, H[b]? = some cellB ∧ cellB.vm.isStatics = false ∧ s.vm.findClass q.1 = some cellB.cls := va_recv (q0 := 0) hK.K (hG.P hb) hc rfl
theorem gPreV {X : gX} {σ : gS} {b t ci : Nat} {fs : List Value} {C : String} {T : u_T} {N : Nat} {As : List Value} (hK : gIn X s) (hG : gSat X σ H) (hS : va_S (gA X) s.heap H locs) (hb : σ b = some (t, gO ci fs)) (hc : vwCl[ci]? = some (C, T, N)) : PreV s H C b (gPc X σ (.ref b :: As)) As :=
  ⟨gPc_blind, g_recv hK hG hb hc, fun _ hU hW => ⟨rfl, by rw [hU]; exact hG, hK.next hS hU hW⟩⟩
theorem gPreS {X : gX} {σ : gS} {As : List Value} (hK : gIn X s) (hG : gSat X σ H) (hS : va_S (gA X) s.heap H locs) : PreS s H (gPc X σ As) As :=
  ⟨gPc_blind, fun _ hU hW => ⟨rfl, by rw [hU]; exact hG, hK.next hS hU hW⟩⟩
theorem g_back {X : gX} {post : Option Value → gS → Prop} {a : Array Value} {mc ms : Nat} {st0 : List Value} (hr : va_Run p l e R s m args below meth c H locs cells slots mc ms (F0 m pc ls st0) rest (gT X post a) (gA X)) (hS : va_S (gA X) s.heap H locs)
    (kk : ∀ (v : Option Value) (σ' : gS) (H1 : Heap) (locs1 : List Loc), post v σ' → gSat X σ' H1 → va_S (gA X) s.heap H1 locs1 → W p l e R s m args below meth c H1 locs1 (cells + mc) (slots + ms) Q (F0 m (pc + 3) ls (v.toList ++ rest))) : W p l e R s m args below meth c H locs cells slots Q (F0 m pc ls (st0)) := by
  intro T hT X'
  obtain ⟨v, st₀, t, T', L, h0, X2, hL, e1, e2, ⟨⟨r, σ', hv, hp, hg⟩, hz, hk⟩, st⟩ := hr T hT X'
  cases hv
  rw [h0] at hz hk
  obtain ⟨t2, a1, b1⟩ := kk v σ' T'.heap (locs ++ L) hp (by rw [e1]; exact hg)
    ⟨Nat.le_trans hS.1 (by rw [e1]; exact hz), fun q h1 h2 => by rw [e1, hk q (Nat.lt_of_lt_of_le h1 hS.1) h2]; exact hS.2.1 q h1 h2, fun q hq => by
      rcases List.mem_append.mp hq with h | h
      · exact hS.2.2 q h
      · exact hL q h⟩ T' rfl X2
  exact ⟨t2, st t2 a1, b1⟩
theorem g_back5 {X : gX} {post : Option Value → gS → Prop} {a : Array Value} {mc ms : Nat} {st0 : List Value} (hr : va_Run5 p l e R s m args below meth c H locs cells slots mc ms (F0 m pc ls st0) rest (gT X post a) (gA X)) (hS : va_S (gA X) s.heap H locs)
    (kk : ∀ (v : Option Value) (σ' : gS) (H1 : Heap) (locs1 : List Loc), post v σ' → gSat X σ' H1 → va_S (gA X) s.heap H1 locs1 → W p l e R s m args below meth c H1 locs1 (cells + mc) (slots + ms) Q (F0 m (pc + 5) ls (v.toList ++ rest))) : W p l e R s m args below meth c H locs cells slots Q (F0 m pc ls (st0)) := by
  intro T hT X'
  obtain ⟨v, st₀, t, T', L, h0, X2, hL, e1, e2, ⟨⟨r, σ', hv, hp, hg⟩, hz, hk⟩, st⟩ := hr T hT X'
  cases hv
  rw [h0] at hz hk
  obtain ⟨t2, a1, b1⟩ := kk v σ' T'.heap (locs ++ L) hp (by rw [e1]; exact hg)
    ⟨Nat.le_trans hS.1 (by rw [e1]; exact hz), fun q h1 h2 => by rw [e1, hk q (Nat.lt_of_lt_of_le h1 hS.1) h2]; exact hS.2.1 q h1 h2, fun q hq => by
      rcases List.mem_append.mp hq with h | h
      · exact hS.2.2 q h
      · exact hL q h⟩ T' rfl X2
  exact ⟨t2, st t2 a1, b1⟩
/-- a virtual call of a method of the receiver's own class -/
theorem g_callV {X : gX} {σ : gS} {post : Option Value → gS → Prop} {own C : String} {T : u_T} {N index b t ci L nL fr mc ms lo : Nat} {fs As : List Value} {y : MethodName} {bytes : ByteArray} {ret : Option FieldType} (n : Nat) (hx : p.tables.exec = Jvm.exec) (hb : c.code = cc) (hml : c.maxLocals = nL) (hown : s.vm.findClass own = some m.cls) (hts : ∀ w ∈ lw_all, w.before args s = true) (hK : gIn X s) (hG : gSat X σ H) (hS : va_S (gA X) s.heap H locs) (hls : ls.size = nL)
    (hM : gMet l X y bytes L ret fr mc ms lo σ (.ref b :: As) post) (hrb : σ b = some (t, gO ci fs)) (hc : vwCl[ci]? = some (C, T, N))
    (h1 : Cond.methodLink own index y ∈ lw_all) (h2 : Cond.instanceMethod y ∈ lw_all) (h3 : Cond.selects C y y ∈ lw_all) (h4 : Cond.initialized C ∈ lw_all) (h5 : Cond.code y bytes L ret ∈ lw_all)
    (hd : y.cls = C ∧ y.cls ≠ "java/lang/invoke/MethodHandle" ∧ y.cls ≠ "java/lang/invoke/VarHandle" ∧ (parseMethodDescriptor y.desc).map (fun d => d.parameters.length) = some n) (hn : As.length = n) (hR : fr + 1 ≤ R.frames ∧ 8 + (L + 11) + lo ≤ R.locals) (hf : cells + mc ≤ R.cells ∧ slots + ms ≤ R.slots) (hcat : (rest.map fun v => v.category).sum ≤ 8) (hdg : decode cc pc = .ok (.invokevirtual index, 3))
    (kk : ∀ (v : Option Value) (σ' : gS) (H1 : Heap) (locs1 : List Loc), post v σ' → gSat X σ' H1 → va_S (gA X) s.heap H1 locs1 → W p l e R s m args below meth c H1 locs1 (cells + mc) (slots + ms) Q ((fun st => F0 m (pc + 3) ls st) (v.toList ++ rest))) : W p l e R s m args below meth c H locs cells slots Q (F0 m pc ls (As.reverse ++ .ref b :: rest)) :=
  g_back (va_runV (As := As) (rest := rest) ⟨hx, hb, hml, hown, hts⟩ hM (cwV n hts (lw_V h1 h2 h3 h4 h5) rfl rfl rfl hd hR) (gPreV hK hG hS hrb hc) rfl hn hls rfl (lv_room hcat) hdg hf) hS kk
theorem g_callS {X : gX} {σ : gS} {post : Option Value → gS → Prop} {own : String} {index L nL fr mc ms lo : Nat} {As : List Value} {y : MethodName} {bytes : ByteArray} {ret : Option FieldType} (n : Nat) (hx : p.tables.exec = Jvm.exec) (hb : c.code = cc) (hml : c.maxLocals = nL) (hown : s.vm.findClass own = some m.cls) (hts : ∀ w ∈ lw_all, w.before args s = true) (hK : gIn X s) (hG : gSat X σ H) (hS : va_S (gA X) s.heap H locs) (hls : ls.size = nL)
    (hM : gMet l X y bytes L ret fr mc ms lo σ As post)
    (h1 : Cond.methodLink own index y ∈ lw_all) (h2 : Cond.static y ∈ lw_all) (h3 : Cond.initialized y.cls ∈ lw_all) (h5 : Cond.code y bytes L ret ∈ lw_all)
    (hd : y.cls ≠ "java/lang/invoke/MethodHandle" ∧ y.cls ≠ "java/lang/invoke/VarHandle" ∧ (parseMethodDescriptor y.desc).map (fun d => d.parameters.length) = some n) (hn : As.length = n) (hR : fr + 1 ≤ R.frames ∧ 8 + (L + 11) + lo ≤ R.locals) (hf : cells + mc ≤ R.cells ∧ slots + ms ≤ R.slots) (hcat : (rest.map fun v => v.category).sum ≤ 8) (hdg : decode cc pc = .ok (.invokestatic index, 3))
    (kk : ∀ (v : Option Value) (σ' : gS) (H1 : Heap) (locs1 : List Loc), post v σ' → gSat X σ' H1 → va_S (gA X) s.heap H1 locs1 → W p l e R s m args below meth c H1 locs1 (cells + mc) (slots + ms) Q ((fun st => F0 m (pc + 3) ls st) (v.toList ++ rest))) : W p l e R s m args below meth c H locs cells slots Q (F0 m pc ls (As.reverse ++ rest)) :=
  g_back (va_runS (As := As) (rest := rest) ⟨hx, hb, hml, hown, hts⟩ hM (va_cwS n hts (lw_S h1 h2 h3 h5) rfl rfl rfl hd hR) (gPreS hK hG hS) rfl hn hls rfl (lv_room hcat) hdg hf) hS kk
theorem g_callI {X : gX} {σ : gS} {post : Option Value → gS → Prop} {own : String} {index b L nL fr mc ms lo : Nat} {As : List Value} {y : MethodName} {bytes : ByteArray} (n : Nat) (hx : p.tables.exec = Jvm.exec) (hb : c.code = cc) (hml : c.maxLocals = nL) (hown : s.vm.findClass own = some m.cls) (hts : ∀ w ∈ lw_all, w.before args s = true) (hK : gIn X s) (hG : gSat X σ H) (hS : va_S (gA X) s.heap H locs) (hls : ls.size = nL)
    (hM : gMet l X y bytes L none fr mc ms lo σ (.ref b :: As) post)
    (h1 : Cond.methodLink own index y ∈ lw_all) (h2 : Cond.instanceMethod y ∈ lw_all) (h4 : Cond.initialized y.cls ∈ lw_all) (h5 : Cond.code y bytes L none ∈ lw_all) (hy1 : y.name = "<init>")
    (hd : y.cls ≠ "java/lang/invoke/MethodHandle" ∧ y.cls ≠ "java/lang/invoke/VarHandle" ∧ (parseMethodDescriptor y.desc).map (fun d => d.parameters.length) = some n) (hn : As.length = n) (hR : fr + 1 ≤ R.frames ∧ 8 + (L + 11) + lo ≤ R.locals) (hf : cells + mc ≤ R.cells ∧ slots + ms ≤ R.slots) (hcat : (rest.map fun v => v.category).sum ≤ 8) (hdg : decode cc pc = .ok (.invokespecial index, 3))
    (kk : ∀ (v : Option Value) (σ' : gS) (H1 : Heap) (locs1 : List Loc), post v σ' → gSat X σ' H1 → va_S (gA X) s.heap H1 locs1 → W p l e R s m args below meth c H1 locs1 (cells + mc) (slots + ms) Q ((fun st => F0 m (pc + 3) ls st) (v.toList ++ rest))) : W p l e R s m args below meth c H locs cells slots Q (F0 m pc ls (As.reverse ++ .ref b :: rest)) :=
  g_back (va_runI (As := As) (rest := rest) ⟨hx, hb, hml, hown, hts⟩ hM (cwI n hts (lw_meth h5) rfl rfl rfl (hts _ h4) (hts _ h1) (hts _ h2) hy1 hd hR) (gPreS hK hG hS) rfl hn hls rfl (lv_room hcat) hdg hf) hS kk
/-! the shapes of answers -/
def oI (P : Int → gS → Prop) : Option Value → gS → Prop := fun v σ' => ∃ r : Int, v = some (.int (iI r)) ∧ P r σ'
def oL (P : Int64 → gS → Prop) : Option Value → gS → Prop := fun v σ' => ∃ r : Int64, v = some (.long r) ∧ P r σ'
def oV (P : gS → Prop) : Option Value → gS → Prop := fun v σ' => v = none ∧ P σ'
def oA (P : Value → gS → Prop) : Option Value → gS → Prop := fun v σ' => ∃ r : Value, v = some r ∧ P r σ'
theorem kI {X : gX} {P : Int → gS → Prop} {fn : List Value → JFrame} {k0 n0 : Nat} (kk : ∀ (r : Int) (σ' : gS) (H1 : Heap) (locs1 : List Loc), P r σ' → gSat X σ' H1 → va_S (gA X) s.heap H1 locs1 → W p l e R s m args below meth c H1 locs1 k0 n0 Q (fn (.int (iI r) :: rest))) :
    ∀ (v : Option Value) (σ' : gS) (H1 : Heap) (locs1 : List Loc), oI P v σ' → gSat X σ' H1 → va_S (gA X) s.heap H1 locs1 → W p l e R s m args below meth c H1 locs1 k0 n0 Q (fn (v.toList ++ rest)) := by
  intro v σ' H1 locs1 ⟨r, hv, hp⟩ hG hS
  subst hv
  exact kk r σ' H1 locs1 hp hG hS
theorem kL {X : gX} {P : Int64 → gS → Prop} {fn : List Value → JFrame} {k0 n0 : Nat} (kk : ∀ (r : Int64) (σ' : gS) (H1 : Heap) (locs1 : List Loc), P r σ' → gSat X σ' H1 → va_S (gA X) s.heap H1 locs1 → W p l e R s m args below meth c H1 locs1 k0 n0 Q (fn (.long r :: rest))) :
    ∀ (v : Option Value) (σ' : gS) (H1 : Heap) (locs1 : List Loc), oL P v σ' → gSat X σ' H1 → va_S (gA X) s.heap H1 locs1 → W p l e R s m args below meth c H1 locs1 k0 n0 Q (fn (v.toList ++ rest)) := by
  intro v σ' H1 locs1 ⟨r, hv, hp⟩ hG hS
  subst hv
  exact kk r σ' H1 locs1 hp hG hS
theorem kV {X : gX} {P : gS → Prop} {fn : List Value → JFrame} {k0 n0 : Nat} (kk : ∀ (σ' : gS) (H1 : Heap) (locs1 : List Loc), P σ' → gSat X σ' H1 → va_S (gA X) s.heap H1 locs1 → W p l e R s m args below meth c H1 locs1 k0 n0 Q (fn rest)) :
    ∀ (v : Option Value) (σ' : gS) (H1 : Heap) (locs1 : List Loc), oV P v σ' → gSat X σ' H1 → va_S (gA X) s.heap H1 locs1 → W p l e R s m args below meth c H1 locs1 k0 n0 Q (fn (v.toList ++ rest)) := by
  intro v σ' H1 locs1 ⟨hv, hp⟩ hG hS
  subst hv
  exact kk σ' H1 locs1 hp hG hS
theorem kA {X : gX} {P : Value → gS → Prop} {fn : List Value → JFrame} {k0 n0 : Nat} (kk : ∀ (r : Value) (σ' : gS) (H1 : Heap) (locs1 : List Loc), P r σ' → gSat X σ' H1 → va_S (gA X) s.heap H1 locs1 → W p l e R s m args below meth c H1 locs1 k0 n0 Q (fn (r :: rest))) :
    ∀ (v : Option Value) (σ' : gS) (H1 : Heap) (locs1 : List Loc), oA P v σ' → gSat X σ' H1 → va_S (gA X) s.heap H1 locs1 → W p l e R s m args below meth c H1 locs1 k0 n0 Q (fn (v.toList ++ rest)) := by
  intro v σ' H1 locs1 ⟨r, hv, hp⟩ hG hS
  subst hv
  exact kk r σ' H1 locs1 hp hG hS
end GW
