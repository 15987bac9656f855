/-! rows: stores in arrays of references -/
set_option maxRecDepth 100000
theorem iup_upo {g : Int → Option Nat} {z : Int} {v : Option Nat} (h : 0 ≤ z) : (fun q : Nat => if q = z.toNat then v else g (q : Int)) = fun j : Nat => iup g z v (j : Int) := by
  funext j
  by_cases e : j = z.toNat
  · rw [if_pos e, iup, if_pos (by omega)]
  · rw [if_neg e, iup, if_neg (by omega)]
/-- arrays of ints are the components of arrays of such -/
theorem gII {X : gX} {s : State} (hK : gIn X s) : ∃ kA : Class, s.vm.classes[X.2.1 7]? = some kA ∧ kA.kind = .array (X.2.1 0) (.array .int) := by
  have h1 : (Cond.arrayOver (.array .int)).before X.2.2.2.1 X.2.2.2.2 = true := hK.1.1 _ q354
  obtain ⟨comp, c, k, h2, h3, h4, h5⟩ := Cond.arrayOver_specA h1
  have e0 : X.2.2.2.2.vm.findClass ("[" ++ FieldType.int.toString) = some (X.2.1 0) := (hK.1.2.2.2 0 _ rfl).2
  have e7 : X.2.2.2.2.vm.findClass ("[" ++ (FieldType.array .int).toString) = some (X.2.1 7) := (hK.1.2.2.2 7 _ rfl).2
  have ec : c = X.2.1 7 := Option.some.inj (h5.symm.trans e7)
  have ep : comp = X.2.1 0 := Option.some.inj (h2.symm.trans e0)
  subst ec
  subst ep
  obtain ⟨k', hk', he⟩ := hK.2.1.alike.2.2 _ _ h3
  exact ⟨k', hk', by rw [he]; exact h4⟩
theorem asg_self (vm : Vm) (c : ClassId) : vm.assignable c c = true := by
  show vm.assignableAux (255 + 1) c c = true
  rw [Vm.assignableAux, beq_self_eq_true, Bool.true_or]
section GR5
variable {p : Program} {l : Launch} {e : Env} {R : Room} {s : State} {m : MethodId} {args : Array Value} {below : List Frame} {meth : Method} {c : Code} {H : Heap} {locs : List Loc} {cells slots : Nat} {Q : State → Prop} {cc : ByteArray} {pc : Nat} {ls : Array Slot} {rest : List Value}
theorem g_aastG {X : gX} {σ : gS} {a n t v : Nat} {cA comp : ClassId} {kA kE kv : Class} {cv : Cell} {ty : FieldType} {g : Int → Option Nat} {z : Int} (hx : p.tables.exec = Jvm.exec) (hb : c.code = cc) (hG : gSat X σ H) (hS : va_S (gA X) s.heap H locs) (ha : σ a = some (t, gV cA n g)) (k1 : s.vm.classes[cA]? = some kA) (k2 : kA.kind = .array comp ty) (href : ty.isReference = true) (hkE : s.vm.classes[comp]? = some kE)
    (hv : H[v]? = some cv) (hvs : ∀ q, cv.vm ≠ .statics q) (hkv : s.vm.classes[cv.cls]? = some kv) (hasg : s.vm.assignable cv.cls comp = true) (hz : 0 ≤ z ∧ z < n ∧ z ≤ 2147483647) (hdg : decode cc pc = .ok (.aastore, 1))
    (kk : ∀ (H1 : Heap) (locs1 : List Loc), gSat X (gup σ a (t, gV cA n (iup g z (some v)))) H1 → va_S (gA X) s.heap H1 locs1 → W p l e R s m args below meth c H1 locs1 cells slots Q (F0 m (pc + 1) ls rest)) : W p l e R s m args below meth c H locs cells slots Q (F0 m pc ls (.ref v :: .int (iI z) :: .ref a :: rest)) := by
  obtain ⟨h1, hB⟩ := hG a t _ ha
  have hin := iI_in hz.1 hz.2.1 hz.2.2
  have h0 : ¬ iI z < 0 := fun q => hin (Or.inl q)
  have hlt : (iI z).toNatClampNeg < n := Nat.not_le.mp fun q => hin (Or.inr q)
  refine W.aast hx hb h1 (fun q h => by cases h) (fun h => by cases h) k1 k2 href hkE ⟨h0, by show _ < (arrV _ _ _).slots.size; rw [arrV_size]; exact hlt⟩ hv hvs hkv hasg rfl rfl hdg fun H1 e z1 oq => ?_
  refine kk H1 _ (hG.set hB ?_ (fun q hq _ => oq q hq)) (hS.put z1 oq hB)
  show H1[a]? = some (vp_cell _ _)
  rw [e, vp_cell_q, vp_cell_q, arrV_store, iI_clamp hz.1 hz.2.2]
  congr 2
  funext q
  have e2 : (if q = z.toNat then some v else g (q : Int)) = iup g z (some v) (q : Int) := congrFun (iup_upo (g := g) (v := some v) hz.1) q
  rw [← e2]
  by_cases hq : q = z.toNat
  · simp [updV, va_rf, hq]
  · simp [updV, hq]
/-- a row of ints into a row of such rows -/
theorem g_aastA {X : gX} {σ : gS} {a n t v nv tv : Nat} {gv : Int → Int} {g : Int → Option Nat} {z : Int} (hx : p.tables.exec = Jvm.exec) (hb : c.code = cc) (hK : gIn X s) (hG : gSat X σ H) (hS : va_S (gA X) s.heap H locs) (ha : σ a = some (t, gV (X.2.1 7) n g)) (hv : σ v = some (tv, gI (X.2.1 0) nv gv)) (hdg : decode cc pc = .ok (.aastore, 1)) (hz : 0 ≤ z ∧ z < n ∧ z ≤ 2147483647)
    (kk : ∀ (H1 : Heap) (locs1 : List Loc), gSat X (gup σ a (t, gV (X.2.1 7) n (iup g z (some v)))) H1 → va_S (gA X) s.heap H1 locs1 → W p l e R s m args below meth c H1 locs1 cells slots Q (F0 m (pc + 1) ls rest)) : W p l e R s m args below meth c H locs cells slots Q (F0 m pc ls (.ref v :: .int (iI z) :: .ref a :: rest)) := by
  obtain ⟨kA, k1, k2⟩ := gII hK
  obtain ⟨-, kE, hkE, -⟩ := (hK.K.2 0 _ rfl).1 nv (fun j => .int (iI (gv j)))
  exact g_aastG hx hb hG hS ha k1 k2 rfl hkE (hG v tv _ hv).1 (fun q h => by cases h) hkE (asg_self _ _) hz hdg kk
/-- an object into a row of objects -/
theorem g_aastO {X : gX} {σ : gS} {a n t v tv k0 ci : Nat} {E : String} {r : vw_C} {vs : List Value} {g : Int → Option Nat} {z : Int} (hx : p.tables.exec = Jvm.exec) (hb : c.code = cc) (hK : gIn X s) (hG : gSat X σ H) (hS : va_S (gA X) s.heap H locs) (ha : σ a = some (t, gV (X.2.1 k0) n g)) (ht : (gTys X.2.1)[k0]? = some (X.2.1 k0, .object E)) (hv : σ v = some (tv, gO ci vs)) (hc : vwCl[ci]? = some r) (hca : Cond.castable r.1 E ∈ lw_tbl ∨ r.1 = E) (hdg : decode cc pc = .ok (.aastore, 1)) (hz : 0 ≤ z ∧ z < n ∧ z ≤ 2147483647)
    (kk : ∀ (H1 : Heap) (locs1 : List Loc), gSat X (gup σ a (t, gV (X.2.1 k0) n (iup g z (some v)))) H1 → va_S (gA X) s.heap H1 locs1 → W p l e R s m args below meth c H1 locs1 cells slots Q (F0 m (pc + 1) ls rest)) : W p l e R s m args below meth c H locs cells slots Q (F0 m pc ls (.ref v :: .int (iI z) :: .ref a :: rest)) := by
  obtain ⟨r', hr', cellV, g1, g2, g3, -⟩ := (hG v tv _ hv).1
  have hcls := (hK.K.1 ci r hc).2
  obtain ⟨kA, comp, k1, k2, k3, -⟩ := (hK.K.2 k0 _ ht).2
  obtain ⟨kE, hkE, -⟩ := Vm.findClass_spec k3
  obtain ⟨kC, hkC, -⟩ := hcls.2
  have hasg : s.vm.assignable (X.1.1 ci) comp = true := by
    rcases hca with hca | rfl
    · exact vb_asgC (hK.nC hca) comp _ k3 hcls.1
    · rw [show comp = X.1.1 ci from Option.some.inj (k3.symm.trans hcls.1)]; exact asg_self _ _
  exact g_aastG hx hb hG hS ha k1 k2 rfl hkE g1 (fun q h => by rw [g3] at h; cases h) (by rw [g2]; exact hkC) (by rw [g2]; exact hasg) hz hdg kk
end GR5
/-! the lists: lengths (below 0: none) and contents; owner 18 -/
def LW (X : gX) (σ : gS) (R : Int → Option Nat) (N : Int → Int) (G : Int → Int → Int) : Prop :=
  (∀ i : Int, 0 ≤ i → i ≤ 3 → (N i < 0 ∧ R i = none) ∨ (0 ≤ N i ∧ N i ≤ 12 ∧ ∃ a, R i = some a ∧ σ a = some (18, gI (X.2.1 0) (N i).toNat (G i)))) ∧
  ∀ (i j : Int) (a : Nat), 0 ≤ i → i ≤ 3 → 0 ≤ j → j ≤ 3 → R i = some a → R j = some a → i = j
section LWS
variable {X : gX} {σ σ' : gS} {R : Int → Option Nat} {N : Int → Int} {G : Int → Int → Int}
theorem LW.keep {tg : Nat → Prop} (h : LW X σ R N G) (hk : gKeep tg σ σ') (ht : ¬ tg 18) : LW X σ' R N G := by
  refine ⟨fun i h0 h3 => ?_, h.2⟩
  rcases h.1 i h0 h3 with q | ⟨q1, q2, a, q3, q4⟩
  · exact Or.inl q
  · exact Or.inr ⟨q1, q2, a, q3, hk _ _ _ q4 ht⟩
/-- a new list -/
theorem LW.new {q n : Nat} {i : Int} {g : Int → Int} (h : LW X σ R N G) (hq : σ q = none) (hi : 0 ≤ i ∧ i ≤ 3) (hn : n ≤ 12) : LW X (gup σ q (18, gI (X.2.1 0) n g)) (iup R i (some q)) (iup N i (n : Int)) (iup G i g) := by
  refine ⟨fun j h0 h3 => ?_, fun j k a j0 j3 k0 k3 hj hk => ?_⟩
  · by_cases e : j = i
    · subst e
      rw [iup_s, iup_s, iup_s]
      exact Or.inr ⟨by omega, by omega, q, rfl, by rw [gup_s, Int.toNat_natCast]⟩
    · rw [iup_n e, iup_n e, iup_n e]
      rcases h.1 j h0 h3 with w | ⟨w1, w2, a, w3, w4⟩
      · exact Or.inl w
      · exact Or.inr ⟨w1, w2, a, w3, by rw [gup_n (fun z => by rw [z, hq] at w4; cases w4)]; exact w4⟩
  · have old : ∀ x : Int, 0 ≤ x → x ≤ 3 → R x ≠ some q := fun x x0 x3 hx => by
      rcases h.1 x x0 x3 with ⟨-, w⟩ | ⟨-, -, b, w, w4⟩
      · rw [w] at hx; cases hx
      · rw [hx] at w; cases w; rw [hq] at w4; cases w4
    by_cases e : j = i
    · by_cases e2 : k = i
      · rw [e, e2]
      · rw [e, iup_s] at hj
        rw [iup_n e2] at hk
        cases hj
        exact absurd hk (old k k0 k3)
    · rw [iup_n e] at hj
      by_cases e2 : k = i
      · rw [e2, iup_s] at hk
        cases hk
        exact absurd hj (old j j0 j3)
      · rw [iup_n e2] at hk
        exact h.2 j k a j0 j3 k0 k3 hj hk
theorem LW.put {a : Nat} {i : Int} {g : Int → Int} (h : LW X σ R N G) (hi : 0 ≤ i ∧ i ≤ 3) (ha : R i = some a) (hN : 0 ≤ N i) : LW X (gup σ a (18, gI (X.2.1 0) (N i).toNat g)) R N (iup G i g) := by
  refine ⟨fun j h0 h3 => ?_, h.2⟩
  rcases h.1 j h0 h3 with w | ⟨w1, w2, b, w3, w4⟩
  · exact Or.inl w
  · refine Or.inr ⟨w1, w2, b, w3, ?_⟩
    by_cases e : j = i
    · subst e
      have : b = a := Option.some.inj (w3.symm.trans ha)
      rw [this, gup_s, iup_s]
    · rw [iup_n e, gup_n (fun z => e (h.2 j i b h0 h3 hi.1 hi.2 w3 (by rw [z]; exact ha)))]
      exact w4
end LWS
