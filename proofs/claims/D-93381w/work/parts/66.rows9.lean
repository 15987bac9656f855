/-! rows: a method that an interface declares, called through a class; null into a row of objects; a fresh row of objects -/
set_option maxRecDepth 100000
section GR9
variable {p : Program} {l : Launch} {e : Env} {R : Room} {s : State} {m : MethodId} {args : Array Value} {below : List Frame} {meth : Method} {c : Code} {H : Heap} {locs : List Loc} {cells slots : Nat} {Q : State → Prop} {cc : ByteArray} {pc : Nat} {ls : Array Slot} {rest : List Value}
theorem g_callQ {X : gX} {σ : gS} {post : Option Value → gS → Prop} {own C J : String} {T : u_T} {N index b t ci L nL fr mc ms lo : Nat} {fs As : List Value} {x y : MethodName} {bytes : ByteArray} {ret : Option FieldType} (n : Nat) (hx : p.tables.exec = Jvm.exec) (hb : c.code = cc) (hml : c.maxLocals = nL) (hown : s.vm.findClass own = some m.cls) (hts : ∀ w ∈ lw_all, w.before args s = true) (hK : gIn X s) (hG : gSat X σ H) (hS : va_S (gA X) s.heap H locs) (hls : ls.size = nL)
    (hM : gMet l X y bytes L ret fr mc ms lo σ (.ref b :: As) post) (hrb : σ b = some (t, gO ci fs)) (hc : vwCl[ci]? = some (C, T, N))
    (h1 : Cond.methodLink own index x ∈ flatC (Jvm.Cond.and given_1 narrow_1)) (h1b : Cond.sameMethod x.cls J x.name x.desc ∈ flatC (Jvm.Cond.and given_1 narrow_1)) (d1 : Cond.declares ⟨J, x.name, x.desc⟩ ∈ lw_tbl)
    (h2 : Cond.selects C ⟨J, x.name, x.desc⟩ y ∈ lw_all) (h3 : Cond.instanceMethod y ∈ lw_all) (h4 : Cond.initialized y.cls ∈ lw_all) (h5 : Cond.code y bytes L ret ∈ lw_all)
    (hd : J ≠ "java/lang/invoke/MethodHandle" ∧ J ≠ "java/lang/invoke/VarHandle" ∧ (parseMethodDescriptor x.desc).map (fun d => d.parameters.length) = some n) (hn : As.length = n) (hR : fr + 1 ≤ R.frames ∧ 8 + (L + 11) + lo ≤ R.locals) (hf : cells + mc ≤ R.cells ∧ slots + ms ≤ R.slots) (hcat : (rest.map fun v => v.category).sum ≤ 8) (hdg : decode cc pc = .ok (.invokevirtual index, 3))
    (kk : ∀ (v : Option Value) (σ' : gS) (H1 : Heap) (locs1 : List Loc), post v σ' → gSat X σ' H1 → va_S (gA X) s.heap H1 locs1 → W p l e R s m args below meth c H1 locs1 (cells + mc) (slots + ms) Q ((fun st => F0 m (pc + 3) ls st) (v.toList ++ rest))) : W p l e R s m args below meth c H locs cells slots Q (F0 m pc ls (As.reverse ++ .ref b :: rest)) := by
  have hA := hK.warm.alike
  obtain ⟨-, hrv, hPc⟩ : PreV s H C b (gPc X σ (.ref b :: As)) As := gPreV hK hG hS hrb hc
  obtain ⟨cellB, hcB, hoB, hclB⟩ := hrv
  obtain ⟨hfc, kB, hkB, -⟩ := g_at hK hc
  have hKb : Back l R p e below s args y 3 8 (PreOf R mc ms (gPc X σ (.ref b :: As))) (PostOf (gT X post) mc ms (gA X)) := back_of (bytes := bytes) (maxL := L) (ret := ret) hM gPc_blind rfl rfl hR.1 hR.2 (pay_in hts (lw_meth h5)) List.mem_cons_self (fun a' U hW => word_at hW (Or.inl rfl) (hts _ h4))
  refine g_back (post := post) (a := (Value.ref b :: As).toArray) (mc := mc) (ms := ms) ?_ hS kk
  intro T hT XX
  obtain ⟨r0, r, hn0, hrm, hstR, hsigR⟩ := Cond.declares_spec (g_tr (A' := args) rfl (hK.ok.1 _ d1) (Cond.declares_setVm hA _))
  have hlink : (Cond.methodLink own index x).before args s = true := word_at hK.warm (Or.inl rfl) (hK.flat _ h1)
  have hsame : (Cond.sameMethod x.cls J x.name x.desc).before args s = true := word_at hK.warm (Or.inl rfl) (hK.flat _ h1b)
  obtain ⟨mk, methM, hnamed, hmethM, -, habM⟩ := Cond.instanceMethod_spec (hts _ h3)
  obtain ⟨c2, r2, m2, q1, q2, q3, q4, kP, hkP, hkPi⟩ := Cond.selects_spec (hts _ h2)
  cases hfc.symm.trans q1
  cases (State.methodFound?_of_named hn0 ⟨hd.1, hd.2.1⟩).symm.trans q2
  cases hnamed.symm.trans q3
  have e9 : cellB.cls = X.1.1 ci := Option.some.inj (hclB.symm.trans hfc)
  have hselP : selectMethod e.platform s.vm cellB.cls r0 = .method mk := by rw [Launch.admits_selectMethod XX.admits, e9]; exact q4
  have hln : ∀ sig, parseMethodDescriptor x.desc = some sig → As.length = sig.parameters.length := fun sig h => by have h2 := hd.2.2; rw [h] at h2; exact hn.trans (Option.some.inj h2).symm
  obtain ⟨vm₁, X₁, hstep₁⟩ := XX.invokevirtualUp hx hown hlink hsame ⟨hd.1, hd.2.1⟩ hn0 hrm hstR (a := b) (cell := cellB) (by rw [hT]; exact hcB)
    (fun z h => by rw [h] at hoB; cases hoB) hselP hmethM habM hkP hkPi (g := F0 m pc ls (As.reverse ++ .ref b :: rest)) rfl (argsL := As) (rest := rest) (hln _ hsigR) rfl (by rw [hb]; exact hdg)
  obtain ⟨v, ⟨U', l2, c2, s2⟩, X', ⟨g', mk2, t, L, e1, e2, hq, q1, hL, q2, q3⟩, hsteps⟩ := hKb m meth c ⟨T.setVm vm₁, locs, cells, slots⟩ { F0 m pc ls (As.reverse ++ .ref b :: rest) with stack := rest } (.invokevirtual index) mk (Value.ref b :: As).toArray X₁ rfl (hls.trans hml.symm) (by rw [hb]; exact hdg) (lv_room hcat) (X₁.named hnamed) ⟨hf.1, hf.2, hPc (T.setVm vm₁) hT X₁.warmed⟩
  dsimp only [Pt.U, Pt.locs, Pt.cells, Pt.slots] at X' e1 e2 q1 q2 q3 hsteps
  subst q1; subst q2; subst q3
  exact ⟨v, (T.setVm vm₁).calling g' mk2 (Value.ref b :: As).toArray, t, U', L, hT, X', hL, e1, e2, hq, fun target h => hstep₁ _ fun acts => by rw [doInvoke_state]; exact hsteps.trans h⟩
theorem g_aastN {X : gX} {σ : gS} {a n t k0 : Nat} {E : String} {g : Int → Option Nat} {z : Int} (hx : p.tables.exec = Jvm.exec) (hb : c.code = cc) (hK : gIn X s) (hG : gSat X σ H) (hS : va_S (gA X) s.heap H locs) (ha : σ a = some (t, gV (X.2.1 k0) n g)) (ht : (gTys X.2.1)[k0]? = some (X.2.1 k0, .object E)) (hdg : decode cc pc = .ok (.aastore, 1)) (hz : 0 ≤ z ∧ z < n ∧ z ≤ 2147483647)
    (kk : ∀ (H1 : Heap) (locs1 : List Loc), gSat X (gup σ a (t, gV (X.2.1 k0) n (iup g z none))) H1 → va_S (gA X) s.heap H1 locs1 → W p l e R s m args below meth c H1 locs1 cells slots Q (F0 m (pc + 1) ls rest)) : W p l e R s m args below meth c H locs cells slots Q (F0 m pc ls (.null :: .int (iI z) :: .ref a :: rest)) := by
  obtain ⟨h1, hB⟩ := hG a t _ ha
  refine va_WaastN (C := E) hx hb h1 ((hK.K.2 k0 _ ht).1 n (fun j => va_rf (g (j : Int)))) (fun h => by cases h) (by show ¬ (_ ∨ (arrV _ _ _).slots.size ≤ _); rw [arrV_size]; exact iI_in hz.1 hz.2.1 hz.2.2) rfl rfl hdg fun H1 e z1 oq => ?_
  refine kk H1 _ (hG.set hB ?_ (fun q hq _ => oq q hq)) (hS.put z1 oq hB)
  show H1[a]? = some (vp_cell _ _)
  rw [e, vp_cell_q, vp_cell_q, arrV_store, iI_clamp hz.1 hz.2.2]
  congr 2
  funext q
  have e2 : (if q = z.toNat then none else g (q : Int)) = iup g z none (q : Int) := congrFun (iup_upo (g := g) (v := none) hz.1) q
  rw [← e2]
  by_cases hq : q = z.toNat
  · simp [updV, va_rf, hq]
  · simp [updV, hq]
theorem g_anew {X : gX} {σ : gS} {own C : String} {index : Nat} {z : Int} (t k0 N : Nat) (hx : p.tables.exec = Jvm.exec) (hb : c.code = cc) (hown : s.vm.findClass own = some m.cls) (hts : ∀ w ∈ lw_all, w.before args s = true) (hK : gIn X s) (hG : gSat X σ H) (hS : va_S (gA X) s.heap H locs) (hcl : Cond.classLink own index C ∈ lw_all) (hao : Cond.arrayOver (.object C) ∈ lw_tbl) (ht : (gTys X.2.1)[k0]? = some (X.2.1 k0, .object C)) (hz : z = (N : Int)) (hN : N ≤ 16777216) (hcells : cells + 1 ≤ R.cells) (hslots : slots + N ≤ R.slots) (hdg : decode cc pc = .ok (.anewarray index, 3))
    (kk : ∀ (q : Nat) (H1 : Heap), σ q = none → gSat X (gup σ q (t, gV (X.2.1 k0) N (fun _ => none))) H1 → va_S (gA X) s.heap H1 locs → W p l e R s m args below meth c H1 locs (cells + 1) (slots + N) Q (F0 m (pc + 3) ls (.ref q :: rest))) : W p l e R s m args below meth c H locs cells slots Q (F0 m pc ls (.int (iI z) :: rest)) := by
  subst hz
  have hNc : (iI (N : Int)).toNatClampNeg = N := iI_cl rfl (by omega)
  refine W.anew hx hb hown (hts _ hcl) (va_AO.use (hK.ao hao)) rfl hdg rfl (by rw [← iI_0, iI_lt (by omega) (by omega)]; omega) (by rw [hNc]; omega) hcells (by rw [hNc]; exact hslots) fun cA kA comp f1 f2 f3 f4 => ?_
  rw [hNc]
  generalize hH1 : H.push ({ cls := cA, slots := Array.replicate N .null, vm := .none } : Cell) = H1
  have z1 : H1.size = H.size + 1 := by rw [← hH1, Array.size_push]
  have e1 : H1[H.size]? = some (arrV cA N (fun _ => .null)) := by rw [← hH1, Array.getElem?_push_size, ← arrV_new]
  have o1 : ∀ q : Nat, q < H.size → H1[q]? = H[q]? := fun q hq => by rw [← hH1, Array.getElem?_push, if_neg (Nat.ne_of_lt hq)]
  obtain ⟨kA2, comp2, g1, g2, g3, g4⟩ := (hK.K.2 k0 _ ht).2
  have hc : cA = X.2.1 k0 := Option.some.inj (f1.symm.trans g4)
  subst hc
  have hB : gB X ≤ H.size := Nat.le_trans hK.2.2.1 hS.1
  refine kk H.size H1 hG.fresh (hG.set hB ?_ (fun q _ hq => o1 q hq)) ⟨Nat.le_trans hS.1 (by omega), fun x h1 h2 => (o1 x (Nat.lt_of_lt_of_le h1 hS.1)).trans (hS.2.1 x h1 h2), hS.2.2⟩
  show H1[H.size]? = some (vp_cell _ _)
  rw [vp_cell_q]
  exact e1
end GR9
