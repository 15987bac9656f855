/-! methods with an exception table: contracts, calls -/
set_option maxRecDepth 100000
def gMetW (l : Launch) (X : gX) (y : MethodName) (cc : ByteArray) (L : Nat) (ret : Option FieldType) (hh : List (Nat × Nat × Nat × Nat)) (fr mc ms lo : Nat) (σ : gS) (av : List Value) (post : Option Value → gS → Prop) : Prop :=
  Met l y (wsW_ y cc L ret hh) (gR fr mc ms lo) (gPc X σ av) (gT X post) mc ms (gA X)
theorem gMetW.of {l : Launch} {X : gX} {y : MethodName} {cc : ByteArray} {L : Nat} {ret : Option FieldType} {hh : List (Nat × Nat × Nat × Nat)} {fr mc ms lo : Nat} {σ : gS} {av : List Value} {post : Option Value → gS → Prop} (hy : plainName y.cls = true) (hL : (lg_sl av).length ≤ L)
    (body : ∀ (p : Program) (e : Env) (s : State) (m : MethodId) (args : Array Value) (below : List Frame) (meth : Method) (c : Code) (Q : State → Prop) (H : Heap) (locs : List Loc) (ls : Array Slot), args = av.toArray → p.tables.exec = Jvm.exec → c.code = cc → meth.sig.returnType = ret → meth.locks = false → c.maxLocals = L → s.vm.findClass y.cls = some m.cls → meth.name = y.name →
      (∀ w ∈ lw_all, w.before args s = true) → gIn X s → gSat X σ H → va_S (gA X) s.heap H locs → gEnd X post below args s mc ms Q → lv_has ls L (lv_args 0 av) → c.exceptionTable.toList = Jvm.tableOf hh → W p l e (gR fr mc ms lo) s m args below meth c H locs 0 0 Q (F0 m 0 ls [])) :
    gMetW l X y cc L ret hh fr mc ms lo σ av post := by
  refine va_MetW (cc := cc) (maxL := L) (ret := ret) (hh := hh) hy rfl ?_
  intro p e s m args below meth c s₁ B hml hv
  obtain ⟨rfl, hG, hK⟩ := hv
  have hts := atoms_spec (ws := wsW_ y cc L ret hh) B.pre
  have htb := vx_table (x := y) B (hts _ List.mem_cons_self)
  have hts : ∀ w ∈ lw_all, w.before _ s = true := fun w h => hts w (List.mem_cons_of_mem _ h)
  have hl := lv_entry av (n := L) hL
  rw [lg_entry_eq]
  exact body p e s m _ below meth c _ s.heap [] _ rfl B.exec B.bytes B.returns B.notSynchronized hml (findClass_of_methodNamed B.named) (name_of_methodNamed B.named B.method).1 hts hK hG va_S.rf (fun t h => h) hl htb
section GRW
variable {p : Program} {l : Launch} {e : Env} {R : Room} {s : State} {m : MethodId} {args : Array Value} {below : List Frame} {meth : Method} {c : Code} {H : Heap} {locs : List Loc} {cells slots : Nat} {Q : State → Prop} {cc : ByteArray} {pc : Nat} {ls : Array Slot} {rest : List Value}
theorem g_callVW {X : gX} {σ : gS} {post : Option Value → gS → Prop} {own C : String} {T : u_T} {N index b t ci L nL fr mc ms lo : Nat} {fs As : List Value} {y : MethodName} {bytes : ByteArray} {ret : Option FieldType} {hh : List (Nat × Nat × Nat × Nat)} (n : Nat) (hx : p.tables.exec = Jvm.exec) (hb : c.code = cc) (hml : c.maxLocals = nL) (hown : s.vm.findClass own = some m.cls) (hts : ∀ w ∈ lw_all, w.before args s = true) (hK : gIn X s) (hG : gSat X σ H) (hS : va_S (gA X) s.heap H locs) (hls : ls.size = nL)
    (hM : gMetW l X y bytes L ret hh fr mc ms lo σ (.ref b :: As) post) (hrb : σ b = some (t, gO ci fs)) (hc : vwCl[ci]? = some (C, T, N))
    (h1 : Cond.methodLink own index y ∈ lw_all) (h2 : Cond.instanceMethod y ∈ lw_all) (h3 : Cond.selects C y y ∈ lw_all) (h4 : Cond.initialized C ∈ lw_all) (h5 : Cond.codeWith y bytes L ret hh ∈ lw_all)
    (hd : y.cls = C ∧ y.cls ≠ "java/lang/invoke/MethodHandle" ∧ y.cls ≠ "java/lang/invoke/VarHandle" ∧ (parseMethodDescriptor y.desc).map (fun d => d.parameters.length) = some n) (hn : As.length = n) (hR : fr + 1 ≤ R.frames ∧ 8 + (L + 11) + lo ≤ R.locals) (hf : cells + mc ≤ R.cells ∧ slots + ms ≤ R.slots) (hcat : (rest.map fun v => v.category).sum ≤ 8) (hdg : decode cc pc = .ok (.invokevirtual index, 3))
    (kk : ∀ (v : Option Value) (σ' : gS) (H1 : Heap) (locs1 : List Loc), post v σ' → gSat X σ' H1 → va_S (gA X) s.heap H1 locs1 → W p l e R s m args below meth c H1 locs1 (cells + mc) (slots + ms) Q ((fun st => F0 m (pc + 3) ls st) (v.toList ++ rest))) : W p l e R s m args below meth c H locs cells slots Q (F0 m pc ls (As.reverse ++ .ref b :: rest)) :=
  g_back (vx_runVW (As := As) (rest := rest) ⟨hx, hb, hml, hown, hts⟩ hM (vx_cwVW n hts (lw_VW h1 h2 h3 h4 h5) rfl rfl rfl hd hR) (gPreV hK hG hS hrb hc) rfl hn hls rfl (lv_room hcat) hdg hf) hS kk
/-- the first row of the table takes it -/
theorem gHas.one {X : gX} {own E : String} {a b hp t : Nat} {r : List (Nat × Nat × Nat × Nat)} (hts : ∀ w ∈ lw_all, w.before args s = true) (htb : c.exceptionTable.toList = Jvm.tableOf ((a, b, hp, t) :: r)) (hc : a ≤ pc ∧ pc < b) (ht : t ≠ 0) (hl : Cond.classLink own t E ∈ lw_all) : gHas X s args c own E pc hp := by
  refine ⟨[], _, _, htb.trans rfl, fun z hz => absurd hz List.not_mem_nil, ?_, ht, hts _ hl, rfl⟩
  simp only [covers, Bool.and_eq_true, decide_eq_true_eq]
  exact hc
/-- the second does, the first takes another class -/
theorem gHas.two {X : gX} {own E F : String} {a b hp t a0 b0 h0 t0 : Nat} {r : List (Nat × Nat × Nat × Nat)} (hK : gIn X s) (hts : ∀ w ∈ lw_all, w.before args s = true) (htb : c.exceptionTable.toList = Jvm.tableOf ((a0, b0, h0, t0) :: (a, b, hp, t) :: r)) (hc : a ≤ pc ∧ pc < b) (ht : t ≠ 0) (hl : Cond.classLink own t E ∈ lw_all) (ht0 : t0 ≠ 0) (hl0 : Cond.classLink own t0 F ∈ lw_all) (hn : Cond.not (.castable E F) ∈ flatC (Jvm.Cond.and given_1 narrow_1)) : gHas X s args c own E pc hp := by
  refine ⟨[_], _, _, htb.trans rfl, fun z hz => ?_, ?_, ht, hts _ hl, rfl⟩
  · rw [List.mem_singleton] at hz
    subst hz
    exact Or.inr ⟨ht0, F, hts _ hl0, (va_Nc.of (hK.flat _ hn)).moved hK.2.1.alike⟩
  · simp only [covers, Bool.and_eq_true, decide_eq_true_eq]
    exact hc
end GRW
theorem nc_ai : Cond.not (.castable "java/lang/ArrayIndexOutOfBoundsException" "java/lang/NullPointerException") ∈ flatC (Jvm.Cond.and given_1 narrow_1) := by decide +kernel
