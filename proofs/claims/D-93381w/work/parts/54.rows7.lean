/-! methods that may throw a Fault -/
set_option maxRecDepth 100000
theorem nrfA {t : FieldType} (r : Option Nat) : narrow (.array t) (va_rf r) = va_rf r := by cases r <;> rfl
theorem frfA {t : FieldType} (r : Option Nat) : fits (.array t) (va_rf r) = true := by cases r <;> rfl
def gTX (X : gX) (postX : Nat → gS → Prop) : String → Addr → State → State → Prop := fun E q st t => E = RX6 ∧ (∃ σ' : gS, postX q σ' ∧ gSat X σ' t.heap) ∧ va_F (gA X) st t
def gMetX (l : Launch) (X : gX) (y : MethodName) (cc : ByteArray) (L : Nat) (ret : Option FieldType) (fr mc ms lo : Nat) (σ : gS) (av : List Value) (post : Option Value → gS → Prop) (postX : Nat → gS → Prop) : Prop :=
  vx_Met l y (ws_ y cc L ret) (gR fr mc ms lo) (gPc X σ av) (gT X post) (gTX X postX) mc ms (gA X)
theorem gFlt {X : gX} {s : State} {σ : gS} {H : Heap} {q t : Nat} {fs : List Value} (hK : gIn X s) (hG : gSat X σ H) (h : σ q = some (t, gO 6 fs)) : ∃ ce : Cell, H[q]? = some ce ∧ ce.vm = .none ∧ s.vm.findClass RX6 = some ce.cls := by
  obtain ⟨r', hr', cellV, g1, g2, g3, -⟩ := (hG q t _ h).1
  have hcls := (hK.K.1 6 (RX6, TX6, 7) rfl).2
  exact ⟨cellV, g1, g3, by rw [g2]; exact hcls.1⟩
/-- the Fault is thrown on -/
def gOut9 (X : gX) (postX : Nat → gS → Prop) (p : Program) (l : Launch) (e : Env) (R : Room) (s : State) (m : MethodId) (args : Array Value) (below : List Frame) (meth : Method) (c : Code) (mc ms : Nat) (Q : State → Prop) : Prop :=
  ∀ (H1 : Heap) (locs1 : List Loc) (k n pc : Nat) (ls : Array Slot) (rest : List Value) (q t : Nat) (fs : List Value) (σ' : gS), postX q σ' → gSat X σ' H1 → va_S (gA X) s.heap H1 locs1 → k ≤ mc → n ≤ ms → σ' q = some (t, gO 6 fs) → vx_W p l e R s m args below meth c H1 locs1 k n Q (F0 m pc ls rest) q
theorem gMetX.of {l : Launch} {X : gX} {y : MethodName} {cc : ByteArray} {L : Nat} {ret : Option FieldType} {fr mc ms lo : Nat} {σ : gS} {av : List Value} {post : Option Value → gS → Prop} {postX : Nat → gS → Prop} (hy : plainName y.cls = true) (hL : (lg_sl av).length ≤ L)
    (body : ∀ (p : Program) (e : Env) (s : State) (m : MethodId) (args : Array Value) (below : List Frame) (meth : Method) (c : Code) (Q : State → Prop) (H : Heap) (locs : List Loc) (ls : Array Slot), args = av.toArray → p.tables.exec = Jvm.exec → c.code = cc → meth.sig.returnType = ret → meth.locks = false → c.maxLocals = L → s.vm.findClass y.cls = some m.cls → meth.name = y.name →
      (∀ w ∈ lw_all, w.before args s = true) → gIn X s → gSat X σ H → va_S (gA X) s.heap H locs → gEnd X post below args s mc ms Q → lv_has ls L (lv_args 0 av) → gOut9 X postX p l e (gR fr mc ms lo) s m args below meth c mc ms Q → W p l e (gR fr mc ms lo) s m args below meth c H locs 0 0 Q (F0 m 0 ls [])) :
    gMetX l X y cc L ret fr mc ms lo σ av post postX := by
  refine vx_ofW (cc := cc) (maxL := L) (ret := ret) hy rfl ?_
  intro p e s m args below meth c s₁ B hml htb hv
  obtain ⟨rfl, hG, hK⟩ := hv
  have hts := atoms_spec (ws := ws_ y cc L ret) B.pre
  have hts : ∀ w ∈ lw_all, w.before _ s = true := fun w h => hts w (List.mem_cons_of_mem _ h)
  have hl := lv_entry av (n := L) hL
  rw [lg_entry_eq]
  refine body p e s m _ below meth c _ s.heap [] _ rfl B.exec B.bytes B.returns B.notSynchronized hml (findClass_of_methodNamed B.named) (name_of_methodNamed B.named B.method).1 hts hK hG va_S.rf ?_ hl ?_
  · rintro t ⟨o, b1, b2, b3, b4⟩
    exact ⟨o, b1, b2, Or.inl ⟨b3, b4⟩⟩
  · intro H1 locs1 k n pc ls rest q t fs σ' hp hg hS hk hn hq
    obtain ⟨ce, c1, c2, c3⟩ := gFlt hK hg hq
    exact vx_out (fun x hx => absurd (htb x hx) id) B.notSynchronized c1 c2 c3 (fun t ht _ => ⟨rfl, ⟨σ', hp, by rw [ht]; exact hg⟩, hS.F ht⟩) hS.2.2 hk hn
section GRY
variable {p : Program} {l : Launch} {e : Env} {R : Room} {s : State} {m : MethodId} {args : Array Value} {below : List Frame} {meth : Method} {c : Code} {H : Heap} {locs : List Loc} {cells slots : Nat} {Q : State → Prop} {cc : ByteArray} {pc : Nat} {ls : Array Slot} {rest : List Value}
theorem g_callVX {X : gX} {σ : gS} {post : Option Value → gS → Prop} {postX : Nat → gS → Prop} {own C : String} {T : u_T} {N index b t ci L nL fr mc ms lo : Nat} {fs As : List Value} {y : MethodName} {bytes : ByteArray} {ret : Option FieldType} (n : Nat) (hx : p.tables.exec = Jvm.exec) (hb : c.code = cc) (hml : c.maxLocals = nL) (hown : s.vm.findClass own = some m.cls) (hts : ∀ w ∈ lw_all, w.before args s = true) (hK : gIn X s) (hG : gSat X σ H) (hS : va_S (gA X) s.heap H locs) (hls : ls.size = nL)
    (hM : gMetX l X y bytes L ret fr mc ms lo σ (.ref b :: As) post postX) (hrb : σ b = some (t, gO ci fs)) (hc : vwCl[ci]? = some (C, T, N))
    (h1 : Cond.methodLink own index y ∈ lw_all) (h2 : Cond.instanceMethod y ∈ lw_all) (h3 : Cond.selects C y y ∈ lw_all) (h4 : Cond.initialized C ∈ lw_all) (h5 : Cond.code y bytes L ret ∈ lw_all)
    (hd : y.cls = C ∧ y.cls ≠ "java/lang/invoke/MethodHandle" ∧ y.cls ≠ "java/lang/invoke/VarHandle" ∧ (parseMethodDescriptor y.desc).map (fun d => d.parameters.length) = some n) (hn : As.length = n) (hR : fr + 1 ≤ R.frames ∧ 8 + (L + 11) + lo ≤ R.locals) (hf : cells + mc ≤ R.cells ∧ slots + ms ≤ R.slots) (hcat : (rest.map fun v => v.category).sum ≤ 8) (hdg : decode cc pc = .ok (.invokevirtual index, 3))
    (kx : ∀ (q : Nat) (σ' : gS) (H1 : Heap) (locs1 : List Loc), postX q σ' → gSat X σ' H1 → va_S (gA X) s.heap H1 locs1 → vx_W p l e R s m args below meth c H1 locs1 (cells + mc) (slots + ms) Q (F0 m pc ls rest) q)
    (kk : ∀ (v : Option Value) (σ' : gS) (H1 : Heap) (locs1 : List Loc), post v σ' → gSat X σ' H1 → va_S (gA X) s.heap H1 locs1 → W p l e R s m args below meth c H1 locs1 (cells + mc) (slots + ms) Q ((fun st => F0 m (pc + 3) ls st) (v.toList ++ rest))) : W p l e R s m args below meth c H locs cells slots Q (F0 m pc ls (As.reverse ++ .ref b :: rest)) := by
  have hr := vx_runV (l := l) (As := As) (rest := rest) (locs := locs) (cells := cells) (slots := slots) (below := below) (meth := meth) (e := e) (g := F0 m pc ls (As.reverse ++ .ref b :: rest)) ⟨hx, hb, hml, hown, hts⟩ hM (cwV n hts (lw_V h1 h2 h3 h4 h5) rfl rfl rfl hd hR) (gPreV hK hG hS hrb hc) rfl hn hls rfl (lv_room hcat) hdg hf
  intro T hT X'
  rcases hr T hT X' with ⟨v, st₀, t, T', L, h0, X2, hL, e1, e2, ⟨⟨r, σ', hv, hp, hg⟩, hz, hk⟩, st⟩ | ⟨q, st₀, t, T', L, E, ce, h0, X2, hL, e1, e2, ⟨hE, ⟨σ', hp, hg⟩, hz, hk⟩, hce, hcv, hcl, st⟩
  · cases hv
    rw [h0] at hz hk
    obtain ⟨t2, a1, b1⟩ := kk v σ' T'.heap (locs ++ L) hp (by rw [e1]; exact hg)
      ⟨Nat.le_trans hS.1 (by rw [e1]; exact hz), fun q h1 h2 => by rw [e1, hk q (Nat.lt_of_lt_of_le h1 hS.1) h2]; exact hS.2.1 q h1 h2, fun q hq => by
        rcases List.mem_append.mp hq with h | h
        · exact hS.2.2 q h
        · exact hL q h⟩ T' rfl X2
    exact ⟨t2, st t2 a1, b1⟩
  · rw [h0] at hz hk
    obtain ⟨t2, a1, b1⟩ := kx q σ' T'.heap (locs ++ L) hp (by rw [e1]; exact hg)
      ⟨Nat.le_trans hS.1 (by rw [e1]; exact hz), fun q h1 h2 => by rw [e1, hk q (Nat.lt_of_lt_of_le h1 hS.1) h2]; exact hS.2.1 q h1 h2, fun q hq => by
        rcases List.mem_append.mp hq with h | h
        · exact hS.2.2 q h
        · exact hL q h⟩ T' rfl X2
    exact ⟨t2, st.trans a1, b1⟩
/-- a Fault caught here -/
theorem g_fltC {X : gX} {σ : gS} {own : String} {hp q t : Nat} {fs : List Value} (hown : s.vm.findClass own = some m.cls) (hK : gIn X s) (hG : gSat X σ H) (hq : σ q = some (t, gO 6 fs)) (hh : gHas X s args c own RX6 pc hp)
    (kk : W p l e R s m args below meth c H locs cells slots Q (F0 m hp ls [.ref q])) : vx_W p l e R s m args below meth c H locs cells slots Q (F0 m pc ls rest) q := by
  obtain ⟨pre, x, suf, hsp, hpass, hcov, h0, hlk, rfl⟩ := hh
  obtain ⟨ce, c1, c2, c3⟩ := gFlt hK hG hq
  exact vx_catch hown pre x suf hsp hpass hcov h0 hlk (va_Nw.use rfl (hK.nC q557)) c1 c2 c3 kk
end GRY
