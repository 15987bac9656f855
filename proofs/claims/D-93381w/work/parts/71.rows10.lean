/-! rows: a superclass's own method on this -/
set_option maxRecDepth 100000
section GR10
variable {p : Program} {l : Launch} {e : Env} {R : Room} {s : State} {m : MethodId} {args : Array Value} {below : List Frame} {meth : Method} {c : Code} {H : Heap} {locs : List Loc} {cells slots : Nat} {Q : State → Prop} {cc : ByteArray} {pc : Nat} {ls : Array Slot} {rest : List Value}
theorem g_callP {X : gX} {σ : gS} {post : Option Value → gS → Prop} {own C : String} {T : u_T} {N index b t ci L nL fr mc ms lo : Nat} {fs As : List Value} {y : MethodName} {bytes : ByteArray} {ret : Option FieldType} (n : Nat) (hx : p.tables.exec = Jvm.exec) (hb : c.code = cc) (hml : c.maxLocals = nL) (hown : s.vm.findClass own = some m.cls) (hts : ∀ w ∈ lw_all, w.before args s = true) (hK : gIn X s) (hG : gSat X σ H) (hS : va_S (gA X) s.heap H locs) (hls : ls.size = nL)
    (hM : gMet l X y bytes L ret fr mc ms lo σ (.ref b :: As) post) (hrb : σ b = some (t, gO ci fs)) (hc : vwCl[ci]? = some (C, T, N))
    (h1 : Cond.methodLink own index y ∈ lw_all) (h1b : Cond.sameMethod y.cls y.cls y.name y.desc ∈ lw_all) (h1c : Cond.superclass own y.cls ∈ lw_all) (h2 : Cond.instanceMethod y ∈ lw_all) (h4 : Cond.initialized y.cls ∈ lw_all) (h5 : Cond.code y bytes L ret ∈ lw_all)
    (hd : y.name ≠ "<init>" ∧ (parseMethodDescriptor y.desc).map (fun d => d.parameters.length) = some n) (hn : As.length = n) (hR : fr + 1 ≤ R.frames ∧ 8 + (L + 11) + lo ≤ R.locals) (hf : cells + mc ≤ R.cells ∧ slots + ms ≤ R.slots) (hcat : (rest.map fun v => v.category).sum ≤ 8) (hdg : decode cc pc = .ok (.invokespecial index, 3))
    (kk : ∀ (v : Option Value) (σ' : gS) (H1 : Heap) (locs1 : List Loc), post v σ' → gSat X σ' H1 → va_S (gA X) s.heap H1 locs1 → W p l e R s m args below meth c H1 locs1 (cells + mc) (slots + ms) Q ((fun st => F0 m (pc + 3) ls st) (v.toList ++ rest))) : W p l e R s m args below meth c H locs cells slots Q (F0 m pc ls (As.reverse ++ .ref b :: rest)) :=
  g_back (va_runSU (C := C) (As := As) (rest := rest) (n := n) (g_at hK hc) ⟨hx, hb, hml, hown, hts⟩ hM
    ⟨⟨rfl, rfl, hR.1, hR.2, pay_in hts (lw_meth h5), List.mem_cons_self⟩, hts _ h1, hts _ h1b, hts _ h1c, hts _ h2, hts _ h4, hts _ h5, hd.1, fun sig h => by have h2 := hd.2; rw [h] at h2; exact (Option.some.inj h2).symm⟩
    (gPreV hK hG hS hrb hc) rfl hn hls rfl (lv_room hcat) hdg hf) hS kk
end GR10
