/-! rows: references that may be null; calls through interfaces, of inherited methods, of nest mates; casts -/
set_option maxRecDepth 100000
section GR2
variable {p : Program} {l : Launch} {e : Env} {R : Room} {s : State} {m : MethodId} {args : Array Value} {below : List Frame} {meth : Method} {c : Code} {H : Heap} {locs : List Loc} {cells slots : Nat} {Q : State → Prop} {cc : ByteArray} {pc : Nat} {ls : Array Slot} {rest : List Value}
theorem g_aload_nR (hx : p.tables.exec = Jvm.exec) (hb : c.code = cc) {k : Fin 4} {i : Nat} {r : Option Nat} (hdg : decode cc pc = .ok (.aload_n k, 1)) (hi : (k : Nat) = i) (hl : ls[i]? = some (.val (va_rf r))) (k : W p l e R s m args below meth c H locs cells slots Q (F0 m (pc + 1) ls (va_rf r :: rest))) : W p l e R s m args below meth c H locs cells slots Q (F0 m pc ls (rest)) := by
  cases r with
  | none => exact lv_aload_nN hx hb hdg hi hl k
  | some x => exact lv_aload_n hx hb hdg hi hl k
theorem g_aloadR (hx : p.tables.exec = Jvm.exec) (hb : c.code = cc) {i : Nat} {r : Option Nat} (hdg : decode cc pc = .ok (.aload i, 2)) (hl : ls[i]? = some (.val (va_rf r))) (k : W p l e R s m args below meth c H locs cells slots Q (F0 m (pc + 2) ls (va_rf r :: rest))) : W p l e R s m args below meth c H locs cells slots Q (F0 m pc ls (rest)) := by
  cases r with
  | none => exact lv_aloadN hx hb hdg hl k
  | some x => exact lv_aload hx hb hdg hl k
theorem g_astore_nR (hx : p.tables.exec = Jvm.exec) (hb : c.code = cc) {k : Fin 4} {i nL : Nat} {r : Option Nat} {lv lv' : List (Nat × Value)} (hdg : decode cc pc = .ok (.astore_n k, 1)) (hi : (k : Nat) = i) (h : lv_has ls nL lv) (hn : i < nL) (hl : (i, va_rf r) :: lv.filter (fun q => !(q.1 == i) && !(q.1 + 1 == i && q.2.category == 2)) = lv')
    (kk : ∀ ls' : Array Slot, lv_has ls' nL lv' → W p l e R s m args below meth c H locs cells slots Q (F0 m (pc + 1) ls' rest)) : W p l e R s m args below meth c H locs cells slots Q (F0 m pc ls (va_rf r :: rest)) := by
  cases r with
  | none => exact lv_astore_nN hx hb hdg hi h hn hl kk
  | some x => exact lv_astore_n hx hb hdg hi h hn hl kk
theorem g_astoreR (hx : p.tables.exec = Jvm.exec) (hb : c.code = cc) {i nL : Nat} {r : Option Nat} {lv lv' : List (Nat × Value)} (hdg : decode cc pc = .ok (.astore i, 2)) (h : lv_has ls nL lv) (hn : i < nL) (hl : (i, va_rf r) :: lv.filter (fun q => !(q.1 == i) && !(q.1 + 1 == i && q.2.category == 2)) = lv')
    (kk : ∀ ls' : Array Slot, lv_has ls' nL lv' → W p l e R s m args below meth c H locs cells slots Q (F0 m (pc + 2) ls' rest)) : W p l e R s m args below meth c H locs cells slots Q (F0 m pc ls (va_rf r :: rest)) := by
  cases r with
  | none => exact lv_astoreN hx hb hdg h hn hl kk
  | some x => exact lv_astore hx hb hdg h hn hl kk
theorem g_ifnullR (hx : p.tables.exec = Jvm.exec) (hb : c.code = cc) {r : Option Nat} {off : Int} {tgt : Nat} (hdg : decode cc pc = .ok (.ifnull off, 3)) (ht : (pc : Int) + off = (tgt : Int)) (kt : r = none → W p l e R s m args below meth c H locs cells slots Q (F0 m tgt ls (rest))) (kf : ∀ z, r = some z → W p l e R s m args below meth c H locs cells slots Q (F0 m (pc + 3) ls (rest))) : W p l e R s m args below meth c H locs cells slots Q (F0 m pc ls (va_rf r :: rest)) := by
  cases r with
  | none => exact lv_ifnullN hx hb hdg ht (kt rfl)
  | some x => exact lv_ifnull hx hb hdg (kf x rfl)
theorem g_ifnonnullR (hx : p.tables.exec = Jvm.exec) (hb : c.code = cc) {r : Option Nat} {off : Int} {tgt : Nat} (hdg : decode cc pc = .ok (.ifnonnull off, 3)) (ht : (pc : Int) + off = (tgt : Int)) (kt : ∀ z, r = some z → W p l e R s m args below meth c H locs cells slots Q (F0 m tgt ls (rest))) (kf : r = none → W p l e R s m args below meth c H locs cells slots Q (F0 m (pc + 3) ls (rest))) : W p l e R s m args below meth c H locs cells slots Q (F0 m pc ls (va_rf r :: rest)) := by
  cases r with
  | none => exact lv_ifnonnullN hx hb hdg (kf rfl)
  | some x => exact lv_ifnonnull hx hb hdg ht (kt x rfl)
/-- another name for the value on top -/
theorem g_rwv {u v : Value} (h : u = v) (k : W p l e R s m args below meth c H locs cells slots Q (F0 m pc ls (v :: rest))) : W p l e R s m args below meth c H locs cells slots Q (F0 m pc ls (u :: rest)) := h ▸ k
theorem g_rst {st st' : List Value} (h : st = st') (k : W p l e R s m args below meth c H locs cells slots Q (F0 m pc ls (st'))) : W p l e R s m args below meth c H locs cells slots Q (F0 m pc ls (st)) := h ▸ k
theorem g_icmp_eqS (hx : p.tables.exec = Jvm.exec) (hb : c.code = cc) {a : Int} {off : Int} {tgt : Nat} (hdg : decode cc pc = .ok (.if_icmp .eq off, 3)) (ht : (pc : Int) + off = (tgt : Int)) (kt : W p l e R s m args below meth c H locs cells slots Q (F0 m tgt ls (rest))) : W p l e R s m args below meth c H locs cells slots Q (F0 m pc ls (.int (iI a) :: .int (iI a) :: rest)) :=
  lv_icmp_eq hx hb hdg ht (fun _ => kt) (fun q => absurd rfl q)
theorem g_icmp_neS (hx : p.tables.exec = Jvm.exec) (hb : c.code = cc) {a : Int} {off : Int} {tgt : Nat} (hdg : decode cc pc = .ok (.if_icmp .ne off, 3)) (ht : (pc : Int) + off = (tgt : Int)) (kf : W p l e R s m args below meth c H locs cells slots Q (F0 m (pc + 3) ls (rest))) : W p l e R s m args below meth c H locs cells slots Q (F0 m pc ls (.int (iI a) :: .int (iI a) :: rest)) :=
  lv_icmp_ne hx hb hdg ht (fun q => absurd rfl q) (fun _ => kf)
theorem nrf {C : String} (r : Option Nat) : narrow (.object C) (va_rf r) = va_rf r := by cases r <;> rfl
theorem frf {C : String} (r : Option Nat) : fits (.object C) (va_rf r) = true := by cases r <;> rfl
theorem g_at {X : gX} {ci : Nat} {C : String} {T : u_T} {N : Nat} (hK : gIn X s) (hc : vwCl[ci]? = some (C, T, N)) : ClassAt s C (X.1.1 ci) := (hK.K.1 ci _ hc).2
/-- a call through an interface, of a method that the interface itself declares -/
theorem g_callF {X : gX} {σ : gS} {post : Option Value → gS → Prop} {own C : String} {T : u_T} {N index count b t ci L nL fr mc ms lo : Nat} {fs As : List Value} {x y : MethodName} {bytes : ByteArray} {ret : Option FieldType} (n : Nat) (hx : p.tables.exec = Jvm.exec) (hb : c.code = cc) (hml : c.maxLocals = nL) (hown : s.vm.findClass own = some m.cls) (hts : ∀ w ∈ lw_all, w.before args s = true) (hK : gIn X s) (hG : gSat X σ H) (hS : va_S (gA X) s.heap H locs) (hls : ls.size = nL)
    (hM : gMet l X y bytes L ret fr mc ms lo σ (.ref b :: As) post) (hrb : σ b = some (t, gO ci fs)) (hc : vwCl[ci]? = some (C, T, N))
    (h1 : Cond.methodLink own index x ∈ lw_all) (h2 : Cond.selects C x y ∈ lw_all) (h3 : Cond.instanceMethod y ∈ lw_all) (h4 : Cond.initialized y.cls ∈ lw_all) (h5 : Cond.code y bytes L ret ∈ lw_all)
    (f1 : Cond.declares x ∈ lw_tbl) (f2 : Cond.interfaceMethod x.cls x.cls x.name x.desc ∈ lw_tbl) (f3 : Cond.publicMethod y ∈ lw_tbl) (f4 : Cond.unhidden C x.name x.desc ∈ lw_tbl) (f5 : Cond.castable C x.cls ∈ lw_tbl)
    (hd : x.cls ≠ "java/lang/invoke/MethodHandle" ∧ x.cls ≠ "java/lang/invoke/VarHandle" ∧ (parseMethodDescriptor x.desc).map (fun d => d.parameters.length) = some n) (hn : As.length = n) (hR : fr + 1 ≤ R.frames ∧ 8 + (L + 11) + lo ≤ R.locals) (hf : cells + mc ≤ R.cells ∧ slots + ms ≤ R.slots) (hcat : (rest.map fun v => v.category).sum ≤ 8) (hdg : decode cc pc = .ok (.invokeinterface index count, 5))
    (kk : ∀ (v : Option Value) (σ' : gS) (H1 : Heap) (locs1 : List Loc), post v σ' → gSat X σ' H1 → va_S (gA X) s.heap H1 locs1 → W p l e R s m args below meth c H1 locs1 (cells + mc) (slots + ms) Q ((fun st => F0 m (pc + 5) ls st) (v.toList ++ rest))) : W p l e R s m args below meth c H locs cells slots Q (F0 m pc ls (As.reverse ++ .ref b :: rest)) :=
  g_back5 (va_runF (As := As) (rest := rest) (g_at hK hc) ⟨hx, hb, hml, hown, hts⟩ hM (va_cwF n hts (lw_app (List.forall_mem_cons.mpr ⟨h1, List.forall_mem_cons.mpr ⟨h2, List.forall_mem_cons.mpr ⟨h3, List.forall_mem_cons.mpr ⟨h4, fun _ h => by cases h⟩⟩⟩⟩) (lw_meth h5)) rfl rfl rfl (hK.fw ⟨hd.1, hd.2.1⟩ f1 f2 f3 f4 f5) hd hR) (gPreV hK hG hS hrb hc) rfl hn hls rfl (lv_room hcat) hdg hf) hS kk
/-- a virtual call of a method that a class above the named one declares -/
theorem g_callU {X : gX} {σ : gS} {post : Option Value → gS → Prop} {own C owner : String} {T : u_T} {N index b t ci L nL fr mc ms lo : Nat} {fs As : List Value} {x y : MethodName} {bytes : ByteArray} {ret : Option FieldType} (n : Nat) (hx : p.tables.exec = Jvm.exec) (hb : c.code = cc) (hml : c.maxLocals = nL) (hown : s.vm.findClass own = some m.cls) (hts : ∀ w ∈ lw_all, w.before args s = true) (hK : gIn X s) (hG : gSat X σ H) (hS : va_S (gA X) s.heap H locs) (hls : ls.size = nL)
    (hM : gMet l X y bytes L ret fr mc ms lo σ (.ref b :: As) post) (hrb : σ b = some (t, gO ci fs)) (hc : vwCl[ci]? = some (C, T, N))
    (h1 : Cond.methodLink own index x ∈ lw_all) (h2 : Cond.sameMethod x.cls owner x.name x.desc ∈ lw_all) (h3 : Cond.selects C x y ∈ lw_all) (h4 : Cond.instanceMethod y ∈ lw_all) (h5 : Cond.initialized y.cls ∈ lw_all) (h6 : Cond.instanceMethod ⟨owner, x.name, x.desc⟩ ∈ lw_all) (h7 : Cond.code y bytes L ret ∈ lw_all) (hyx : y = ⟨owner, x.name, x.desc⟩)
    (hd : owner ≠ "java/lang/invoke/MethodHandle" ∧ owner ≠ "java/lang/invoke/VarHandle" ∧ (parseMethodDescriptor x.desc).map (fun d => d.parameters.length) = some n) (hn : As.length = n) (hR : fr + 1 ≤ R.frames ∧ 8 + (L + 11) + lo ≤ R.locals) (hf : cells + mc ≤ R.cells ∧ slots + ms ≤ R.slots) (hcat : (rest.map fun v => v.category).sum ≤ 8) (hdg : decode cc pc = .ok (.invokevirtual index, 3))
    (kk : ∀ (v : Option Value) (σ' : gS) (H1 : Heap) (locs1 : List Loc), post v σ' → gSat X σ' H1 → va_S (gA X) s.heap H1 locs1 → W p l e R s m args below meth c H1 locs1 (cells + mc) (slots + ms) Q ((fun st => F0 m (pc + 3) ls st) (v.toList ++ rest))) : W p l e R s m args below meth c H locs cells slots Q (F0 m pc ls (As.reverse ++ .ref b :: rest)) :=
  g_back (va_runU (As := As) (rest := rest) ⟨hx, hb, hml, hown, hts⟩ hM (va_cwU n hts (lw_app (fun w hw => by simp only [List.mem_cons, List.not_mem_nil, or_false] at hw; rcases hw with rfl | rfl | rfl | rfl | rfl | rfl <;> assumption) (lw_meth h7)) rfl rfl rfl hyx hd hR) (gPreV hK hG hS hrb hc) rfl hn hls rfl (lv_room hcat) hdg hf) hS kk
theorem g_callVN {X : gX} {σ : gS} {post : Option Value → gS → Prop} {own C host : String} {T : u_T} {N index b t ci L nL fr mc ms lo : Nat} {fs As : List Value} {y : MethodName} {bytes : ByteArray} {ret : Option FieldType} (n : Nat) (hx : p.tables.exec = Jvm.exec) (hb : c.code = cc) (hml : c.maxLocals = nL) (hown : s.vm.findClass own = some m.cls) (hts : ∀ w ∈ lw_all, w.before args s = true) (hK : gIn X s) (hG : gSat X σ H) (hS : va_S (gA X) s.heap H locs) (hls : ls.size = nL)
    (hM : gMet l X y bytes L ret fr mc ms lo σ (.ref b :: As) post) (hrb : σ b = some (t, gO ci fs)) (hc : vwCl[ci]? = some (C, T, N))
    (h1 : Cond.methodLinkNest own index y host ∈ lw_tbl) (h2 : Cond.instanceMethod y ∈ lw_all) (h3 : Cond.selects C y y ∈ lw_all) (h4 : Cond.initialized y.cls ∈ lw_all) (h5 : Cond.code y bytes L ret ∈ lw_all)
    (hd : y.cls ≠ "java/lang/invoke/MethodHandle" ∧ y.cls ≠ "java/lang/invoke/VarHandle" ∧ (parseMethodDescriptor y.desc).map (fun d => d.parameters.length) = some n) (hn : As.length = n) (hR : fr + 1 ≤ R.frames ∧ 8 + (L + 11) + lo ≤ R.locals) (hf : cells + mc ≤ R.cells ∧ slots + ms ≤ R.slots) (hcat : (rest.map fun v => v.category).sum ≤ 8) (hdg : decode cc pc = .ok (.invokevirtual index, 3))
    (kk : ∀ (v : Option Value) (σ' : gS) (H1 : Heap) (locs1 : List Loc), post v σ' → gSat X σ' H1 → va_S (gA X) s.heap H1 locs1 → W p l e R s m args below meth c H1 locs1 (cells + mc) (slots + ms) Q ((fun st => F0 m (pc + 3) ls st) (v.toList ++ rest))) : W p l e R s m args below meth c H locs cells slots Q (F0 m pc ls (As.reverse ++ .ref b :: rest)) :=
  g_back (va_runVN (As := As) (rest := rest) ⟨hx, hb, hml, hown, hts⟩ hM ⟨va_cnB n hts (lw_meth h5) rfl rfl rfl (hK.nM h1) (hts _ h4) hd hR, hts _ h2, hts _ h3⟩ (gPreV hK hG hS hrb hc) rfl hn hls rfl (lv_room hcat) hdg hf) hS kk
theorem g_callSN {X : gX} {σ : gS} {post : Option Value → gS → Prop} {own host : String} {index L nL fr mc ms lo : Nat} {As : List Value} {y : MethodName} {bytes : ByteArray} {ret : Option FieldType} (n : Nat) (hx : p.tables.exec = Jvm.exec) (hb : c.code = cc) (hml : c.maxLocals = nL) (hown : s.vm.findClass own = some m.cls) (hts : ∀ w ∈ lw_all, w.before args s = true) (hK : gIn X s) (hG : gSat X σ H) (hS : va_S (gA X) s.heap H locs) (hls : ls.size = nL)
    (hM : gMet l X y bytes L ret fr mc ms lo σ As post)
    (h1 : Cond.methodLinkNest own index y host ∈ lw_tbl) (h2 : Cond.static y ∈ lw_all) (h4 : Cond.initialized y.cls ∈ lw_all) (h5 : Cond.code y bytes L ret ∈ lw_all)
    (hd : y.cls ≠ "java/lang/invoke/MethodHandle" ∧ y.cls ≠ "java/lang/invoke/VarHandle" ∧ (parseMethodDescriptor y.desc).map (fun d => d.parameters.length) = some n) (hn : As.length = n) (hR : fr + 1 ≤ R.frames ∧ 8 + (L + 11) + lo ≤ R.locals) (hf : cells + mc ≤ R.cells ∧ slots + ms ≤ R.slots) (hcat : (rest.map fun v => v.category).sum ≤ 8) (hdg : decode cc pc = .ok (.invokestatic index, 3))
    (kk : ∀ (v : Option Value) (σ' : gS) (H1 : Heap) (locs1 : List Loc), post v σ' → gSat X σ' H1 → va_S (gA X) s.heap H1 locs1 → W p l e R s m args below meth c H1 locs1 (cells + mc) (slots + ms) Q ((fun st => F0 m (pc + 3) ls st) (v.toList ++ rest))) : W p l e R s m args below meth c H locs cells slots Q (F0 m pc ls (As.reverse ++ rest)) :=
  g_back (va_runSN (As := As) (rest := rest) ⟨hx, hb, hml, hown, hts⟩ hM ⟨va_cnB n hts (lw_meth h5) rfl rfl rfl (hK.nM h1) (hts _ h4) hd hR, hts _ h2, trivial⟩ (gPreS hK hG hS) rfl hn hls rfl (lv_room hcat) hdg hf) hS kk
theorem g_callIN {X : gX} {σ : gS} {post : Option Value → gS → Prop} {own host : String} {index b L nL fr mc ms lo : Nat} {As : List Value} {y : MethodName} {bytes : ByteArray} (n : Nat) (hx : p.tables.exec = Jvm.exec) (hb : c.code = cc) (hml : c.maxLocals = nL) (hown : s.vm.findClass own = some m.cls) (hts : ∀ w ∈ lw_all, w.before args s = true) (hK : gIn X s) (hG : gSat X σ H) (hS : va_S (gA X) s.heap H locs) (hls : ls.size = nL)
    (hM : gMet l X y bytes L none fr mc ms lo σ (.ref b :: As) post)
    (h1 : Cond.methodLinkNest own index y host ∈ lw_tbl) (h2 : Cond.instanceMethod y ∈ lw_all) (h4 : Cond.initialized y.cls ∈ lw_all) (h5 : Cond.code y bytes L none ∈ lw_all) (hy1 : y.name = "<init>")
    (hd : y.cls ≠ "java/lang/invoke/MethodHandle" ∧ y.cls ≠ "java/lang/invoke/VarHandle" ∧ (parseMethodDescriptor y.desc).map (fun d => d.parameters.length) = some n) (hn : As.length = n) (hR : fr + 1 ≤ R.frames ∧ 8 + (L + 11) + lo ≤ R.locals) (hf : cells + mc ≤ R.cells ∧ slots + ms ≤ R.slots) (hcat : (rest.map fun v => v.category).sum ≤ 8) (hdg : decode cc pc = .ok (.invokespecial index, 3))
    (kk : ∀ (v : Option Value) (σ' : gS) (H1 : Heap) (locs1 : List Loc), post v σ' → gSat X σ' H1 → va_S (gA X) s.heap H1 locs1 → W p l e R s m args below meth c H1 locs1 (cells + mc) (slots + ms) Q ((fun st => F0 m (pc + 3) ls st) (v.toList ++ rest))) : W p l e R s m args below meth c H locs cells slots Q (F0 m pc ls (As.reverse ++ .ref b :: rest)) :=
  g_back (va_runIN (As := As) (rest := rest) ⟨hx, hb, hml, hown, hts⟩ hM ⟨va_cnB n hts (lw_meth h5) rfl rfl rfl (hK.nM h1) (hts _ h4) hd hR, hy1, hts _ h2⟩ (gPreS hK hG hS) rfl hn hls rfl (lv_room hcat) hdg hf) hS kk
theorem g_castY (hx : p.tables.exec = Jvm.exec) (hb : c.code = cc) {X : gX} {σ : gS} {a t ci index : Nat} {fs : List Value} {own C nm : String} {T : u_T} {N : Nat} (hts : ∀ w ∈ lw_all, w.before args s = true) (hown : s.vm.findClass own = some m.cls) (hK : gIn X s) (hG : gSat X σ H) (ha : σ a = some (t, gO ci fs)) (hc : vwCl[ci]? = some (C, T, N)) (hl : Cond.classLink own index nm ∈ lw_all) (hca : Cond.castable C nm ∈ lw_tbl) (hdg : decode cc pc = .ok (.checkcast index, 3))
    (k : W p l e R s m args below meth c H locs cells slots Q (F0 m (pc + 3) ls (.ref a :: rest))) : W p l e R s m args below meth c H locs cells slots Q (F0 m pc ls (.ref a :: rest)) := va_castY hx hb hown (hts _ hl) (hK.nC hca) (g_recv hK hG ha hc) hdg k
theorem g_castS (hx : p.tables.exec = Jvm.exec) (hb : c.code = cc) {X : gX} {σ : gS} {a t ci index : Nat} {fs : List Value} {own C : String} {T : u_T} {N : Nat} (hts : ∀ w ∈ lw_all, w.before args s = true) (hown : s.vm.findClass own = some m.cls) (hK : gIn X s) (hG : gSat X σ H) (ha : σ a = some (t, gO ci fs)) (hc : vwCl[ci]? = some (C, T, N)) (hl : Cond.classLink own index C ∈ lw_all) (hdg : decode cc pc = .ok (.checkcast index, 3))
    (k : W p l e R s m args below meth c H locs cells slots Q (F0 m (pc + 3) ls (.ref a :: rest))) : W p l e R s m args below meth c H locs cells slots Q (F0 m pc ls (.ref a :: rest)) := va_castS hx hb hown (hts _ hl) (g_at hK hc) (g_recv hK hG ha hc) hdg k
theorem g_instS (hx : p.tables.exec = Jvm.exec) (hb : c.code = cc) {X : gX} {σ : gS} {a t ci index : Nat} {fs : List Value} {own C : String} {T : u_T} {N : Nat} (hts : ∀ w ∈ lw_all, w.before args s = true) (hown : s.vm.findClass own = some m.cls) (hK : gIn X s) (hG : gSat X σ H) (ha : σ a = some (t, gO ci fs)) (hc : vwCl[ci]? = some (C, T, N)) (hl : Cond.classLink own index C ∈ lw_all) (hdg : decode cc pc = .ok (.instanceof index, 3))
    (k : W p l e R s m args below meth c H locs cells slots Q (F0 m (pc + 3) ls (.int (iI 1) :: rest))) : W p l e R s m args below meth c H locs cells slots Q (F0 m pc ls (.ref a :: rest)) := va_instS hx hb hown (hts _ hl) (g_at hK hc) (g_recv hK hG ha hc) hdg k
/-- a word of the start that speaks of the tables alone, at a later state -/
theorem g_tr {X : gX} {U : State} {c : Cond} (hc : c.onTables = true) {A A' : Array Value} (h1 : c.before A X.2.2.2.2 = true) (h2 : c.before #[] (X.2.2.2.2.setVm U.vm) = c.before #[] X.2.2.2.2) : c.before A' U = true := by
  have w1 := va_any (A' := #[]) hc h1
  rw [← h2] at w1
  have e := Cond.onTables_vm (A := #[]) (A' := A') (U := X.2.2.2.2) (U' := U) U.vm c hc
  have hU : U.setVm U.vm = U := rfl
  rw [hU] at e
  rw [← e]
  exact w1
theorem g_imS {s : State} {vm' : Vm} (h : s.vm.Alike vm') (A : Array Value) (ref J name desc : String) : (Cond.interfaceMethod ref J name desc).before A (s.setVm vm') = (Cond.interfaceMethod ref J name desc).before A s := by
  simp only [Cond.before, Cond.holds, Cond.value, State.vm_setVm, h.findClass, State.methodFound?_setVm h, State.methodNamed?_setVm h, arm_isInterface_setVm h]
/-- a call through an interface, of a method that another interface declares -/
theorem g_callM {X : gX} {σ : gS} {post : Option Value → gS → Prop} {own C J : String} {T : u_T} {N index count b t ci L nL fr mc ms lo : Nat} {fs As : List Value} {x y : MethodName} {bytes : ByteArray} {ret : Option FieldType} (n : Nat) (hx : p.tables.exec = Jvm.exec) (hb : c.code = cc) (hml : c.maxLocals = nL) (hown : s.vm.findClass own = some m.cls) (hts : ∀ w ∈ lw_all, w.before args s = true) (hK : gIn X s) (hG : gSat X σ H) (hS : va_S (gA X) s.heap H locs) (hls : ls.size = nL)
    (hM : gMet l X y bytes L ret fr mc ms lo σ (.ref b :: As) post) (hrb : σ b = some (t, gO ci fs)) (hc : vwCl[ci]? = some (C, T, N))
    (h1 : Cond.methodLink own index x ∈ flatC (Jvm.Cond.and given_1 narrow_1)) (h1b : Cond.interfaceMethod x.cls J x.name x.desc ∈ flatC (Jvm.Cond.and given_1 narrow_1)) (d1 : Cond.declares ⟨J, x.name, x.desc⟩ ∈ lw_tbl) (d2 : Cond.publicMethod ⟨J, x.name, x.desc⟩ ∈ lw_tbl) (hxo : x.cls ≠ J)
    (hJ : J ≠ "java/lang/invoke/MethodHandle" ∧ J ≠ "java/lang/invoke/VarHandle") (h2 : Cond.selects C ⟨J, x.name, x.desc⟩ y ∈ lw_all) (h3 : Cond.instanceMethod y ∈ lw_all) (h4 : Cond.initialized y.cls ∈ lw_all) (h5 : Cond.code y bytes L ret ∈ lw_all)
    (f3 : Cond.publicMethod y ∈ lw_tbl) (f4 : Cond.unhidden C x.name x.desc ∈ lw_tbl) (f5 : Cond.castable C x.cls ∈ lw_tbl)
    (hd : x.cls ≠ "java/lang/invoke/MethodHandle" ∧ x.cls ≠ "java/lang/invoke/VarHandle" ∧ (parseMethodDescriptor x.desc).map (fun d => d.parameters.length) = some n) (hn : As.length = n) (hR : fr + 1 ≤ R.frames ∧ 8 + (L + 11) + lo ≤ R.locals) (hf : cells + mc ≤ R.cells ∧ slots + ms ≤ R.slots) (hcat : (rest.map fun v => v.category).sum ≤ 8) (hdg : decode cc pc = .ok (.invokeinterface index count, 5))
    (kk : ∀ (v : Option Value) (σ' : gS) (H1 : Heap) (locs1 : List Loc), post v σ' → gSat X σ' H1 → va_S (gA X) s.heap H1 locs1 → W p l e R s m args below meth c H1 locs1 (cells + mc) (slots + ms) Q ((fun st => F0 m (pc + 5) ls st) (v.toList ++ rest))) : W p l e R s m args below meth c H locs cells slots Q (F0 m pc ls (As.reverse ++ .ref b :: rest)) := by
  have hA := hK.warm.alike
  obtain ⟨-, hrv, hPc⟩ : PreV s H C b (gPc X σ (.ref b :: As)) As := gPreV hK hG hS hrb hc
  obtain ⟨cellB, hcB, hoB, hclB⟩ := hrv
  obtain ⟨hfc, kB, hkB, -⟩ := g_at hK hc
  have hKb : Back l R p e below s args y 5 8 (PreOf R mc ms (gPc X σ (.ref b :: As))) (PostOf (gT X post) mc ms (gA X)) := back_of (bytes := bytes) (maxL := L) (ret := ret) hM gPc_blind rfl rfl hR.1 hR.2 (pay_in hts (lw_meth h5)) List.mem_cons_self (fun a' U hW => word_at hW (Or.inl rfl) (hts _ h4))
  refine g_back5 (post := post) (a := (Value.ref b :: As).toArray) (mc := mc) (ms := ms) ?_ hS kk
  intro T hT XX
  obtain ⟨r0, r, hn0, hrm, hstR, hsigR⟩ := Cond.declares_spec (g_tr (A' := args) rfl (hK.ok.1 _ d1) (Cond.declares_setVm hA _))
  have hface : (Cond.interfaceMethod x.cls J x.name x.desc).before args s = true := g_tr rfl (hK.flat _ h1b) (g_imS hA _ _ _ _ _)
  obtain ⟨cL, kL, r1, hcL, hkL, hiL, hfoundL, hn1⟩ := Cond.interfaceMethod_spec hface
  cases hn0.symm.trans hn1
  obtain ⟨hnameR, hdescR⟩ := name_of_methodNamed hn0 hrm
  obtain ⟨mk, methM, hnamed, hmethM, -, habM⟩ := Cond.instanceMethod_spec (hts _ h3)
  obtain ⟨c2, r2, m2, q1, q2, q3, q4, -⟩ := Cond.selects_spec (hts _ h2)
  cases hfc.symm.trans q1
  cases (State.methodFound?_of_named hn0 hJ).symm.trans q2
  cases hnamed.symm.trans q3
  have e9 : cellB.cls = X.1.1 ci := Option.some.inj (hclB.symm.trans hfc)
  have hselP : selectMethod e.platform s.vm cellB.cls r0 = .method mk := by rw [Launch.admits_selectMethod XX.admits, e9]; exact q4
  have hpubM : hasFlag methM.accessFlags Acc.public_ = true := Cond.publicMethod_spec hnamed hmethM (g_tr (A' := args) rfl (hK.ok.1 _ f3) (Cond.publicMethod_setVm hA _))
  have hway : ((cellB.cls :: s.vm.superclasses cellB.cls).any fun k => (declaredIn s.vm r.name r.desc k).any fun (_, z) => z.isPrivate || z.isStatic) = false := by
    rw [hnameR, hdescR, e9]; exact Cond.unhidden_spec hfc (g_tr (A' := args) rfl (hK.ok.1 _ f4) (Cond.unhidden_setVm hA _ _ _))
  obtain ⟨c3, t3, w1, w2, w3⟩ := Cond.castable_spec (g_tr (A' := args) rfl (hK.ok.1 _ f5) (Cond.castable_setVm hA _ _))
  cases hfc.symm.trans w1
  cases hcL.symm.trans w2
  have hln : ∀ sig, parseMethodDescriptor x.desc = some sig → As.length = sig.parameters.length := fun sig h => by have h2 := hd.2.2; rw [h] at h2; exact hn.trans (Option.some.inj h2).symm
  obtain ⟨vm₁, X₁, hstep₁⟩ := XX.invokeinterfaceUp hx (J := J) hown (word_at hK.warm (Or.inl rfl) (hK.flat _ h1)) hface (g_tr rfl (hK.ok.1 _ d1) (Cond.declares_setVm hA _)) (g_tr rfl (hK.ok.1 _ d2) (Cond.publicMethod_setVm hA _)) hxo ⟨hd.1, hd.2.1⟩ (a := b) (cell := cellB) (kcell := kB) hcL (by rw [hT]; exact hcB)
    (fun z h => by rw [h] at hoB; cases hoB) (by rw [e9]; exact hkB) (by rw [e9]; exact w3) hn0 hrm hselP hmethM hway hpubM habM (g := F0 m pc ls (As.reverse ++ .ref b :: rest)) rfl (argsL := As) (rest := rest) (hln _ hsigR) rfl (by rw [hb]; exact hdg)
  obtain ⟨v, ⟨U', l2, c2, s2⟩, X', ⟨g', mk2, t, L, e1, e2, hq, q1, hL, q2, q3⟩, hsteps⟩ := hKb m meth c ⟨T.setVm vm₁, locs, cells, slots⟩ { F0 m pc ls (As.reverse ++ .ref b :: rest) with stack := rest } (.invokeinterface index count) mk (Value.ref b :: As).toArray X₁ rfl (hls.trans hml.symm) (by rw [hb]; exact hdg) (lv_room hcat) (X₁.named hnamed) ⟨hf.1, hf.2, hPc (T.setVm vm₁) hT X₁.warmed⟩
  dsimp only [Pt.U, Pt.locs, Pt.cells, Pt.slots] at X' e1 e2 q1 q2 q3 hsteps
  subst q1; subst q2; subst q3
  exact ⟨v, (T.setVm vm₁).calling g' mk2 (Value.ref b :: As).toArray, t, U', L, hT, X', hL, e1, e2, hq, fun target h => hstep₁ _ fun acts => by rw [doInvoke_state]; exact hsteps.trans h⟩
end GR2
