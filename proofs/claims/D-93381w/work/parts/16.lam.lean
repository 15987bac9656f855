/-! lambdas: the hidden classes that the sites made, and the calls through them -/
set_option maxRecDepth 100000
theorem lm_words : ∀ k : Fin 10, Cond.lambdaSite (lmX k.val) (lmP k.val) (lmI k.val) (lmS k.val) ∈ flatC (Jvm.Cond.and given_1 narrow_1) := by decide +kernel
theorem gIn.lam {X : gX} {U : State} (h : gIn X U) {k : Nat} (hk : k < 10) : ∃ one, X.2.2.2.2.lambdaAt? (lmX k) (lmP k) (lmI k) (lmS k) = some (X.2.2.1 k, one) := by
  obtain ⟨c, one, e⟩ := Cond.lambdaSite_spec (h.flat _ (lm_words ⟨k, hk⟩))
  refine ⟨one, ?_⟩
  have e1 : X.2.2.1 k = c := by
    rw [h.1.2.1.2 k, lamC]
    simp only [] at e
    rw [e]
  rw [e1]
  exact e
theorem lm_cls : ∀ k : Nat, (lmX k).cls = "KeptCurves" := by
  intro k
  unfold lmX
  split
  · rfl
  · split <;> rfl
theorem gIn.made {X : gX} {U : State} (h : gIn X U) {k : Nat} (hk : k < 10) : ∃ d dk, U.vm.findClass "KeptCurves" = some d ∧ U.vm.classes[d]? = some dk ∧ dk.name = "KeptCurves" ∧ Jvm.Lambda.isMade { classPath := fun _ => none } U.vm d (lmS k) (X.2.2.1 k) = true ∧ U.lambdaCallable (lmS k) (X.2.2.1 k) = true := by
  obtain ⟨one, e⟩ := h.lam hk
  obtain ⟨m, kc, cf, i0, p0, l, hm, hkc, -, -, -, -, hmade, hcall, -⟩ := State.lambdaAt?_spec e
  have hfc := findClass_of_methodNamed hm
  rw [lm_cls] at hfc
  have hA := h.2.1.alike
  have hfc' : U.vm.findClass "KeptCurves" = some m.cls := by rw [hA.findClass]; exact hfc
  obtain ⟨kd, hkd, hnm⟩ := Vm.findClass_spec hfc'
  refine ⟨m.cls, kd, hfc', hkd, hnm, Jvm.Lambda.isMade_warmer h.2.1 hmade, ?_⟩
  simp only [State.lambdaCallable, hA.findClass, hA.assignable, hA.superclasses, hA.declaredIn] at hcall ⊢
  exact hcall
theorem gIn.iM {X : gX} {U : State} {x : MethodName} (h : gIn X U) (hx : x.cls ≠ "java/lang/invoke/MethodHandle" ∧ x.cls ≠ "java/lang/invoke/VarHandle") (h1 : Cond.declares x ∈ lw_tbl) (h2 : Cond.interfaceMethod x.cls x.cls x.name x.desc ∈ lw_tbl) (A : Array Value) : (Cond.declares x).before A U = true ∧ (Cond.interfaceMethod x.cls x.cls x.name x.desc).before A U = true := by
  have w1 := va_any (A' := #[]) rfl (h.1.1 _ h1)
  have w2 := va_any (A' := #[]) rfl (h.1.1 _ h2)
  obtain ⟨r, meth, hn, -⟩ := Cond.declares_spec w1
  have tr : ∀ {c : Cond}, c.onTables = true → c.before #[] (X.2.2.2.2.setVm U.vm) = true → c.before A U = true := by
    intro c hc h
    have e := Cond.onTables_vm (A := #[]) (A' := A) (U := X.2.2.2.2) (U' := U) U.vm c hc
    have hU : U.setVm U.vm = U := rfl
    rw [hU] at e
    rw [← e]
    exact h
  have hvm := h.2.1.alike
  exact ⟨tr rfl (by rw [Cond.declares_setVm hvm]; exact w1), tr rfl (by rw [Cond.interfaceMethod_setVm hvm (r := r) hn hx]; exact w2)⟩
/-- what is known of a made class -/
theorem lam_made {e : Setting} {vm : Vm} {d c : ClassId} {dk : Class} {σ : Jvm.Lambda.Shape} {D : ClassFile} {fw : Method} {ld : Array Field × Array FieldType × Array FieldType} {dat : ByteArray} {mL : Nat} {rt : Option FieldType} (hd : vm.classes[d]? = some dk) (hname : dk.name = "KeptCurves") (h : Jvm.Lambda.isMade e vm d σ c = true)
    (hO : ∀ o ok, vm.findClass "java/lang/Object" = some o → vm.classes[o]? = some ok → ok.instanceTypes.size = 0) (hfile : σ.file "KeptCurves" = some D) (hsec : (layoutMethods D).bind (·[1]?) = some fw) (hlaid : layoutFields D 0 = some ld)
    (hcode : (fw.code.map fun c => (c.code.data, c.maxLocals)) = some (dat.data, mL)) (hfl : (fw.accessFlags, fw.sig.returnType) = (0x0001, rt)) :
    ∃ (k tk : Class) (file : ClassFile) (methk : Method) (ck : Code) (t : ClassId) (tg : MethodId), vm.classes[c]? = some k ∧ k.name = "KeptCurves$$Lambda" ∧ k.cf = some file ∧ file.constantPool = D.constantPool ∧
      vm.method? ⟨c, 1⟩ = some methk ∧ methk.code = some ck ∧ ck.code = dat ∧ ck.maxLocals = mL ∧ methk.locks = false ∧ methk.accessFlags = 0x0001 ∧ methk.sig.returnType = rt ∧
      vm.findClass σ.implClass = some t ∧ vm.classes[t]? = some tk ∧ tk.isInterface = σ.implItf ∧ ((methodIn t σ.implName σ.implDesc.toString tk.isInterface none).ask e vm).1 = .ok tg ∧
      (∀ (i : Nat) x, (Jvm.Lambda.resolvedOf e vm D ld.1 c)[i]? = some (some x) → k.resolved[i]? = some (some x)) ∧ (∀ (i : Nat) a, ld.1[i]? = some a → k.fields[i]? = some a) ∧ k.instanceTypes = ld.2.1 ∧ k.kind = .ordinary := by
  obtain ⟨dk', k, ok, tk, file, cf, object, iface, toy, lay, methods, target, found, hd', hk, hfile2, hcf, hobj, -, hok, hlay, hms, ht, htk, hg, -, hrec, -, -, -, hitf, hpool, hmeth, hfields, hty, hres, -⟩ := Jvm.Lambda.isMade_spec h
  cases hd.symm.trans hd'
  rw [hname, hfile] at hcf
  cases hcf
  have hok0 : ok.instanceTypes = #[] := Array.eq_empty_of_size_eq_zero (hO object ok hobj hok)
  rw [hO object ok hobj hok, hlaid] at hlay
  cases hlay
  rw [hms] at hsec
  obtain ⟨b, hb, hsame⟩ := hmeth 1 fw hsec
  obtain ⟨-, -, hsig, hfl2, x, y, hx, hy, -, hy2, hy3, -⟩ := Jvm.Lambda.sameMethod_spec hsame
  simp only [Prod.mk.injEq] at hfl
  rw [hx] at hcode
  simp only [Option.map_some, Option.some.injEq, Prod.mk.injEq] at hcode
  refine ⟨k, tk, file, b, y, toy, target, hk, by rw [hrec.1, hname]; rfl, hfile2, hpool.2.1, by simp [Vm.method?, hk, hb], hy, ?_, by rw [hy2]; exact hcode.2, ?_, by rw [hfl2]; exact hfl.1, by rw [hsig]; exact hfl.2, ht, htk, hitf, hg, hres, hfields, by rw [hty.1, hok0]; simp, hrec.2.1⟩
  · rw [hy3]; exact ByteArray.ext hcode.1
  · simp [Method.locks, Method.isSynchronized, hfl2, hfl.1, hasFlag, Acc.synchronized]
theorem lam_O {s : State} {A : Array Value} (hts : ∀ w ∈ lw_all, w.before A s = true) : ∀ o ok, s.vm.findClass "java/lang/Object" = some o → s.vm.classes[o]? = some ok → ok.instanceTypes.size = 0 := by
  intro o ok h1 h2
  obtain ⟨c, k, hc, hk, -, -, -, hn⟩ := Cond.instantiable_spec (hts _ q2402)
  cases hc.symm.trans h1
  cases hk.symm.trans h2
  exact hn
/-- a made method's inner run: from its entry to its end, by its callee's Back -/
def lamRun (l : Launch) (p : Program) (e : Env) (s : State) (H : Heap) (cK : ClassId) (a : Array Value) (methk : Method) (ck : Code) (y : MethodName) (Bs : List Value) (okv : Option Value → Prop) : Prop :=
  ∀ (R' : Room) (below' : List Frame) (s' U₀ : State), s.WarmedH U₀.vm → U₀.heap = H → Stand p l e R' s' ⟨cK, 1⟩ a below' methk ck U₀ [] 0 0 →
   ∀ (Pre : Pt → Array Value → Prop) (Post : Pt → Array Value → Option Value → Pt → Prop), Back l R' p e below' s' a y 3 8 Pre Post → Pre (U₀, [], 0, 0) Bs.toArray → (∀ v B, Post (U₀, [], 0, 0) Bs.toArray v B → okv v) →
   ∃ v U₁ L₁ c₁ n₁, Stand p l e R' s' ⟨cK, 1⟩ a below' methk ck U₁ L₁ c₁ n₁ ∧ (methk.sig.returnType = none → v = none) ∧ Post (U₀, [], 0, 0) Bs.toArray v (U₁, L₁, c₁, n₁) ∧
     ∀ fs, (∀ (f : JFrame) (acts : List Action), f.method = ⟨cK, 1⟩ → f.locked = none → f.entered = [] → (doReturn e (U₁.setTop f) acts v).1 = U₁.setFrames fs) → Steps p.tables e below' (U₀.setTop (entryFrame ⟨cK, 1⟩ a ck.maxLocals)) (U₁.setFrames fs)
theorem lam_weak {tb : Tables} {e : Env} {mid below : List Frame} {a b : State} (h : Steps tb e (mid ++ below) a b) : Steps tb e below a b := by
  obtain ⟨n, hn, w⟩ := h
  exact ⟨n, hn, fun k hk => (w k hk).weaken⟩
/-- what the walk asks of the made method -/
def lamB (U : State) (cK : ClassId) (methk : Method) (ck : Code) (mL : Nat) : Prop := U.vm.method? ⟨cK, 1⟩ = some methk ∧ methk.code = some ck ∧ methk.locks = false ∧ U.plainMethod ⟨cK, 1⟩ ∧ ck.maxLocals = mL
section LAM
variable {p : Program} {l : Launch} {e : Env} {R : Room} {s : State} {m : MethodId} {args : Array Value} {below : List Frame} {meth : Method} {c : Code} {H : Heap} {locs : List Loc} {cells slots : Nat} {Q : State → Prop} {cc : ByteArray} {pc : Nat} {ls : Array Slot} {rest : List Value}
theorem g_lam {X : gX} {σ : gS} {post : Option Value → gS → Prop} {own : String} {index count nL fr mc ms lo L b mL : Nat} {As Bs : List Value} {xi y : MethodName} {bytes : ByteArray} {ret : Option FieldType} {d cK : ClassId} {lmk : Jvm.Lambda.Shape} {methk : Method} {ck : Code} {okv : Option Value → Prop} (n : Nat)
    (hx : p.tables.exec = Jvm.exec) (hb : c.code = cc) (hml : c.maxLocals = nL) (hown : s.vm.findClass own = some m.cls) (hts : ∀ w ∈ lw_all, w.before args s = true) (hK : gIn X s) (hG : gSat X σ H) (hS : va_S (gA X) s.heap H locs) (hls : ls.size = nL)
    (hM : gMet l X y bytes L ret fr mc ms lo σ Bs post) (hcell : ∃ cell : Cell, H[b]? = some cell ∧ cell.cls = cK ∧ cell.vm = .none)
    (h1 : Cond.methodLink own index xi ∈ lw_all) (h2 : (Cond.declares xi).before args s = true ∧ (Cond.interfaceMethod xi.cls xi.cls xi.name xi.desc).before args s = true)
    (hmade : Jvm.Lambda.isMade { classPath := fun _ => none } s.vm d lmk cK = true ∧ s.lambdaCallable lmk cK = true) (hface : lmk.iface = xi.cls ∧ lmk.name = xi.name ∧ lmk.sam.toString = xi.desc) (hfl : methk.accessFlags = 0x0001)
    (hB : ∀ U : State, s.WarmedH U.vm → lamB U cK methk ck mL)
    (hrun : l.admits e → lamRun l p e s H cK (Value.ref b :: As).toArray methk ck y Bs okv) (hok : ∀ v σ', post v σ' → okv v)
    (h4 : Cond.initialized y.cls ∈ lw_all) (h5 : Cond.code y bytes L ret ∈ lw_all)
    (hd : xi.cls ≠ "java/lang/invoke/MethodHandle" ∧ xi.cls ≠ "java/lang/invoke/VarHandle" ∧ (parseMethodDescriptor xi.desc).map (fun d => d.parameters.length) = some n) (hn : As.length = n)
    (hR : fr + 2 ≤ R.frames ∧ 8 + (mL + 11) + (8 + (L + 11) + lo) ≤ R.locals) (hf : cells + mc ≤ R.cells ∧ slots + ms ≤ R.slots) (hcat : (rest.map fun v => v.category).sum ≤ 8) (hdg : decode cc pc = .ok (.invokeinterface index count, 5))
    (kk : ∀ (v : Option Value) (σ' : gS) (H1 : Heap) (locs1 : List Loc), post v σ' → gSat X σ' H1 → va_S (gA X) s.heap H1 locs1 → W p l e R s m args below meth c H1 locs1 (cells + mc) (slots + ms) Q ((fun st => F0 m (pc + 5) ls st) (v.toList ++ rest))) : W p l e R s m args below meth c H locs cells slots Q (F0 m pc ls (As.reverse ++ .ref b :: rest)) := by
  refine g_back5 (rest := rest) (a := Bs.toArray) (mc := mc) (ms := ms) (post := post) ?_ hS kk
  intro T hT Xs
  obtain ⟨cell, c1, c2, c3⟩ := hcell
  have hadm := Xs.admits
  -- the interface's method, and what it selects
  obtain ⟨r0, r, hn0, hrm, hstR, hsigR⟩ := Cond.declares_spec h2.1
  obtain ⟨cL, kL, r1, hcL, hkL, hiL, hfoundL, hn1⟩ := Cond.interfaceMethod_spec h2.2
  cases hn0.symm.trans hn1
  have hr0 : r0.cls = cL := Option.some.inj ((findClass_of_methodNamed hn0).symm.trans hcL)
  obtain ⟨hnameR, hdescR⟩ := name_of_methodNamed hn0 hrm
  obtain ⟨-, kK, -, -, -, -, -, iface', -, -, -, -, found, -, hkK, -, -, -, hi', -, -, -, -, -, -, hfound', -, -, -, -, -, -, -, -, -, -, hsel⟩ := Jvm.Lambda.isMade_spec hmade.1
  rw [hface.1] at hi'
  cases hcL.symm.trans hi'
  have hfr : found = r0 := by
    have q1 : s.methodFound? xi.cls xi.name xi.desc = some r0 := hfoundL
    simp only [State.methodFound?, hcL, hkL, hiL, Option.bind_eq_bind, Option.bind_some] at q1
    rw [hface.2.1, hface.2.2] at hfound'
    rw [hfound'] at q1
    exact Option.some.inj q1
  subst hfr
  obtain ⟨i2, hi2, hasg, hway⟩ := State.lambdaCallable_spec hmade.2
  rw [hface.1] at hi2
  cases hcL.symm.trans hi2
  rw [hface.2.1, hface.2.2] at hway
  have hlen : ∀ sig, parseMethodDescriptor xi.desc = some sig → As.length = sig.parameters.length := fun sig h => by
    have q1 := hd.2.2
    rw [h] at q1
    exact hn.trans (Option.some.inj q1).symm
  obtain ⟨vm₁, X₁, hstep₁⟩ := Xs.invokeinterface hx hown (hts _ h1) hn0 hrm hstR (by rw [hr0]; exact hkL) hiL ⟨hd.1, hd.2.1⟩ (a := b) (cell := cell) (kcell := kK) (by rw [hT]; exact c1) (fun z h => by rw [c3] at h; cases h) (by rw [c2]; exact hkK) (by rw [c2, hr0]; exact hasg)
    (m' := ⟨cK, 1⟩) (meth' := methk) (by rw [Launch.admits_selectMethod hadm, c2]; exact hsel) (hB s (State.WarmedH.refl s)).1 (by rw [c2, hnameR, hdescR]; exact hway) (by rw [hfl]; decide) (by simp [Method.isAbstract, hfl, hasFlag, Acc.abstract])
    (g := F0 m pc ls (As.reverse ++ .ref b :: rest)) rfl (argsL := As) (rest := rest) (hlen _ hsigR) rfl (by rw [hb]; exact hdg)
  have hW₁ : s.WarmedH vm₁ := X₁.warmed
  obtain ⟨b1, b2, b3, b4, b5⟩ := hB (T.setVm vm₁) hW₁
  have hsz : (F0 m pc ls rest).locals.size = c.maxLocals := hls.trans hml.symm
  have hdg' : decode c.code (F0 m pc ls rest).pc = .ok (.invokeinterface index count, 5) := by rw [hb]; exact hdg
  -- into the made method
  obtain ⟨Y₀, hin⟩ := X₁.into (g := F0 m pc ls rest) rfl hsz hdg' (Value.ref b :: As).toArray (R' := gR (fr + 1) mc ms (8 + (L + 11) + lo)) b1 b2 b3 b4 hR.1 (by rw [b5]; have q9 := lv_room (m := m) (pc := pc) (ls := ls) (rest := rest) hcat; show 2 * (F0 m pc ls rest).monitorRoom + (List.map (fun v => v.category) rest).sum + (mL + 11) + (8 + (L + 11) + lo) ≤ R.locals; omega) hf.1 hf.2
  generalize hU : ((T.setVm vm₁).setTop (F0 m pc ls rest)).pushFrame (.java (entryFrame ⟨cK, 1⟩ (Value.ref b :: As).toArray ck.maxLocals)) = U₀ at Y₀ hin
  have hvm : U₀.vm = vm₁ := by rw [← hU]; rfl
  have hheap : U₀.heap = H := by rw [← hU]; exact hT
  have hW0 : s.WarmedH U₀.vm := by rw [hvm]; exact hW₁
  have hK2 : Back l (gR (fr + 1) mc ms (8 + (L + 11) + lo)) p e (.java (F0 m pc ls rest) :: below) ((T.setVm vm₁).calling (F0 m pc ls rest) ⟨cK, 1⟩ (Value.ref b :: As).toArray) (Value.ref b :: As).toArray y 3 8 (PreOf (gR (fr + 1) mc ms (8 + (L + 11) + lo)) mc ms (gPc X σ Bs)) (PostOf (gT X post) mc ms (gA X)) :=
    back_of (bytes := bytes) (maxL := L) (ret := ret) hM gPc_blind rfl rfl (Nat.le_refl _) (Nat.le_refl _) (fun w hw a' V hV => pay_in hts (lw_meth h5) w hw a' V (State.WarmedH.trans hW₁ hV)) List.mem_cons_self (fun a' V hV => word_at (State.WarmedH.trans hW₁ hV) (Or.inl rfl) (hts _ h4))
  obtain ⟨v, U₁, L₁, k₁, n₁, Y₁, hv0, hp, hst⟩ := hrun hadm _ _ _ U₀ hW0 hheap Y₀ _ _ hK2 ⟨by show 0 + mc ≤ mc; omega, by show 0 + ms ≤ ms; omega, rfl, (by show gSat X σ U₀.heap; rw [hheap]; exact hG), hK.next hS hheap hW0⟩ (fun v B hq => by
    obtain ⟨g', mk', t, L', q1, q2, ⟨⟨v2, σ', e1, e2, -⟩, -⟩, -⟩ := hq
    cases e1
    exact hok _ _ e2)
  obtain ⟨g', mk', t, L', q1, q2, q3, q4, q5, q6, q7⟩ := hp
  dsimp only [Pt.U, Pt.locs, Pt.cells, Pt.slots] at q1 q2 q3 q4 q6 q7
  -- and out of it
  obtain ⟨fs, hleave, -, hended, hWe, hsame⟩ := Y₁.leave (v := v) hv0 b3
  obtain ⟨T', X', -, -, ht⟩ := X₁.outOf rfl hdg' hended hWe hsame
  have e1 : L₁ = L' := by rw [q4]; rfl
  have e2 : k₁ = mc := by omega
  have e3 : n₁ = ms := by omega
  subst e1; subst e2; subst e3
  refine ⟨v, U₀.calling g' mk' Bs.toArray, t, T', L₁, hheap, X', q5, (congrArg State.heap ht).symm.trans q1, (congrArg State.vm ht).symm.trans q2, q3, fun target h => hstep₁ _ fun acts => ?_⟩
  rw [hin acts]
  refine (lam_weak (mid := [.java (F0 m pc ls rest)]) (hst fs hleave)).trans ?_
  rw [ht]
  exact h

def lamF (U : State) (cK : ClassId) (i sl : Nat) : Prop := ∃ fld : Field, U.vm.fieldReady cK i cK fld ∧ fld.isStatic = false ∧ fld.slot = sl
def lamV (e : Env) (U : State) (cK mi : Nat) (y : MethodName) (cB : ClassId) (n : Nat) : Prop :=
  ∃ (t : MethodId) (kt : Class) (metht : Method), namesAClass U cK mi ∧ U.vm.methodReady cK mi t ∧ U.vm.classes[t.cls]? = some kt ∧ U.vm.method? t = some metht ∧ signaturePolymorphic kt metht = false ∧ metht.isStatic = false ∧ metht.sig.parameters.length = n ∧
    selectMethod e.platform U.vm cB t = .method t ∧ metht.isAbstract = false ∧ kt.isInterface = false ∧ U.methodNamed? y = some t
def lamT (e : Env) (U : State) (cK mi : Nat) (y : MethodName) (n : Nat) : Prop :=
  ∃ (t : MethodId) (kt : Class) (metht : Method), plainRef U e cK mi ∧ U.vm.methodReady cK mi t ∧ U.vm.classes[t.cls]? = some kt ∧ U.vm.method? t = some metht ∧ signaturePolymorphic kt metht = false ∧ metht.isStatic = true ∧ metht.sig.parameters.length = n ∧
    kt.init = .initialized ∧ U.methodNamed? y = some t
/-- how it ends: an int, or nothing -/
def lamE (methk : Method) (ck : Code) (q : Nat) (okv : Option Value → Prop) : Prop :=
  (methk.sig.returnType = some .int ∧ decode ck.code q = .ok (.ireturn, 1) ∧ ∀ v, okv v → ∃ w : Int32, v = some (.int w)) ∨ (methk.sig.returnType = none ∧ decode ck.code q = .ok (.return_, 1) ∧ ∀ v, okv v → v = none)
theorem lam_out {R' : Room} {s' : State} {cK : ClassId} {a : Array Value} {below' : List Frame} {methk : Method} {ck : Code} {U₁ : State} {L₁ : List Loc} {c₁ n₁ q : Nat} {okv : Option Value → Prop} {v : Option Value} {Ls : Array Slot} (hx : p.tables.exec = Jvm.exec) (Y : Stand p l e R' s' ⟨cK, 1⟩ a below' methk ck U₁ L₁ c₁ n₁) (hE : lamE methk ck q okv) (hv : okv v) {s₀ : State}
    (come : Steps p.tables e below' s₀ (U₁.setTop { method := ⟨cK, 1⟩, pc := q, locals := Ls, stack := v.toList, locked := none })) :
    (methk.sig.returnType = none → v = none) ∧ ∀ fs, (∀ (f : JFrame) (acts : List Action), f.method = ⟨cK, 1⟩ → f.locked = none → f.entered = [] → (doReturn e (U₁.setTop f) acts v).1 = U₁.setFrames fs) → Steps p.tables e below' s₀ (U₁.setFrames fs) := by
  rcases hE with ⟨e1, e2, e3⟩ | ⟨e1, e2, e3⟩
  · obtain ⟨w, rfl⟩ := e3 v hv
    refine ⟨(fun h => by rw [e1] at h; cases h), fun fs hl => come.trans ?_⟩
    have hm' := Y.method'
    show Steps p.tables e below' (U₁.setTop { method := ⟨cK, 1⟩, pc := q, locals := Ls, stack := [.int w], locked := none }) _
    jvm_step Y.here [Y.here.top, hx, e2, hm', e1, narrow]
    intro acts
    rw [hl { method := ⟨cK, 1⟩, pc := q, locals := Ls, stack := [], locked := none } acts rfl rfl rfl]
    exact Steps.refl _
  · obtain rfl := e3 v hv
    refine ⟨fun _ => rfl, fun fs hl => come.trans ?_⟩
    have hm' := Y.method'
    show Steps p.tables e below' (U₁.setTop { method := ⟨cK, 1⟩, pc := q, locals := Ls, stack := [], locked := none }) _
    jvm_step Y.here [Y.here.top, hx, e2, hm', e1]
    first | (intro acts; rw [hl _ acts rfl rfl rfl]) | rw [hl _ _ rfl rfl rfl]
    exact Steps.refl _
theorem runV {cK : ClassId} {a : Array Value} {methk : Method} {ck : Code} {y : MethodName} {okv : Option Value → Prop} {ra pk mi n cB : Nat} {As2 : List Value} {Ls : Array Slot} (hx : p.tables.exec = Jvm.exec)
    (hV : ∀ U : State, s.WarmedH U.vm → lamV e U cK mi y cB n) (hn : As2.length = n) (hrec : ∃ cr : Cell, H[ra]? = some cr ∧ cr.vm.isStatics = false ∧ cr.cls = cB)
    (hdk : decode ck.code pk = .ok (.invokevirtual mi, 3)) (hLs : Ls.size = ck.maxLocals) (hE : lamE methk ck (pk + 3) okv)
    (pre : ∀ (R' : Room) (below' : List Frame) (s' U₀ : State), s.WarmedH U₀.vm → U₀.heap = H → Stand p l e R' s' ⟨cK, 1⟩ a below' methk ck U₀ [] 0 0 → Steps p.tables e below' (U₀.setTop (entryFrame ⟨cK, 1⟩ a ck.maxLocals)) (U₀.setTop { method := ⟨cK, 1⟩, pc := pk, locals := Ls, stack := As2.reverse ++ [.ref ra], locked := none })) :
    lamRun l p e s H cK a methk ck y (.ref ra :: As2) okv := by
  intro R' below' s' U₀ hW hH Y Pre Post hK hP hok
  have come := pre R' below' s' U₀ hW hH Y
  obtain ⟨t, kt, metht, q1, q2, q3, q4, q5, q6, q7, q8, q9, q10, q11⟩ := hV U₀ hW
  obtain ⟨cr, c1, c2, c3⟩ := hrec
  obtain ⟨v, B, Y', hpost, hsteps⟩ := hK ⟨cK, 1⟩ methk ck (U₀, [], 0, 0) { method := ⟨cK, 1⟩, pc := pk, locals := Ls, stack := [], locked := none } (.invokevirtual mi) t (Value.ref ra :: As2).toArray Y rfl hLs hdk (by show 2 * 0 + 0 ≤ 8; decide) q11 hP
  obtain ⟨U₁, L₁, c₁, n₁⟩ := B
  dsimp only [Pt.U, Pt.locs, Pt.cells, Pt.slots] at Y' hpost hsteps
  have come2 : Steps p.tables e below' (U₀.setTop (entryFrame ⟨cK, 1⟩ a ck.maxLocals)) (U₁.setTop { method := ⟨cK, 1⟩, pc := pk + 3, locals := Ls, stack := v.toList, locked := none }) := by
    refine come.trans ?_
    have h2 : Steps p.tables e below' (U₀.setTop { method := ⟨cK, 1⟩, pc := pk, locals := Ls, stack := As2.reverse ++ [.ref ra], locked := none }) (doInvoke e (U₀.setTop { method := ⟨cK, 1⟩, pc := pk, locals := Ls, stack := [], locked := none }) [] t (Value.ref ra :: As2).toArray).1 := by
      jvm_step Y.here [hx, hdk, invokevirtual.wp_ready (e := e) (s := U₀) (r := t) (m := t) (k := kt) (mk := kt) (rmeth := metht) (meth := metht) (a := ra) (args := As2) (rest := []) (cell := cr)
        (f := { method := ⟨cK, 1⟩, pc := pk, locals := Ls, stack := As2.reverse ++ [.ref ra], locked := none }) Y.here.top q1 q2 q3 q4 q5 q6 (hn.trans q7.symm) rfl (by rw [hH]; exact c1) (fun k hk => by rw [hk] at c2; cases c2) (by rw [c3]; exact q8) q4 q9 q3 q10]
      intro acts
      rw [doInvoke_state]
      exact Steps.refl _
    refine h2.trans (hsteps.trans ?_)
    simp only [List.append_nil]
    exact Steps.refl _
  obtain ⟨o1, o2⟩ := lam_out hx Y' hE (hok _ _ hpost) come2
  exact ⟨v, U₁, L₁, c₁, n₁, Y', o1, hpost, o2⟩
theorem runS {cK : ClassId} {a : Array Value} {methk : Method} {ck : Code} {y : MethodName} {okv : Option Value → Prop} {pk mi n : Nat} {As2 : List Value} {Ls : Array Slot} (hx : p.tables.exec = Jvm.exec)
    (hV : ∀ U : State, s.WarmedH U.vm → lamT e U cK mi y n) (hn : As2.length = n)
    (hdk : decode ck.code pk = .ok (.invokestatic mi, 3)) (hLs : Ls.size = ck.maxLocals) (hE : lamE methk ck (pk + 3) okv)
    (pre : ∀ (R' : Room) (below' : List Frame) (s' U₀ : State), s.WarmedH U₀.vm → U₀.heap = H → Stand p l e R' s' ⟨cK, 1⟩ a below' methk ck U₀ [] 0 0 → Steps p.tables e below' (U₀.setTop (entryFrame ⟨cK, 1⟩ a ck.maxLocals)) (U₀.setTop { method := ⟨cK, 1⟩, pc := pk, locals := Ls, stack := As2.reverse, locked := none })) :
    lamRun l p e s H cK a methk ck y As2 okv := by
  intro R' below' s' U₀ hW hH Y Pre Post hK hP hok
  have come := pre R' below' s' U₀ hW hH Y
  obtain ⟨t, kt, metht, q1, q2, q3, q4, q5, q6, q7, q8, q11⟩ := hV U₀ hW
  obtain ⟨v, B, Y', hpost, hsteps⟩ := hK ⟨cK, 1⟩ methk ck (U₀, [], 0, 0) { method := ⟨cK, 1⟩, pc := pk, locals := Ls, stack := [], locked := none } (.invokestatic mi) t As2.toArray Y rfl hLs hdk (by show 2 * 0 + 0 ≤ 8; decide) q11 hP
  obtain ⟨U₁, L₁, c₁, n₁⟩ := B
  dsimp only [Pt.U, Pt.locs, Pt.cells, Pt.slots] at Y' hpost hsteps
  have come2 : Steps p.tables e below' (U₀.setTop (entryFrame ⟨cK, 1⟩ a ck.maxLocals)) (U₁.setTop { method := ⟨cK, 1⟩, pc := pk + 3, locals := Ls, stack := v.toList, locked := none }) := by
    refine come.trans ?_
    have h2 : Steps p.tables e below' (U₀.setTop { method := ⟨cK, 1⟩, pc := pk, locals := Ls, stack := As2.reverse, locked := none }) (doInvoke e (U₀.setTop { method := ⟨cK, 1⟩, pc := pk, locals := Ls, stack := [], locked := none }) [] t As2.toArray).1 := by
      jvm_step Y.here [hx, hdk, invokestatic.wp_ready (e := e) (s := U₀) (m := t) (k := kt) (meth := metht) (args := As2) (rest := [])
        (f := { method := ⟨cK, 1⟩, pc := pk, locals := Ls, stack := As2.reverse, locked := none }) Y.here.top q1 q2 q3 q4 q5 q6 q8 (hn.trans q7.symm) (by simp)]
      intro acts
      rw [doInvoke_state]
      exact Steps.refl _
    refine h2.trans (hsteps.trans ?_)
    simp only [List.append_nil]
    exact Steps.refl _
  obtain ⟨o1, o2⟩ := lam_out hx Y' hE (hok _ _ hpost) come2
  exact ⟨v, U₁, L₁, c₁, n₁, Y', o1, hpost, o2⟩
end LAM
