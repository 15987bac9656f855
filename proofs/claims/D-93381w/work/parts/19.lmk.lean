/-! the sites themselves: what invokedynamic pushes -/
set_option maxRecDepth 100000
section LSI
variable {α : Type}
theorem ls_a {x : Option CpInfo} {f : Nat → Nat → Option α} {r : α} (h : Jvm.Lambda.shapeOf?.match_19 (fun _ => Option α) x f (fun _ => none) = some r) : ∃ b nt, x = some (.invokeDynamic b nt) ∧ f b nt = some r := by
  split at h
  · exact ⟨_, _, rfl, h⟩
  · cases h
theorem ls_b {x : Option CpInfo} {f : Nat → Option α} {r : α} (h : Jvm.Lambda.shapeOf?.match_17 (fun _ => Option α) x f (fun _ => none) = some r) : ∃ y, f y = some r := by
  split at h
  · exact ⟨_, h⟩
  · cases h
theorem ls_c {x : Array Nat} {f : Nat → Nat → Nat → Option α} {r : α} (h : Jvm.Lambda.shapeOf?.match_15 (fun _ => Option α) x f (fun _ => none) = some r) : ∃ u v w, f u v w = some r := by
  obtain ⟨L⟩ := x
  rcases L with _ | ⟨u, _ | ⟨v, _ | ⟨w, _ | ⟨z, L⟩⟩⟩⟩
  · cases h
  · cases h
  · cases h
  · exact ⟨u, v, w, h⟩
  · cases h
theorem ls_d {x : Option CpInfo} {f : Nat → Option α} {r : α} (h : Jvm.Lambda.shapeOf?.match_9 (fun _ => Option α) x f (fun _ => none) = some r) : ∃ y, f y = some r := by
  split at h
  · exact ⟨_, h⟩
  · cases h
theorem ls_e {x : Option CpInfo} {f : Nat → Nat → Option α} {r : α} (h : Jvm.Lambda.shapeOf?.match_12 (fun _ => Option α) x f (fun _ => none) = some r) : ∃ y z, f y z = some r := by
  split at h
  · exact ⟨_, _, h⟩
  · cases h
theorem ls_f {x : Option FieldType} {f : String → Option α} {r : α} (h : Jvm.Lambda.shapeOf?.match_6 (fun _ => Option α) x f (fun _ => none) = some r) : ∃ y, f y = some r := by
  split at h
  · exact ⟨_, h⟩
  · cases h
end LSI
theorem lam_site {cf : ClassFile} {index : Nat} {σ : Jvm.Lambda.Shape} (h : Jvm.Lambda.shapeOf? cf index = some σ) : ∃ b nt name desc site, cf.constantPool[index]? = some (.invokeDynamic b nt) ∧ cf.constantPool.nameAndType? nt = some (name, desc) ∧ parseMethodDescriptor desc = some site ∧ site.parameters = σ.captured := by
  unfold Jvm.Lambda.shapeOf? at h
  obtain ⟨b, nt, hc, h⟩ := ls_a h
  obtain ⟨en, -, h⟩ := Option.bind_eq_some_iff.mp h
  obtain ⟨bm, -, h⟩ := Option.bind_eq_some_iff.mp h
  obtain ⟨r, h⟩ := ls_b h
  obtain ⟨u0, -, h⟩ := Option.bind_eq_some_iff.mp h
  obtain ⟨u, v, w, h⟩ := ls_c h
  obtain ⟨d0, h⟩ := ls_d h
  obtain ⟨kind, r1, h⟩ := ls_e h
  obtain ⟨d2, h⟩ := ls_d h
  obtain ⟨nd, hnd, h⟩ := Option.bind_eq_some_iff.mp h
  obtain ⟨site, hsite, h⟩ := Option.bind_eq_some_iff.mp h
  obtain ⟨ifc, h⟩ := ls_f h
  obtain ⟨im, -, h⟩ := Option.bind_eq_some_iff.mp h
  obtain ⟨t1, -, h⟩ := Option.bind_eq_some_iff.mp h
  obtain ⟨t2, -, h⟩ := Option.bind_eq_some_iff.mp h
  obtain ⟨t3, -, h⟩ := Option.bind_eq_some_iff.mp h
  obtain ⟨t4, -, h⟩ := Option.bind_eq_some_iff.mp h
  obtain ⟨t5, -, h⟩ := Option.bind_eq_some_iff.mp h
  cases h
  exact ⟨b, nt, nd.1, nd.2, site, hc, hnd, hsite, rfl⟩
section LMK
variable {p : Program} {l : Launch} {e : Env} {R : Room} {s : State} {m : MethodId} {args : Array Value} {below : List Frame} {meth : Method} {c : Code} {H : Heap} {locs : List Loc} {cells slots : Nat} {Q : State → Prop} {cc : ByteArray} {pc : Nat} {ls : Array Slot} {rest : List Value}
/-- a site that catches: a fresh object of its class -/
theorem g_lmk {X : gX} {σ : gS} {k nL index : Nat} {vs : List Value} {D : ClassFile} {fw : Method} {ld : Array Field × Array FieldType × Array FieldType} {dat : ByteArray} {mL : Nat} {rt : Option FieldType} (tg : Nat) (hx : p.tables.exec = Jvm.exec) (hb : c.code = cc) (hml : c.maxLocals = nL) (hts : ∀ w ∈ lw_all, w.before args s = true) (hK : gIn X s) (hG : gSat X σ H) (hS : va_S (gA X) s.heap H locs) (hls : ls.size = nL)
    (hk : k < 10) (hnamed : s.methodNamed? (lmX k) = some m) (hpc : pc = lmP k) (hix : index = lmI k) (hfile : (lmS k).file "KeptCurves" = some D) (hsec : (layoutMethods D).bind (·[1]?) = some fw) (hlaid : layoutFields D 0 = some ld) (hcode : (fw.code.map fun c => (c.code.data, c.maxLocals)) = some (dat.data, mL)) (hfl : (fw.accessFlags, fw.sig.returnType) = (0x0001, rt))
    (hcap : (lmS k).captured ≠ []) (hty : ld.2.1.toList = (lmS k).captured) (hlen : vs.length = (lmS k).captured.length) (hnar : (((lmS k).captured.zip vs).map fun (t, v) => narrow t v) = vs) (hfit : ∀ (i : Nat) (t : FieldType) (v : Value), (lmS k).captured[i]? = some t → vs[i]? = some v → fits t v = true)
    (hR : 8 + 3072 ≤ R.locals) (hcells : cells + 1 ≤ R.cells) (hslots : slots + vs.length ≤ R.slots) (hcat : ((vs.reverse ++ rest).map fun v => v.category).sum ≤ 8) (hdg : decode cc pc = .ok (.invokedynamic index, 5))
    (kk : ∀ (q : Nat) (H1 : Heap), σ q = none → gSat X (gup σ q (tg, gL k vs)) H1 → va_S (gA X) s.heap H1 locs → W p l e R s m args below meth c H1 locs (cells + 1) (slots + vs.length) Q (F0 m (pc + 5) ls (.ref q :: rest))) : W p l e R s m args below meth c H locs cells slots Q (F0 m pc ls (vs.reverse ++ rest)) := by
  intro T hT Xs
  obtain ⟨one, hat⟩ := hK.lam hk
  obtain ⟨m0, kc, cf, i0, p0, lk, hm, hkc, hcf, hsh, hin, hfind, hmade, hcan, hor⟩ := State.lambdaAt?_spec hat
  rcases hor with ⟨a0, cell, -, -, hbad, -⟩ | ⟨rfl, -, -⟩
  · exact absurd hbad hcap
  have hA := hK.2.1.alike
  have hm' : s.methodNamed? (lmX k) = some m0 := by
    have q1 := State.methodNamed?_setVm (s := X.2.2.2.2) hA (lmX k)
    rw [hm] at q1
    exact q1
  cases hnamed.symm.trans hm'
  obtain ⟨kc', hkc', he⟩ := hA.2.2 _ _ hkc
  obtain ⟨b, nt, name, desc, site, h1, h2, h3, h4⟩ := lam_site hsh
  obtain ⟨d, dk, hfc, hd, hname, hmade', -⟩ := hK.made hk
  have hO := lam_O hts
  obtain ⟨kK, tk, file, methk, ck, t, tgt, f1, -, -, -, -, -, -, -, -, -, -, -, -, -, -, -, -, hit, hkind⟩ := lam_made hd hname hmade' hO hfile hsec hlaid hcode hfl
  have hsl : ((kK.instanceTypes.toList.zip vs).map fun (t, v) => narrow t v) = vs := by rw [hit, hty]; exact hnar
  have hadm := Xs.admits
  obtain ⟨X', st⟩ := Xs.lambdaMakes hx (g := F0 m pc ls (vs.reverse ++ rest)) rfl (hls.trans hml.symm) (index := index) (by rw [hb]; exact hdg) (vals := vs) (rest := rest) (sig := site) (cf := cf) (k := kc') hkc' (i0 := i0) (p0 := p0) (cK := X.2.2.1 k) (by rw [he]; show (kc.callSites.find? fun y => y.1 == m.idx && y.2.1 == pc) = _; rw [hpc]; exact hfind) (by rw [he]; exact hcf) (by rw [hix]; exact h1) h2 (parseLong_of_parse h3) (by rw [h4]; exact hlen) rfl f1
    (by rw [hadm.platform]; have q9 := lv_room (m := m) (pc := pc) (ls := ls) (rest := vs.reverse ++ rest) hcat; show 2 * (F0 m pc ls (vs.reverse ++ rest)).monitorRoom + ((vs.reverse ++ rest).map fun v => v.category).sum + 3072 ≤ _; omega)
    hcells (by rw [hsl]; exact hslots) (fun i v hv => by
      rw [hsl] at hv
      have hv' : vs[i]? = some v := by simpa using hv
      have hi : i < (lmS k).captured.length := by rw [← hlen]; exact (List.getElem?_eq_some_iff.mp hv').1
      have ht : (lmS k).captured[i]? = some (lmS k).captured[i] := List.getElem?_eq_getElem hi
      have hit2 : kK.instanceTypes[i]? = some (lmS k).captured[i] := by rw [hit, ← Array.getElem?_toList, hty]; exact ht
      simp only [State.fitsSlot, State.slotType?, f1, hkind, Option.bind_eq_bind, Option.bind_some, hit2]
      exact hfit i _ v ht hv')
  rw [hsl] at X' st
  have hB : gB X ≤ H.size := Nat.le_trans hK.2.2.1 hS.1
  have hsz : T.heap.size = H.size := by rw [hT]
  generalize hT1 : T.pushCell { cls := X.2.2.1 k, slots := vs.toArray, vm := .none } = T1 at X' st
  have hnew : T1.heap[H.size]? = some { cls := X.2.2.1 k, slots := vs.toArray, vm := .none } := by rw [← hT1, ← hsz]; exact State.heap_pushCell_size _ _
  have hold : ∀ q : Nat, q < H.size → T1.heap[q]? = H[q]? := fun q hq => by rw [← hT1, State.heap_pushCell_of_lt _ _ (by rw [hsz]; exact hq), hT]
  have hsz1 : H.size ≤ T1.heap.size := Nat.le_of_lt (Array.getElem?_eq_some_iff.mp hnew).1
  obtain ⟨t2, a1, b1⟩ := kk H.size T1.heap hG.fresh (hG.set hB (show gat X H.size (gL k vs) T1.heap from hnew) (fun q _ hq => hold q hq)) ⟨Nat.le_trans hS.1 hsz1, fun q h1 h2 => (hold q (Nat.lt_of_lt_of_le h1 hS.1)).trans (hS.2.1 q h1 h2), hS.2.2⟩ T1 rfl (by simpa using X')
  exact ⟨t2, st t2 (by rw [hsz]; exact a1), b1⟩
end LMK
theorem lam7_cell {X : gX} {s : State} {H : Heap} {locs : List Loc} {a : Nat} (h : lam7 X a) (hK : gIn X s) (hS : va_S (gA X) s.heap H locs) : ∃ cell : Cell, H[a]? = some cell ∧ cell.cls = X.2.2.1 7 ∧ cell.vm = .none := by
  obtain ⟨m0, kc, cf, i0, p0, lk, hm, hkc, hcf, hsh, hin, hfind, hmade, hcan, hor⟩ := State.lambdaAt?_spec h
  rcases hor with ⟨a0, cell, -, h1, -, h2, h3, h4, -⟩ | ⟨-, h1, -⟩
  · cases h1
    have hlt : a < gB X := (Array.getElem?_eq_some_iff.mp h2).1
    refine ⟨cell, ?_, h3, h4⟩
    rw [hS.2.1 a (Nat.lt_of_lt_of_le hlt hK.2.2.1) (fun z => Nat.not_le.mpr hlt z), hK.2.2.2 a hlt]
    exact h2
  · cases h1
section LMC
variable {p : Program} {l : Launch} {e : Env} {R : Room} {s : State} {m : MethodId} {args : Array Value} {below : List Frame} {meth : Method} {c : Code} {H : Heap} {locs : List Loc} {cells slots : Nat} {Q : State → Prop} {cc : ByteArray} {pc : Nat} {ls : Array Slot} {rest : List Value}
theorem g_lmc {X : gX} {nL index : Nat} (hx : p.tables.exec = Jvm.exec) (hb : c.code = cc) (hml : c.maxLocals = nL) (hK : gIn X s) (hls : ls.size = nL) (hnamed : s.methodNamed? (lmX 7) = some m) (hpc : pc = lmP 7) (hix : index = lmI 7)
    (hR : 8 + 3072 ≤ R.locals) (hcat : (rest.map fun v => v.category).sum ≤ 8) (hdg : decode cc pc = .ok (.invokedynamic index, 5))
    (kk : ∀ a : Nat, lam7 X a → W p l e R s m args below meth c H locs cells slots Q (F0 m (pc + 5) ls (.ref a :: rest))) : W p l e R s m args below meth c H locs cells slots Q (F0 m pc ls rest) := by
  intro T hT Xs
  obtain ⟨one, hat⟩ := hK.lam (k := 7) (by decide)
  obtain ⟨m0, kc, cf, i0, p0, lk, hm, hkc, hcf, hsh, hin, hfind, hmade, hcan, hor⟩ := State.lambdaAt?_spec hat
  rcases hor with ⟨a0, cell, rfl, rfl, -, -, -, -, -⟩ | ⟨-, -, hbad⟩
  · have hA := hK.2.1.alike
    have hm' : s.methodNamed? (lmX 7) = some m0 := by
      have q1 := State.methodNamed?_setVm (s := X.2.2.2.2) hA (lmX 7)
      rw [hm] at q1
      exact q1
    cases hnamed.symm.trans hm'
    obtain ⟨kc', hkc', he⟩ := hA.2.2 _ _ hkc
    have hadm := Xs.admits
    obtain ⟨t2, a1, b1⟩ := kk a0 hat T hT Xs
    exact ⟨t2, Xs.lambdaConstant hx (g := F0 m pc ls rest) rfl (hls.trans hml.symm) (index := index) (by rw [hb]; exact hdg) hkc' (i0 := i0) (p0 := p0) (a := a0) (by rw [he]; show (kc.callSites.find? fun y => y.1 == m.idx && y.2.1 == pc) = _; rw [hpc]; exact hfind)
      (by rw [hadm.platform]; have q9 := lv_room (m := m) (pc := pc) (ls := ls) (rest := rest) hcat; show 2 * (F0 m pc ls rest).monitorRoom + (rest.map fun v => v.category).sum + 3072 ≤ _; omega) a1, b1⟩
  · exact absurd rfl hbad
end LMC
/-- a contract whose method's own number is asked for -/
theorem gMet.ofN {l : Launch} {X : gX} {y : MethodName} {cc : ByteArray} {L : Nat} {ret : Option FieldType} {fr mc ms lo : Nat} {σ : gS} {av : List Value} {post : Option Value → gS → Prop} (hy : plainName y.cls = true) (hL : (lg_sl av).length ≤ L)
    (body : ∀ (p : Program) (e : Env) (s : State) (m : MethodId) (args : Array Value) (below : List Frame) (meth : Method) (c : Code) (Q : State → Prop) (H : Heap) (locs : List Loc) (ls : Array Slot), args = av.toArray → p.tables.exec = Jvm.exec → c.code = cc → meth.sig.returnType = ret → meth.locks = false → c.maxLocals = L → s.vm.findClass y.cls = some m.cls → meth.name = y.name →
      (∀ w ∈ lw_all, w.before args s = true) → gIn X s → gSat X σ H → va_S (gA X) s.heap H locs → gEnd X post below args s mc ms Q → lv_has ls L (lv_args 0 av) → s.methodNamed? y = some m → W p l e (gR fr mc ms lo) s m args below meth c H locs 0 0 Q (F0 m 0 ls [])) :
    gMet l X y cc L ret fr mc ms lo σ av post := by
  refine Met.ofW (cc := cc) (maxL := L) (ret := ret) hy rfl ?_
  intro p e s m args below meth c s₁ B hml hv
  obtain ⟨rfl, hG, hK⟩ := hv
  have hts := atoms_spec (ws := ws_ y cc L ret) B.pre
  have hts : ∀ w ∈ lw_all, w.before _ s = true := fun w h => hts w (List.mem_cons_of_mem _ h)
  have hl := lv_entry av (n := L) hL
  rw [lg_entry_eq]
  exact body p e s m _ below meth c _ s.heap [] _ rfl B.exec B.bytes B.returns B.notSynchronized hml (findClass_of_methodNamed B.named) (name_of_methodNamed B.named B.method).1 hts hK hG va_S.rf (fun t h => h) hl B.named
