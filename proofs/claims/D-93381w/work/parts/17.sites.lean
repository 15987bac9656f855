/-! the ten lambdas: hidden classes and calls -/
set_option maxRecDepth 100000
def hbA : ByteArray := ⟨#[0x2a, 0xb4, 0x00, 0x0f, 0x1b, 0xb6, 0x00, 0x16, 0xac]⟩
def hbB : ByteArray := ⟨#[0x2a, 0xb4, 0x00, 0x0f, 0x1b, 0x1c, 0xb6, 0x00, 0x16, 0xac]⟩
def hbC : ByteArray := ⟨#[0x1b, 0x1c, 0xb8, 0x00, 0x11, 0xac]⟩
def hbD : ByteArray := ⟨#[0x2a, 0xb4, 0x00, 0x11, 0x2a, 0xb4, 0x00, 0x13, 0x1b, 0x1c, 0xb6, 0x00, 0x1b, 0xb1]⟩
def hbE : ByteArray := ⟨#[0x2a, 0xb4, 0x00, 0x0f, 0x1b, 0x1c, 0xb8, 0x00, 0x17, 0xb1]⟩
theorem dhA_0 : decode hbA 0 = .ok (.aload_n 0, 1) := by decide +kernel
theorem dhA_1 : decode hbA 1 = .ok (.getfield 15, 3) := by decide +kernel
theorem dhA_4 : decode hbA 4 = .ok (.iload_n 1, 1) := by decide +kernel
theorem dhA_5 : decode hbA 5 = .ok (.invokevirtual 22, 3) := by decide +kernel
theorem dhA_8 : decode hbA 8 = .ok (.ireturn, 1) := by decide +kernel
theorem dhB_0 : decode hbB 0 = .ok (.aload_n 0, 1) := by decide +kernel
theorem dhB_1 : decode hbB 1 = .ok (.getfield 15, 3) := by decide +kernel
theorem dhB_4 : decode hbB 4 = .ok (.iload_n 1, 1) := by decide +kernel
theorem dhB_5 : decode hbB 5 = .ok (.iload_n 2, 1) := by decide +kernel
theorem dhB_6 : decode hbB 6 = .ok (.invokevirtual 22, 3) := by decide +kernel
theorem dhB_9 : decode hbB 9 = .ok (.ireturn, 1) := by decide +kernel
theorem dhC_0 : decode hbC 0 = .ok (.iload_n 1, 1) := by decide +kernel
theorem dhC_1 : decode hbC 1 = .ok (.iload_n 2, 1) := by decide +kernel
theorem dhC_2 : decode hbC 2 = .ok (.invokestatic 17, 3) := by decide +kernel
theorem dhC_5 : decode hbC 5 = .ok (.ireturn, 1) := by decide +kernel
theorem dhD_0 : decode hbD 0 = .ok (.aload_n 0, 1) := by decide +kernel
theorem dhD_1 : decode hbD 1 = .ok (.getfield 17, 3) := by decide +kernel
theorem dhD_4 : decode hbD 4 = .ok (.aload_n 0, 1) := by decide +kernel
theorem dhD_5 : decode hbD 5 = .ok (.getfield 19, 3) := by decide +kernel
theorem dhD_8 : decode hbD 8 = .ok (.iload_n 1, 1) := by decide +kernel
theorem dhD_9 : decode hbD 9 = .ok (.iload_n 2, 1) := by decide +kernel
theorem dhD_10 : decode hbD 10 = .ok (.invokevirtual 27, 3) := by decide +kernel
theorem dhD_13 : decode hbD 13 = .ok (.return_, 1) := by decide +kernel
theorem dhE_0 : decode hbE 0 = .ok (.aload_n 0, 1) := by decide +kernel
theorem dhE_1 : decode hbE 1 = .ok (.getfield 15, 3) := by decide +kernel
theorem dhE_4 : decode hbE 4 = .ok (.iload_n 1, 1) := by decide +kernel
theorem dhE_5 : decode hbE 5 = .ok (.iload_n 2, 1) := by decide +kernel
theorem dhE_6 : decode hbE 6 = .ok (.invokestatic 23, 3) := by decide +kernel
theorem dhE_9 : decode hbE 9 = .ok (.return_, 1) := by decide +kernel
theorem lamV_of {l : Launch} {e : Env} (hadm : l.admits e) {U : State} {cK mi ci nt n : Nat} {y : MethodName} {kK tk : Class} {file : ClassFile} {cB : ClassId} {t : MethodId} {bytes : ByteArray} {maxL : Nat} {ret : Option FieldType} {A : Array Value}
    (hkK : U.vm.classes[cK]? = some kK) (hfile : kK.cf = some file) (hM : file.constantPool[mi]? = some (.methodref ci nt)) (hready : U.vm.methodReady cK mi t) (hclsR : U.vm.classReady cK ci cB) (hcB : U.vm.findClass y.cls = some cB) (htk : U.vm.classes[cB]? = some tk) (hitf : tk.isInterface = false)
    (hlook : ((methodIn cB y.name y.desc tk.isInterface none).ask { classPath := fun _ => none } U.vm).1 = .ok t) (hy : y.cls ≠ "java/lang/invoke/MethodHandle" ∧ y.cls ≠ "java/lang/invoke/VarHandle")
    (hcode : (Cond.code y bytes maxL ret).before A U = true) (hinst : (Cond.instanceMethod y).before A U = true) (hsel : (Cond.selects y.cls y y).before A U = true) (hsig : (parseMethodDescriptor y.desc).map (fun d => d.parameters.length) = some n) : lamV e U cK mi y cB n := by
  obtain ⟨mk, methM, hnamed, hmethM, hst, hab⟩ := Cond.instanceMethod_spec hinst
  obtain ⟨methB, cB', hmB, -, -, -, -, -, -, hsigB⟩ := Cond.code_spec hnamed hcode
  cases hmB.symm.trans hmethM
  have ht : t = mk := by
    have h1 : U.methodFound? y.cls y.name y.desc = some mk := State.methodFound?_of_named hnamed hy
    simp only [State.methodFound?, hcB, htk, Option.bind_eq_bind, Option.bind_some] at h1
    rw [hlook] at h1
    exact Option.some.inj h1
  subst ht
  obtain ⟨c2, r2, m2, q1, q2, q3, q4, kP, hkP, hkPi⟩ := Cond.selects_spec hsel
  cases hcB.symm.trans q1
  cases (State.methodFound?_of_named hnamed hy).symm.trans q2
  cases hnamed.symm.trans q3
  obtain ⟨kT', hkT', hnameT⟩ := className_of_methodNamed hnamed
  cases hkP.symm.trans hkT'
  have hsp : signaturePolymorphic kP methM = false := by simp [signaturePolymorphic, hnameT, hy.1, hy.2]
  refine ⟨t, kP, methM, ⟨kK, file, ci, nt, cB, tk, hkK, hfile, hM, hclsR, htk, hitf⟩, hready, hkP, hmB, hsp, hst, ?_, by rw [Launch.admits_selectMethod hadm]; exact q4, hab, hkPi, hnamed⟩
  rw [hsigB] at hsig
  exact Option.some.inj hsig
theorem lamT_of {e : Env} {U : State} {cK mi ci nt n : Nat} {y : MethodName} {kK tk : Class} {file : ClassFile} {toy : ClassId} {t : MethodId} {bytes : ByteArray} {maxL : Nat} {ret : Option FieldType} {A : Array Value}
    (hkK : U.vm.classes[cK]? = some kK) (hfile : kK.cf = some file) (hM : file.constantPool[mi]? = some (.methodref ci nt)) (hnt : file.constantPool.nameAndType? nt = some (y.name, y.desc)) (hready : U.vm.methodReady cK mi t) (hclsR : U.vm.classReady cK ci toy) (htoy : U.vm.findClass y.cls = some toy) (htk : U.vm.classes[toy]? = some tk)
    (hlook : ((methodIn toy y.name y.desc tk.isInterface none).ask { classPath := fun _ => none } U.vm).1 = .ok t) (hy : y.cls ≠ "java/lang/invoke/MethodHandle" ∧ y.cls ≠ "java/lang/invoke/VarHandle")
    (hcode : (Cond.code y bytes maxL ret).before A U = true) (hst : (Cond.static y).before A U = true) (hini : (Cond.initialized y.cls).before A U = true) (hsig : (parseMethodDescriptor y.desc).map (fun d => d.parameters.length) = some n) : lamT e U cK mi y n := by
  obtain ⟨mB, hnB⟩ := Cond.code_named hcode
  obtain ⟨methB, cB, hmB, -, -, -, -, -, -, hsigB⟩ := Cond.code_spec hnB hcode
  have hstaticB : methB.isStatic = true := Cond.static_spec hnB hmB hst
  have hfT : U.vm.findClass y.cls = some mB.cls := findClass_of_methodNamed hnB
  cases htoy.symm.trans hfT
  have hinitK : tk.init = .initialized := Cond.initialized_spec hfT htk hini
  obtain ⟨kT', hkT', hnameT⟩ := className_of_methodNamed hnB
  cases htk.symm.trans hkT'
  have htB : t = mB := by
    have h1 : U.methodFound? y.cls y.name y.desc = some mB := State.methodFound?_of_named hnB hy
    simp only [State.methodFound?, hfT, htk, Option.bind_eq_bind, Option.bind_some] at h1
    rw [hlook] at h1
    exact Option.some.inj h1
  subst htB
  have hsp : ∀ z : Method, signaturePolymorphic tk z = false := fun z => by simp [signaturePolymorphic, hnameT, hy.1, hy.2]
  obtain ⟨b, hmem⟩ := memberRef_ask' (e := e) (vm := U.vm) (d := cK) (index := mi) hkK hfile (Or.inl hM) hnt
  refine ⟨t, tk, methB, ⟨ci, _, _, b, t.cls, tk, hmem, hclsR, htk, by simp [hsp]⟩, hready, htk, hmB, hsp _, hstaticB, ?_, hinitK, hnB⟩
  rw [hsigB] at hsig
  exact Option.some.inj hsig
theorem lam_at {X : gX} {U : State} {A : Array Value} {k : Nat} {σ : Jvm.Lambda.Shape} {D : ClassFile} {fw : Method} {ld : Array Field × Array FieldType × Array FieldType} {dat : ByteArray} {mL : Nat} {rt : Option FieldType} (hk : k < 10) (hσ : lmS k = σ)
    (hfile : σ.file "KeptCurves" = some D) (hsec : (layoutMethods D).bind (·[1]?) = some fw) (hlaid : layoutFields D 0 = some ld) (hcode : (fw.code.map fun c => (c.code.data, c.maxLocals)) = some (dat.data, mL)) (hfl : (fw.accessFlags, fw.sig.returnType) = (0x0001, rt))
    (hK : gIn X U) (hts : ∀ w ∈ lw_all, w.before A U = true) :
    ∃ (d : ClassId) (methk : Method) (ck : Code), U.vm.findClass "KeptCurves" = some d ∧ (Jvm.Lambda.isMade { classPath := fun _ => none } U.vm d σ (X.2.2.1 k) = true ∧ U.lambdaCallable σ (X.2.2.1 k) = true) ∧ methk.accessFlags = 0x0001 ∧ ck.code = dat ∧ ck.maxLocals = mL ∧ methk.sig.returnType = rt ∧
      (∀ U' : State, U.WarmedH U'.vm → lamB U' (X.2.2.1 k) methk ck mL) ∧
      (∀ U' : State, U.WarmedH U'.vm → ∃ (k' tk : Class) (file : ClassFile) (tg : MethodId), U'.vm.classes[X.2.2.1 k]? = some k' ∧ k'.cf = some file ∧ file.constantPool = D.constantPool ∧ (∃ t, U'.vm.findClass σ.implClass = some t ∧ U'.vm.classes[t]? = some tk ∧ tk.isInterface = σ.implItf ∧ ((methodIn t σ.implName σ.implDesc.toString tk.isInterface none).ask { classPath := fun _ => none } U'.vm).1 = .ok tg) ∧
        (∀ (i : Nat) x, (Jvm.Lambda.resolvedOf { classPath := fun _ => none } U'.vm D ld.1 (X.2.2.1 k))[i]? = some (some x) → k'.resolved[i]? = some (some x)) ∧ (∀ (i : Nat) a, ld.1[i]? = some a → k'.fields[i]? = some a) ∧ U'.vm.findClass "KeptCurves" = some d) := by
  subst hσ
  obtain ⟨d, dk, hfc, hd, hname, hmade, hcall⟩ := hK.made hk
  have hO := lam_O hts
  obtain ⟨kK, tk, file, methk, ck, t, tg, f1, f2, f3, f4, f5, f6, f7, f8, f9, f10, f11, f12, f13, f14, f15, f16, f17, -, -⟩ := lam_made hd hname hmade hO hfile hsec hlaid hcode hfl
  refine ⟨d, methk, ck, hfc, ⟨hmade, hcall⟩, f10, f7, f8, f11, fun U' hW => ?_, fun U' hW => ?_⟩
  · refine ⟨by rw [hW.alike.method?]; exact f5, f6, f9, State.plainMethod.of_name fun k' hk' => ?_, f8⟩
    obtain ⟨k2, hk2, e2⟩ := hW.alike.2.2 _ _ f1
    cases hk'.symm.trans hk2
    rw [e2]
    show plainName kK.name = true
    rw [f2]; decide
  · obtain ⟨dk2, hdk2, e2⟩ := hW.alike.2.2 _ _ hd
    have hn2 : dk2.name = "KeptCurves" := by rw [e2]; exact hname
    have hO2 : ∀ o ok, U'.vm.findClass "java/lang/Object" = some o → U'.vm.classes[o]? = some ok → ok.instanceTypes.size = 0 := by
      intro o ok h1 h2
      rw [hW.alike.findClass] at h1
      obtain ⟨c0, k0, hc0, hk0, -⟩ := Cond.instantiable_spec (hts _ q2402)
      cases hc0.symm.trans h1
      obtain ⟨k3, hk3, e3⟩ := hW.alike.2.2 _ _ hk0
      cases h2.symm.trans hk3
      rw [e3]
      show k0.instanceTypes.size = 0
      exact hO _ _ hc0 hk0
    obtain ⟨kK2, tk2, file2, methk2, ck2, t2, tg2, g1, g2, g3, g4, g5, g6, g7, g8, g9, g10, g11, g12, g13, g14, g15, g16, g17, -, -⟩ := lam_made hdk2 hn2 (Jvm.Lambda.isMade_warmer hW hmade) hO2 hfile hsec hlaid hcode hfl
    exact ⟨kK2, tk2, file2, tg2, g1, g3, g4, ⟨t2, g12, g13, g14, g15⟩, g16, g17, by rw [hW.alike.findClass]; exact hfc⟩
theorem lam_F {U : State} {c d : ClassId} {σ : Jvm.Lambda.Shape} {D : ClassFile} {ld : Array Field × Array FieldType × Array FieldType} {i nt j sl : Nat} {nm ds : String} (h : (∃ (k2 tk : Class) (file : ClassFile) (tg : MethodId), U.vm.classes[c]? = some k2 ∧ k2.cf = some file ∧ file.constantPool = D.constantPool ∧ (∃ t, U.vm.findClass σ.implClass = some t ∧ U.vm.classes[t]? = some tk ∧ tk.isInterface = σ.implItf ∧ ((methodIn t σ.implName σ.implDesc.toString tk.isInterface none).ask { classPath := fun _ => none } U.vm).1 = .ok tg) ∧ (∀ (i : Nat) x, (Jvm.Lambda.resolvedOf { classPath := fun _ => none } U.vm D ld.1 c)[i]? = some (some x) → k2.resolved[i]? = some (some x)) ∧ (∀ (i : Nat) a, ld.1[i]? = some a → k2.fields[i]? = some a) ∧ U.vm.findClass "KeptCurves" = some d)) (hi : D.constantPool[i]? = some (.fieldref 2 nt)) (hnt : D.constantPool.nameAndType? nt = some (nm, ds)) (hj : ld.1.findIdx? (·.name == nm) = some j) (hs : (ld.1[j]?).map (fun f => (f.isStatic, f.slot)) = some (false, sl)) : lamF U c i sl := by
  obtain ⟨k2, tk, file, tg, h1, h2, h3, -, h5, h6, -⟩ := h
  obtain ⟨g0, hg0, hp0⟩ := Option.map_eq_some_iff.mp hs
  simp only [Prod.mk.injEq] at hp0
  exact ⟨g0, ⟨k2, j, k2, h1, h5 i _ (Jvm.Lambda.resolvedOf_field hi hnt hj), h1, h6 j _ hg0⟩, hp0.1, hp0.2⟩
theorem lam_V {l : Launch} {e : Env} (hadm : l.admits e) {U : State} {c d : ClassId} {σ : Jvm.Lambda.Shape} {D : ClassFile} {ld : Array Field × Array FieldType × Array FieldType} {mi ci nt cs n : Nat} {y : MethodName} {bytes : ByteArray} {maxL : Nat} {ret : Option FieldType} {A : Array Value} (h : (∃ (k2 tk : Class) (file : ClassFile) (tg : MethodId), U.vm.classes[c]? = some k2 ∧ k2.cf = some file ∧ file.constantPool = D.constantPool ∧ (∃ t, U.vm.findClass σ.implClass = some t ∧ U.vm.classes[t]? = some tk ∧ tk.isInterface = σ.implItf ∧ ((methodIn t σ.implName σ.implDesc.toString tk.isInterface none).ask { classPath := fun _ => none } U.vm).1 = .ok tg) ∧ (∀ (i : Nat) x, (Jvm.Lambda.resolvedOf { classPath := fun _ => none } U.vm D ld.1 c)[i]? = some (some x) → k2.resolved[i]? = some (some x)) ∧ (∀ (i : Nat) a, ld.1[i]? = some a → k2.fields[i]? = some a) ∧ U.vm.findClass "KeptCurves" = some d))
    (eM : D.constantPool[mi]? = some (.methodref ci nt) ∧ D.constantPool.className? ci = some "KeptCurves" ∧ D.constantPool.nameAndType? nt = some (y.name, y.desc)) (eC : D.constantPool[ci]? = some (.class_ cs) ∧ D.constantPool.string? cs = some "KeptCurves" ∧ ci ≠ D.thisClass)
    (hi : σ.implClass = "KeptCurves" ∧ σ.implItf = false ∧ σ.implName = y.name ∧ σ.implDesc.toString = y.desc ∧ y.cls = "KeptCurves")
    (hcode : (Cond.code y bytes maxL ret).before A U = true) (hinst : (Cond.instanceMethod y).before A U = true) (hsel : (Cond.selects y.cls y y).before A U = true) (hsig : (parseMethodDescriptor y.desc).map (fun d => d.parameters.length) = some n) : lamV e U c mi y d n := by
  obtain ⟨k2, tk, file, tg, h1, h2, h3, ⟨t, g1, g2, g3, g4⟩, h5, h6, h7⟩ := h
  rw [hi.1] at g1
  cases h7.symm.trans g1
  rw [hi.2.1] at g3
  rw [hi.2.2.1, hi.2.2.2.1] at g4
  exact lamV_of hadm h1 h2 (by rw [h3]; exact eM.1) ⟨k2, h1, h5 mi _ (Jvm.Lambda.resolvedOf_method eM.1 eM.2.1 g1 g2 eM.2.2 g4)⟩ ⟨k2, h1, h5 ci _ (Jvm.Lambda.resolvedOf_class eC.1 eC.2.2 eC.2.1 g1)⟩ (by rw [hi.2.2.2.2]; exact g1) g2 g3 g4 (by rw [hi.2.2.2.2]; decide) hcode hinst hsel hsig
theorem lam_T {e : Env} {U : State} {c d : ClassId} {σ : Jvm.Lambda.Shape} {D : ClassFile} {ld : Array Field × Array FieldType × Array FieldType} {mi ci nt cs n : Nat} {y : MethodName} {bytes : ByteArray} {maxL : Nat} {ret : Option FieldType} {A : Array Value} (h : (∃ (k2 tk : Class) (file : ClassFile) (tg : MethodId), U.vm.classes[c]? = some k2 ∧ k2.cf = some file ∧ file.constantPool = D.constantPool ∧ (∃ t, U.vm.findClass σ.implClass = some t ∧ U.vm.classes[t]? = some tk ∧ tk.isInterface = σ.implItf ∧ ((methodIn t σ.implName σ.implDesc.toString tk.isInterface none).ask { classPath := fun _ => none } U.vm).1 = .ok tg) ∧ (∀ (i : Nat) x, (Jvm.Lambda.resolvedOf { classPath := fun _ => none } U.vm D ld.1 c)[i]? = some (some x) → k2.resolved[i]? = some (some x)) ∧ (∀ (i : Nat) a, ld.1[i]? = some a → k2.fields[i]? = some a) ∧ U.vm.findClass "KeptCurves" = some d))
    (eM : D.constantPool[mi]? = some (.methodref ci nt) ∧ D.constantPool.className? ci = some "KeptCurves" ∧ D.constantPool.nameAndType? nt = some (y.name, y.desc)) (eC : D.constantPool[ci]? = some (.class_ cs) ∧ D.constantPool.string? cs = some "KeptCurves" ∧ ci ≠ D.thisClass)
    (hi : σ.implClass = "KeptCurves" ∧ σ.implItf = false ∧ σ.implName = y.name ∧ σ.implDesc.toString = y.desc ∧ y.cls = "KeptCurves")
    (hcode : (Cond.code y bytes maxL ret).before A U = true) (hst : (Cond.static y).before A U = true) (hini : (Cond.initialized y.cls).before A U = true) (hsig : (parseMethodDescriptor y.desc).map (fun d => d.parameters.length) = some n) : lamT e U c mi y n := by
  obtain ⟨k2, tk, file, tg, h1, h2, h3, ⟨t, g1, g2, g3, g4⟩, h5, h6, h7⟩ := h
  rw [hi.1] at g1
  rw [hi.2.2.1, hi.2.2.2.1] at g4
  exact lamT_of h1 h2 (by rw [h3]; exact eM.1) (by rw [h3]; exact eM.2.2) ⟨k2, h1, h5 mi _ (Jvm.Lambda.resolvedOf_method eM.1 eM.2.1 g1 g2 eM.2.2 g4)⟩ ⟨k2, h1, h5 ci _ (Jvm.Lambda.resolvedOf_class eC.1 eC.2.2 eC.2.1 g1)⟩ (by rw [hi.2.2.2.2]; exact g1) g2 g4 (by rw [hi.2.2.2.2]; decide) hcode hst hini hsig
def lD_0 : ClassFile := (lm_0.file "KeptCurves").getD { minorVersion := 0, majorVersion := 0, constantPool := #[], accessFlags := 0, thisClass := 0, superClass := 0, interfaces := #[], fields := #[], methods := #[], attributes := #[] }
def lf_0 : Method := ((layoutMethods lD_0).bind (·[1]?)).getD default
def ll_0 : Array Field × Array FieldType × Array FieldType := (layoutFields lD_0 0).getD (#[], #[], #[])
theorem lfi_0 : lm_0.file "KeptCurves" = some lD_0 := by
  have h : (lm_0.file "KeptCurves").isSome = true := by decide +kernel
  obtain ⟨x, hx⟩ := Option.isSome_iff_exists.mp h
  simp [lD_0, hx]
theorem lse_0 : (layoutMethods lD_0).bind (·[1]?) = some lf_0 := by
  have h : ((layoutMethods lD_0).bind (·[1]?)).isSome = true := by decide +kernel
  obtain ⟨x, hx⟩ := Option.isSome_iff_exists.mp h
  simp [lf_0, hx]
theorem lla_0 : layoutFields lD_0 0 = some ll_0 := by
  have h : (layoutFields lD_0 0).isSome = true := by decide +kernel
  obtain ⟨x, hx⟩ := Option.isSome_iff_exists.mp h
  simp [ll_0, hx]
theorem lco_0 : (lf_0.code.map fun c => (c.code.data, c.maxLocals)) = some (hbA.data, 2) := by decide +kernel
theorem lfl_0 : (lf_0.accessFlags, lf_0.sig.returnType) = (0x0001, (some FieldType.int)) := by decide +kernel
theorem lty_0 : ll_0.2.1.toList = [.object "KeptCurves"] := by decide +kernel
theorem leM_0 : lD_0.constantPool[22]? = some (.methodref 19 21) ∧ lD_0.constantPool.className? 19 = some "KeptCurves" ∧ lD_0.constantPool.nameAndType? 21 = some (yX0_swapsX.name, yX0_swapsX.desc) := by decide +kernel
theorem leC_0 : lD_0.constantPool[19]? = some (.class_ 18) ∧ lD_0.constantPool.string? 18 = some "KeptCurves" ∧ 19 ≠ lD_0.thisClass := by decide +kernel
theorem lim_0 : lm_0.implClass = "KeptCurves" ∧ lm_0.implItf = false ∧ lm_0.implName = yX0_swapsX.name ∧ lm_0.implDesc.toString = yX0_swapsX.desc ∧ yX0_swapsX.cls = "KeptCurves" := by decide +kernel
theorem leF0_0 : lD_0.constantPool[15]? = some (.fieldref 2 14) ∧ lD_0.constantPool.nameAndType? 14 = some ("arg$1", "LKeptCurves;") ∧ ll_0.1.findIdx? (·.name == "arg$1") = some 0 ∧ (ll_0.1[0]?).map (fun f => (f.isStatic, f.slot)) = some (false, 0) := by decide +kernel
def lD_1 : ClassFile := (lm_1.file "KeptCurves").getD { minorVersion := 0, majorVersion := 0, constantPool := #[], accessFlags := 0, thisClass := 0, superClass := 0, interfaces := #[], fields := #[], methods := #[], attributes := #[] }
def lf_1 : Method := ((layoutMethods lD_1).bind (·[1]?)).getD default
def ll_1 : Array Field × Array FieldType × Array FieldType := (layoutFields lD_1 0).getD (#[], #[], #[])
theorem lfi_1 : lm_1.file "KeptCurves" = some lD_1 := by
  have h : (lm_1.file "KeptCurves").isSome = true := by decide +kernel
  obtain ⟨x, hx⟩ := Option.isSome_iff_exists.mp h
  simp [lD_1, hx]
theorem lse_1 : (layoutMethods lD_1).bind (·[1]?) = some lf_1 := by
  have h : ((layoutMethods lD_1).bind (·[1]?)).isSome = true := by decide +kernel
  obtain ⟨x, hx⟩ := Option.isSome_iff_exists.mp h
  simp [lf_1, hx]
theorem lla_1 : layoutFields lD_1 0 = some ll_1 := by
  have h : (layoutFields lD_1 0).isSome = true := by decide +kernel
  obtain ⟨x, hx⟩ := Option.isSome_iff_exists.mp h
  simp [ll_1, hx]
theorem lco_1 : (lf_1.code.map fun c => (c.code.data, c.maxLocals)) = some (hbA.data, 2) := by decide +kernel
theorem lfl_1 : (lf_1.accessFlags, lf_1.sig.returnType) = (0x0001, (some FieldType.int)) := by decide +kernel
theorem lty_1 : ll_1.2.1.toList = [.object "KeptCurves"] := by decide +kernel
theorem leM_1 : lD_1.constantPool[22]? = some (.methodref 19 21) ∧ lD_1.constantPool.className? 19 = some "KeptCurves" ∧ lD_1.constantPool.nameAndType? 21 = some (yX0_swapsY.name, yX0_swapsY.desc) := by decide +kernel
theorem leC_1 : lD_1.constantPool[19]? = some (.class_ 18) ∧ lD_1.constantPool.string? 18 = some "KeptCurves" ∧ 19 ≠ lD_1.thisClass := by decide +kernel
theorem lim_1 : lm_1.implClass = "KeptCurves" ∧ lm_1.implItf = false ∧ lm_1.implName = yX0_swapsY.name ∧ lm_1.implDesc.toString = yX0_swapsY.desc ∧ yX0_swapsY.cls = "KeptCurves" := by decide +kernel
theorem leF0_1 : lD_1.constantPool[15]? = some (.fieldref 2 14) ∧ lD_1.constantPool.nameAndType? 14 = some ("arg$1", "LKeptCurves;") ∧ ll_1.1.findIdx? (·.name == "arg$1") = some 0 ∧ (ll_1.1[0]?).map (fun f => (f.isStatic, f.slot)) = some (false, 0) := by decide +kernel
def lD_2 : ClassFile := (lm_2.file "KeptCurves").getD { minorVersion := 0, majorVersion := 0, constantPool := #[], accessFlags := 0, thisClass := 0, superClass := 0, interfaces := #[], fields := #[], methods := #[], attributes := #[] }
def lf_2 : Method := ((layoutMethods lD_2).bind (·[1]?)).getD default
def ll_2 : Array Field × Array FieldType × Array FieldType := (layoutFields lD_2 0).getD (#[], #[], #[])
theorem lfi_2 : lm_2.file "KeptCurves" = some lD_2 := by
  have h : (lm_2.file "KeptCurves").isSome = true := by decide +kernel
  obtain ⟨x, hx⟩ := Option.isSome_iff_exists.mp h
  simp [lD_2, hx]
theorem lse_2 : (layoutMethods lD_2).bind (·[1]?) = some lf_2 := by
  have h : ((layoutMethods lD_2).bind (·[1]?)).isSome = true := by decide +kernel
  obtain ⟨x, hx⟩ := Option.isSome_iff_exists.mp h
  simp [lf_2, hx]
theorem lla_2 : layoutFields lD_2 0 = some ll_2 := by
  have h : (layoutFields lD_2 0).isSome = true := by decide +kernel
  obtain ⟨x, hx⟩ := Option.isSome_iff_exists.mp h
  simp [ll_2, hx]
theorem lco_2 : (lf_2.code.map fun c => (c.code.data, c.maxLocals)) = some (hbA.data, 2) := by decide +kernel
theorem lfl_2 : (lf_2.accessFlags, lf_2.sig.returnType) = (0x0001, (some FieldType.int)) := by decide +kernel
theorem lty_2 : ll_2.2.1.toList = [.object "KeptCurves"] := by decide +kernel
theorem leM_2 : lD_2.constantPool[22]? = some (.methodref 19 21) ∧ lD_2.constantPool.className? 19 = some "KeptCurves" ∧ lD_2.constantPool.nameAndType? 21 = some (yX0_steps.name, yX0_steps.desc) := by decide +kernel
theorem leC_2 : lD_2.constantPool[19]? = some (.class_ 18) ∧ lD_2.constantPool.string? 18 = some "KeptCurves" ∧ 19 ≠ lD_2.thisClass := by decide +kernel
theorem lim_2 : lm_2.implClass = "KeptCurves" ∧ lm_2.implItf = false ∧ lm_2.implName = yX0_steps.name ∧ lm_2.implDesc.toString = yX0_steps.desc ∧ yX0_steps.cls = "KeptCurves" := by decide +kernel
theorem leF0_2 : lD_2.constantPool[15]? = some (.fieldref 2 14) ∧ lD_2.constantPool.nameAndType? 14 = some ("arg$1", "LKeptCurves;") ∧ ll_2.1.findIdx? (·.name == "arg$1") = some 0 ∧ (ll_2.1[0]?).map (fun f => (f.isStatic, f.slot)) = some (false, 0) := by decide +kernel
def lD_3 : ClassFile := (lm_3.file "KeptCurves").getD { minorVersion := 0, majorVersion := 0, constantPool := #[], accessFlags := 0, thisClass := 0, superClass := 0, interfaces := #[], fields := #[], methods := #[], attributes := #[] }
def lf_3 : Method := ((layoutMethods lD_3).bind (·[1]?)).getD default
def ll_3 : Array Field × Array FieldType × Array FieldType := (layoutFields lD_3 0).getD (#[], #[], #[])
theorem lfi_3 : lm_3.file "KeptCurves" = some lD_3 := by
  have h : (lm_3.file "KeptCurves").isSome = true := by decide +kernel
  obtain ⟨x, hx⟩ := Option.isSome_iff_exists.mp h
  simp [lD_3, hx]
theorem lse_3 : (layoutMethods lD_3).bind (·[1]?) = some lf_3 := by
  have h : ((layoutMethods lD_3).bind (·[1]?)).isSome = true := by decide +kernel
  obtain ⟨x, hx⟩ := Option.isSome_iff_exists.mp h
  simp [lf_3, hx]
theorem lla_3 : layoutFields lD_3 0 = some ll_3 := by
  have h : (layoutFields lD_3 0).isSome = true := by decide +kernel
  obtain ⟨x, hx⟩ := Option.isSome_iff_exists.mp h
  simp [ll_3, hx]
theorem lco_3 : (lf_3.code.map fun c => (c.code.data, c.maxLocals)) = some (hbA.data, 2) := by decide +kernel
theorem lfl_3 : (lf_3.accessFlags, lf_3.sig.returnType) = (0x0001, (some FieldType.int)) := by decide +kernel
theorem lty_3 : ll_3.2.1.toList = [.object "KeptCurves"] := by decide +kernel
theorem leM_3 : lD_3.constantPool[22]? = some (.methodref 19 21) ∧ lD_3.constantPool.className? 19 = some "KeptCurves" ∧ lD_3.constantPool.nameAndType? 21 = some (yX0_stepsBack.name, yX0_stepsBack.desc) := by decide +kernel
theorem leC_3 : lD_3.constantPool[19]? = some (.class_ 18) ∧ lD_3.constantPool.string? 18 = some "KeptCurves" ∧ 19 ≠ lD_3.thisClass := by decide +kernel
theorem lim_3 : lm_3.implClass = "KeptCurves" ∧ lm_3.implItf = false ∧ lm_3.implName = yX0_stepsBack.name ∧ lm_3.implDesc.toString = yX0_stepsBack.desc ∧ yX0_stepsBack.cls = "KeptCurves" := by decide +kernel
theorem leF0_3 : lD_3.constantPool[15]? = some (.fieldref 2 14) ∧ lD_3.constantPool.nameAndType? 14 = some ("arg$1", "LKeptCurves;") ∧ ll_3.1.findIdx? (·.name == "arg$1") = some 0 ∧ (ll_3.1[0]?).map (fun f => (f.isStatic, f.slot)) = some (false, 0) := by decide +kernel
def lD_4 : ClassFile := (lm_4.file "KeptCurves").getD { minorVersion := 0, majorVersion := 0, constantPool := #[], accessFlags := 0, thisClass := 0, superClass := 0, interfaces := #[], fields := #[], methods := #[], attributes := #[] }
def lf_4 : Method := ((layoutMethods lD_4).bind (·[1]?)).getD default
def ll_4 : Array Field × Array FieldType × Array FieldType := (layoutFields lD_4 0).getD (#[], #[], #[])
theorem lfi_4 : lm_4.file "KeptCurves" = some lD_4 := by
  have h : (lm_4.file "KeptCurves").isSome = true := by decide +kernel
  obtain ⟨x, hx⟩ := Option.isSome_iff_exists.mp h
  simp [lD_4, hx]
theorem lse_4 : (layoutMethods lD_4).bind (·[1]?) = some lf_4 := by
  have h : ((layoutMethods lD_4).bind (·[1]?)).isSome = true := by decide +kernel
  obtain ⟨x, hx⟩ := Option.isSome_iff_exists.mp h
  simp [lf_4, hx]
theorem lla_4 : layoutFields lD_4 0 = some ll_4 := by
  have h : (layoutFields lD_4 0).isSome = true := by decide +kernel
  obtain ⟨x, hx⟩ := Option.isSome_iff_exists.mp h
  simp [ll_4, hx]
theorem lco_4 : (lf_4.code.map fun c => (c.code.data, c.maxLocals)) = some (hbB.data, 3) := by decide +kernel
theorem lfl_4 : (lf_4.accessFlags, lf_4.sig.returnType) = (0x0001, (some FieldType.int)) := by decide +kernel
theorem lty_4 : ll_4.2.1.toList = [.object "KeptCurves"] := by decide +kernel
theorem leM_4 : lD_4.constantPool[22]? = some (.methodref 19 21) ∧ lD_4.constantPool.className? 19 = some "KeptCurves" ∧ lD_4.constantPool.nameAndType? 21 = some (yX0_lambda_new_0.name, yX0_lambda_new_0.desc) := by decide +kernel
theorem leC_4 : lD_4.constantPool[19]? = some (.class_ 18) ∧ lD_4.constantPool.string? 18 = some "KeptCurves" ∧ 19 ≠ lD_4.thisClass := by decide +kernel
theorem lim_4 : lm_4.implClass = "KeptCurves" ∧ lm_4.implItf = false ∧ lm_4.implName = yX0_lambda_new_0.name ∧ lm_4.implDesc.toString = yX0_lambda_new_0.desc ∧ yX0_lambda_new_0.cls = "KeptCurves" := by decide +kernel
theorem leF0_4 : lD_4.constantPool[15]? = some (.fieldref 2 14) ∧ lD_4.constantPool.nameAndType? 14 = some ("arg$1", "LKeptCurves;") ∧ ll_4.1.findIdx? (·.name == "arg$1") = some 0 ∧ (ll_4.1[0]?).map (fun f => (f.isStatic, f.slot)) = some (false, 0) := by decide +kernel
def lD_5 : ClassFile := (lm_5.file "KeptCurves").getD { minorVersion := 0, majorVersion := 0, constantPool := #[], accessFlags := 0, thisClass := 0, superClass := 0, interfaces := #[], fields := #[], methods := #[], attributes := #[] }
def lf_5 : Method := ((layoutMethods lD_5).bind (·[1]?)).getD default
def ll_5 : Array Field × Array FieldType × Array FieldType := (layoutFields lD_5 0).getD (#[], #[], #[])
theorem lfi_5 : lm_5.file "KeptCurves" = some lD_5 := by
  have h : (lm_5.file "KeptCurves").isSome = true := by decide +kernel
  obtain ⟨x, hx⟩ := Option.isSome_iff_exists.mp h
  simp [lD_5, hx]
theorem lse_5 : (layoutMethods lD_5).bind (·[1]?) = some lf_5 := by
  have h : ((layoutMethods lD_5).bind (·[1]?)).isSome = true := by decide +kernel
  obtain ⟨x, hx⟩ := Option.isSome_iff_exists.mp h
  simp [lf_5, hx]
theorem lla_5 : layoutFields lD_5 0 = some ll_5 := by
  have h : (layoutFields lD_5 0).isSome = true := by decide +kernel
  obtain ⟨x, hx⟩ := Option.isSome_iff_exists.mp h
  simp [ll_5, hx]
theorem lco_5 : (lf_5.code.map fun c => (c.code.data, c.maxLocals)) = some (hbB.data, 3) := by decide +kernel
theorem lfl_5 : (lf_5.accessFlags, lf_5.sig.returnType) = (0x0001, (some FieldType.int)) := by decide +kernel
theorem lty_5 : ll_5.2.1.toList = [.object "KeptCurves"] := by decide +kernel
theorem leM_5 : lD_5.constantPool[22]? = some (.methodref 19 21) ∧ lD_5.constantPool.className? 19 = some "KeptCurves" ∧ lD_5.constantPool.nameAndType? 21 = some (yX0_lambda_new_1.name, yX0_lambda_new_1.desc) := by decide +kernel
theorem leC_5 : lD_5.constantPool[19]? = some (.class_ 18) ∧ lD_5.constantPool.string? 18 = some "KeptCurves" ∧ 19 ≠ lD_5.thisClass := by decide +kernel
theorem lim_5 : lm_5.implClass = "KeptCurves" ∧ lm_5.implItf = false ∧ lm_5.implName = yX0_lambda_new_1.name ∧ lm_5.implDesc.toString = yX0_lambda_new_1.desc ∧ yX0_lambda_new_1.cls = "KeptCurves" := by decide +kernel
theorem leF0_5 : lD_5.constantPool[15]? = some (.fieldref 2 14) ∧ lD_5.constantPool.nameAndType? 14 = some ("arg$1", "LKeptCurves;") ∧ ll_5.1.findIdx? (·.name == "arg$1") = some 0 ∧ (ll_5.1[0]?).map (fun f => (f.isStatic, f.slot)) = some (false, 0) := by decide +kernel
def lD_6 : ClassFile := (lm_6.file "KeptCurves").getD { minorVersion := 0, majorVersion := 0, constantPool := #[], accessFlags := 0, thisClass := 0, superClass := 0, interfaces := #[], fields := #[], methods := #[], attributes := #[] }
def lf_6 : Method := ((layoutMethods lD_6).bind (·[1]?)).getD default
def ll_6 : Array Field × Array FieldType × Array FieldType := (layoutFields lD_6 0).getD (#[], #[], #[])
theorem lfi_6 : lm_6.file "KeptCurves" = some lD_6 := by
  have h : (lm_6.file "KeptCurves").isSome = true := by decide +kernel
  obtain ⟨x, hx⟩ := Option.isSome_iff_exists.mp h
  simp [lD_6, hx]
theorem lse_6 : (layoutMethods lD_6).bind (·[1]?) = some lf_6 := by
  have h : ((layoutMethods lD_6).bind (·[1]?)).isSome = true := by decide +kernel
  obtain ⟨x, hx⟩ := Option.isSome_iff_exists.mp h
  simp [lf_6, hx]
theorem lla_6 : layoutFields lD_6 0 = some ll_6 := by
  have h : (layoutFields lD_6 0).isSome = true := by decide +kernel
  obtain ⟨x, hx⟩ := Option.isSome_iff_exists.mp h
  simp [ll_6, hx]
theorem lco_6 : (lf_6.code.map fun c => (c.code.data, c.maxLocals)) = some (hbB.data, 3) := by decide +kernel
theorem lfl_6 : (lf_6.accessFlags, lf_6.sig.returnType) = (0x0001, (some FieldType.int)) := by decide +kernel
theorem lty_6 : ll_6.2.1.toList = [.object "KeptCurves"] := by decide +kernel
theorem leM_6 : lD_6.constantPool[22]? = some (.methodref 19 21) ∧ lD_6.constantPool.className? 19 = some "KeptCurves" ∧ lD_6.constantPool.nameAndType? 21 = some (yX0_swapsOne.name, yX0_swapsOne.desc) := by decide +kernel
theorem leC_6 : lD_6.constantPool[19]? = some (.class_ 18) ∧ lD_6.constantPool.string? 18 = some "KeptCurves" ∧ 19 ≠ lD_6.thisClass := by decide +kernel
theorem lim_6 : lm_6.implClass = "KeptCurves" ∧ lm_6.implItf = false ∧ lm_6.implName = yX0_swapsOne.name ∧ lm_6.implDesc.toString = yX0_swapsOne.desc ∧ yX0_swapsOne.cls = "KeptCurves" := by decide +kernel
theorem leF0_6 : lD_6.constantPool[15]? = some (.fieldref 2 14) ∧ lD_6.constantPool.nameAndType? 14 = some ("arg$1", "LKeptCurves;") ∧ ll_6.1.findIdx? (·.name == "arg$1") = some 0 ∧ (ll_6.1[0]?).map (fun f => (f.isStatic, f.slot)) = some (false, 0) := by decide +kernel
def lD_7 : ClassFile := (lm_7.file "KeptCurves").getD { minorVersion := 0, majorVersion := 0, constantPool := #[], accessFlags := 0, thisClass := 0, superClass := 0, interfaces := #[], fields := #[], methods := #[], attributes := #[] }
def lf_7 : Method := ((layoutMethods lD_7).bind (·[1]?)).getD default
def ll_7 : Array Field × Array FieldType × Array FieldType := (layoutFields lD_7 0).getD (#[], #[], #[])
theorem lfi_7 : lm_7.file "KeptCurves" = some lD_7 := by
  have h : (lm_7.file "KeptCurves").isSome = true := by decide +kernel
  obtain ⟨x, hx⟩ := Option.isSome_iff_exists.mp h
  simp [lD_7, hx]
theorem lse_7 : (layoutMethods lD_7).bind (·[1]?) = some lf_7 := by
  have h : ((layoutMethods lD_7).bind (·[1]?)).isSome = true := by decide +kernel
  obtain ⟨x, hx⟩ := Option.isSome_iff_exists.mp h
  simp [lf_7, hx]
theorem lla_7 : layoutFields lD_7 0 = some ll_7 := by
  have h : (layoutFields lD_7 0).isSome = true := by decide +kernel
  obtain ⟨x, hx⟩ := Option.isSome_iff_exists.mp h
  simp [ll_7, hx]
theorem lco_7 : (lf_7.code.map fun c => (c.code.data, c.maxLocals)) = some (hbC.data, 3) := by decide +kernel
theorem lfl_7 : (lf_7.accessFlags, lf_7.sig.returnType) = (0x0001, (some FieldType.int)) := by decide +kernel
theorem lty_7 : ll_7.2.1.toList = [] := by decide +kernel
theorem leM_7 : lD_7.constantPool[17]? = some (.methodref 14 16) ∧ lD_7.constantPool.className? 14 = some "KeptCurves" ∧ lD_7.constantPool.nameAndType? 16 = some (yX0_turnedOver.name, yX0_turnedOver.desc) := by decide +kernel
theorem leC_7 : lD_7.constantPool[14]? = some (.class_ 13) ∧ lD_7.constantPool.string? 13 = some "KeptCurves" ∧ 14 ≠ lD_7.thisClass := by decide +kernel
theorem lim_7 : lm_7.implClass = "KeptCurves" ∧ lm_7.implItf = false ∧ lm_7.implName = yX0_turnedOver.name ∧ lm_7.implDesc.toString = yX0_turnedOver.desc ∧ yX0_turnedOver.cls = "KeptCurves" := by decide +kernel
def lD_8 : ClassFile := (lm_8.file "KeptCurves").getD { minorVersion := 0, majorVersion := 0, constantPool := #[], accessFlags := 0, thisClass := 0, superClass := 0, interfaces := #[], fields := #[], methods := #[], attributes := #[] }
def lf_8 : Method := ((layoutMethods lD_8).bind (·[1]?)).getD default
def ll_8 : Array Field × Array FieldType × Array FieldType := (layoutFields lD_8 0).getD (#[], #[], #[])
theorem lfi_8 : lm_8.file "KeptCurves" = some lD_8 := by
  have h : (lm_8.file "KeptCurves").isSome = true := by decide +kernel
  obtain ⟨x, hx⟩ := Option.isSome_iff_exists.mp h
  simp [lD_8, hx]
theorem lse_8 : (layoutMethods lD_8).bind (·[1]?) = some lf_8 := by
  have h : ((layoutMethods lD_8).bind (·[1]?)).isSome = true := by decide +kernel
  obtain ⟨x, hx⟩ := Option.isSome_iff_exists.mp h
  simp [lf_8, hx]
theorem lla_8 : layoutFields lD_8 0 = some ll_8 := by
  have h : (layoutFields lD_8 0).isSome = true := by decide +kernel
  obtain ⟨x, hx⟩ := Option.isSome_iff_exists.mp h
  simp [ll_8, hx]
theorem lco_8 : (lf_8.code.map fun c => (c.code.data, c.maxLocals)) = some (hbD.data, 3) := by decide +kernel
theorem lfl_8 : (lf_8.accessFlags, lf_8.sig.returnType) = (0x0001, (none : Option FieldType)) := by decide +kernel
theorem lty_8 : ll_8.2.1.toList = [.object "KeptCurves", .int] := by decide +kernel
theorem leM_8 : lD_8.constantPool[27]? = some (.methodref 23 26) ∧ lD_8.constantPool.className? 23 = some "KeptCurves" ∧ lD_8.constantPool.nameAndType? 26 = some (yX0_lambda_gathers_2.name, yX0_lambda_gathers_2.desc) := by decide +kernel
theorem leC_8 : lD_8.constantPool[23]? = some (.class_ 22) ∧ lD_8.constantPool.string? 22 = some "KeptCurves" ∧ 23 ≠ lD_8.thisClass := by decide +kernel
theorem lim_8 : lm_8.implClass = "KeptCurves" ∧ lm_8.implItf = false ∧ lm_8.implName = yX0_lambda_gathers_2.name ∧ lm_8.implDesc.toString = yX0_lambda_gathers_2.desc ∧ yX0_lambda_gathers_2.cls = "KeptCurves" := by decide +kernel
theorem leF0_8 : lD_8.constantPool[17]? = some (.fieldref 2 16) ∧ lD_8.constantPool.nameAndType? 16 = some ("arg$1", "LKeptCurves;") ∧ ll_8.1.findIdx? (·.name == "arg$1") = some 0 ∧ (ll_8.1[0]?).map (fun f => (f.isStatic, f.slot)) = some (false, 0) := by decide +kernel
theorem leF1_8 : lD_8.constantPool[19]? = some (.fieldref 2 18) ∧ lD_8.constantPool.nameAndType? 18 = some ("arg$2", "I") ∧ ll_8.1.findIdx? (·.name == "arg$2") = some 1 ∧ (ll_8.1[1]?).map (fun f => (f.isStatic, f.slot)) = some (false, 1) := by decide +kernel
def lD_9 : ClassFile := (lm_9.file "KeptCurves").getD { minorVersion := 0, majorVersion := 0, constantPool := #[], accessFlags := 0, thisClass := 0, superClass := 0, interfaces := #[], fields := #[], methods := #[], attributes := #[] }
def lf_9 : Method := ((layoutMethods lD_9).bind (·[1]?)).getD default
def ll_9 : Array Field × Array FieldType × Array FieldType := (layoutFields lD_9 0).getD (#[], #[], #[])
theorem lfi_9 : lm_9.file "KeptCurves" = some lD_9 := by
  have h : (lm_9.file "KeptCurves").isSome = true := by decide +kernel
  obtain ⟨x, hx⟩ := Option.isSome_iff_exists.mp h
  simp [lD_9, hx]
theorem lse_9 : (layoutMethods lD_9).bind (·[1]?) = some lf_9 := by
  have h : ((layoutMethods lD_9).bind (·[1]?)).isSome = true := by decide +kernel
  obtain ⟨x, hx⟩ := Option.isSome_iff_exists.mp h
  simp [lf_9, hx]
theorem lla_9 : layoutFields lD_9 0 = some ll_9 := by
  have h : (layoutFields lD_9 0).isSome = true := by decide +kernel
  obtain ⟨x, hx⟩ := Option.isSome_iff_exists.mp h
  simp [ll_9, hx]
theorem lco_9 : (lf_9.code.map fun c => (c.code.data, c.maxLocals)) = some (hbE.data, 3) := by decide +kernel
theorem lfl_9 : (lf_9.accessFlags, lf_9.sig.returnType) = (0x0001, (none : Option FieldType)) := by decide +kernel
theorem lty_9 : ll_9.2.1.toList = [.array (.object "KeptCurves$Fibre")] := by decide +kernel
theorem leM_9 : lD_9.constantPool[23]? = some (.methodref 19 22) ∧ lD_9.constantPool.className? 19 = some "KeptCurves" ∧ lD_9.constantPool.nameAndType? 22 = some (yX0_lambda_rank_3.name, yX0_lambda_rank_3.desc) := by decide +kernel
theorem leC_9 : lD_9.constantPool[19]? = some (.class_ 18) ∧ lD_9.constantPool.string? 18 = some "KeptCurves" ∧ 19 ≠ lD_9.thisClass := by decide +kernel
theorem lim_9 : lm_9.implClass = "KeptCurves" ∧ lm_9.implItf = false ∧ lm_9.implName = yX0_lambda_rank_3.name ∧ lm_9.implDesc.toString = yX0_lambda_rank_3.desc ∧ yX0_lambda_rank_3.cls = "KeptCurves" := by decide +kernel
theorem leF0_9 : lD_9.constantPool[15]? = some (.fieldref 2 14) ∧ lD_9.constantPool.nameAndType? 14 = some ("arg$1", "[LKeptCurves$Fibre;") ∧ ll_9.1.findIdx? (·.name == "arg$1") = some 0 ∧ (ll_9.1[0]?).map (fun f => (f.isStatic, f.slot)) = some (false, 0) := by decide +kernel
