/-! calls through the lambdas: a row each -/
set_option maxRecDepth 100000
section LC
variable {p : Program} {l : Launch} {e : Env} {R : Room} {s : State} {m : MethodId} {args : Array Value} {below : List Frame} {meth : Method} {c : Code} {H : Heap} {locs : List Loc} {cells slots : Nat} {Q : State → Prop} {cc : ByteArray} {pc : Nat} {ls : Array Slot} {rest : List Value}
def xiA : MethodName := ⟨"KeptCurves$Turn", "turns", "(I)I"⟩
def xiB : MethodName := ⟨"KeptCurves$Act", "does", "(II)I"⟩
def xiC : MethodName := ⟨"KeptCurves$Looks", "looks", "(II)V"⟩
theorem g_lc0 {X : gX} {σ : gS} {post : Option Value → gS → Prop} {own : String} {index count nL fr mc ms lo b t : Nat} {ra : Nat} {x1 : Int32} (hx : p.tables.exec = Jvm.exec) (hb : c.code = cc) (hml : c.maxLocals = nL) (hown : s.vm.findClass own = some m.cls) (hts : ∀ w ∈ lw_all, w.before args s = true) (hK : gIn X s) (hG : gSat X σ H) (hS : va_S (gA X) s.heap H locs) (hls : ls.size = nL)
    (hM : gMet l X yX0_swapsX cX0_swapsX 4 (some .int) fr mc ms lo σ [.ref ra, .int x1] post) (hc : σ b = some (t, gL 0 [.ref ra])) {t2 : Nat} {fs : List Value} (hrec : σ ra = some (t2, gO 0 fs)) (h1 : Cond.methodLink own index xiA ∈ lw_all) (hok : ∀ v σ', post v σ' → (fun v => ∃ w : Int32, v = some (.int w)) v)
    (hR : fr + 2 ≤ R.frames ∧ 8 + (2 + 11) + (8 + (4 + 11) + lo) ≤ R.locals) (hf : cells + mc ≤ R.cells ∧ slots + ms ≤ R.slots) (hcat : (rest.map fun v => v.category).sum ≤ 8) (hdg : decode cc pc = .ok (.invokeinterface index count, 5))
    (kk : ∀ (v : Option Value) (σ' : gS) (H1 : Heap) (locs1 : List Loc), post v σ' → gSat X σ' H1 → va_S (gA X) s.heap H1 locs1 → W p l e R s m args below meth c H1 locs1 (cells + mc) (slots + ms) Q ((fun st => F0 m (pc + 5) ls st) (v.toList ++ rest))) : W p l e R s m args below meth c H locs cells slots Q (F0 m pc ls ([.int x1].reverse ++ .ref b :: rest)) := by
  obtain ⟨d, methk, ck, hfc, hmade, hfl, hdat, hmL, hrt, hB, hF⟩ := lam_at (k := 0) (σ := lm_0) (by decide) rfl lfi_0 lse_0 lla_0 lco_0 lfl_0 hK hts
  have hcell : H[b]? = some { cls := X.2.2.1 0, slots := [.ref ra].toArray, vm := .none } := (hG b t _ hc).1
  obtain ⟨cr, c1, c2, c3⟩ := g_recv hK hG hrec rfl
  refine g_lam (d := d) (lmk := lm_0) (methk := methk) (ck := ck) (As := [.int x1]) (okv := (fun v => ∃ w : Int32, v = some (.int w))) 1 hx hb hml hown hts hK hG hS hls hM ⟨_, hcell, rfl, rfl⟩ h1 (hK.iM (by decide) q402 q401 args) hmade (by decide +kernel) hfl hB (fun hadm => ?_) hok q69 q357 (by decide +kernel) rfl hR hf hcat hdg kk
  refine runV (ra := ra) (pk := 5) (mi := 22) (n := 1) (cB := d) (As2 := [.int x1]) (Ls := #[.val (.ref b), .val (.int x1)]) hx (fun U hW => lam_V (A := args) hadm (hF U hW) leM_0 leC_0 lim_0 (word_at hW (Or.inl rfl) (hts _ q357)) (word_at hW (Or.inl rfl) (hts _ q356)) (word_at hW (Or.inl rfl) (hts _ qs2)) (by decide +kernel)) rfl ⟨cr, c1, c2, Option.some.inj (c3.symm.trans hfc)⟩ (by rw [hdat]; exact dhA_5) (by rw [hmL]; rfl) (Or.inl ⟨hrt, by rw [hdat]; exact dhA_8, fun v h => h⟩) ?_
  intro R' below' s' U₀ hW hH Y
  rw [hmL]
  show Steps p.tables e below' (U₀.setTop { method := ⟨X.2.2.1 0, 1⟩, pc := 0, locals := #[.val (.ref b), .val (.int x1)], stack := [], locked := none }) _
  obtain ⟨fld0, hr0, hs0, hl0⟩ := lam_F (hF U₀ hW) leF0_0.1 leF0_0.2.1 leF0_0.2.2.1 leF0_0.2.2.2
  jvm_step Y.here [hx, hdat, dhA_0, Value.isRef]
  jvm_step Y.here [hx, hdat, dhA_1, getfield.wp_ready (e := e) (s := U₀) (c := X.2.2.1 0) (field := fld0) (a := b) (rest := []) (cell := { cls := X.2.2.1 0, slots := [.ref ra].toArray, vm := .none }) (v := .ref ra) (f := { method := ⟨X.2.2.1 0, 1⟩, pc := 1, locals := #[.val (.ref b), .val (.int x1)], stack := [.ref b], locked := none }) Y.here.top hr0 hs0 rfl (by rw [hH]; exact hcell) (fun h => by cases h) (by rw [hl0]; rfl)]
  jvm_step Y.here [hx, hdat, dhA_4]
  exact Steps.refl _
theorem g_lc1 {X : gX} {σ : gS} {post : Option Value → gS → Prop} {own : String} {index count nL fr mc ms lo b t : Nat} {ra : Nat} {x1 : Int32} (hx : p.tables.exec = Jvm.exec) (hb : c.code = cc) (hml : c.maxLocals = nL) (hown : s.vm.findClass own = some m.cls) (hts : ∀ w ∈ lw_all, w.before args s = true) (hK : gIn X s) (hG : gSat X σ H) (hS : va_S (gA X) s.heap H locs) (hls : ls.size = nL)
    (hM : gMet l X yX0_swapsY cX0_swapsY 4 (some .int) fr mc ms lo σ [.ref ra, .int x1] post) (hc : σ b = some (t, gL 1 [.ref ra])) {t2 : Nat} {fs : List Value} (hrec : σ ra = some (t2, gO 0 fs)) (h1 : Cond.methodLink own index xiA ∈ lw_all) (hok : ∀ v σ', post v σ' → (fun v => ∃ w : Int32, v = some (.int w)) v)
    (hR : fr + 2 ≤ R.frames ∧ 8 + (2 + 11) + (8 + (4 + 11) + lo) ≤ R.locals) (hf : cells + mc ≤ R.cells ∧ slots + ms ≤ R.slots) (hcat : (rest.map fun v => v.category).sum ≤ 8) (hdg : decode cc pc = .ok (.invokeinterface index count, 5))
    (kk : ∀ (v : Option Value) (σ' : gS) (H1 : Heap) (locs1 : List Loc), post v σ' → gSat X σ' H1 → va_S (gA X) s.heap H1 locs1 → W p l e R s m args below meth c H1 locs1 (cells + mc) (slots + ms) Q ((fun st => F0 m (pc + 5) ls st) (v.toList ++ rest))) : W p l e R s m args below meth c H locs cells slots Q (F0 m pc ls ([.int x1].reverse ++ .ref b :: rest)) := by
  obtain ⟨d, methk, ck, hfc, hmade, hfl, hdat, hmL, hrt, hB, hF⟩ := lam_at (k := 1) (σ := lm_1) (by decide) rfl lfi_1 lse_1 lla_1 lco_1 lfl_1 hK hts
  have hcell : H[b]? = some { cls := X.2.2.1 1, slots := [.ref ra].toArray, vm := .none } := (hG b t _ hc).1
  obtain ⟨cr, c1, c2, c3⟩ := g_recv hK hG hrec rfl
  refine g_lam (d := d) (lmk := lm_1) (methk := methk) (ck := ck) (As := [.int x1]) (okv := (fun v => ∃ w : Int32, v = some (.int w))) 1 hx hb hml hown hts hK hG hS hls hM ⟨_, hcell, rfl, rfl⟩ h1 (hK.iM (by decide) q402 q401 args) hmade (by decide +kernel) hfl hB (fun hadm => ?_) hok q69 q392 (by decide +kernel) rfl hR hf hcat hdg kk
  refine runV (ra := ra) (pk := 5) (mi := 22) (n := 1) (cB := d) (As2 := [.int x1]) (Ls := #[.val (.ref b), .val (.int x1)]) hx (fun U hW => lam_V (A := args) hadm (hF U hW) leM_1 leC_1 lim_1 (word_at hW (Or.inl rfl) (hts _ q392)) (word_at hW (Or.inl rfl) (hts _ q391)) (word_at hW (Or.inl rfl) (hts _ qs6)) (by decide +kernel)) rfl ⟨cr, c1, c2, Option.some.inj (c3.symm.trans hfc)⟩ (by rw [hdat]; exact dhA_5) (by rw [hmL]; rfl) (Or.inl ⟨hrt, by rw [hdat]; exact dhA_8, fun v h => h⟩) ?_
  intro R' below' s' U₀ hW hH Y
  rw [hmL]
  show Steps p.tables e below' (U₀.setTop { method := ⟨X.2.2.1 1, 1⟩, pc := 0, locals := #[.val (.ref b), .val (.int x1)], stack := [], locked := none }) _
  obtain ⟨fld0, hr0, hs0, hl0⟩ := lam_F (hF U₀ hW) leF0_1.1 leF0_1.2.1 leF0_1.2.2.1 leF0_1.2.2.2
  jvm_step Y.here [hx, hdat, dhA_0, Value.isRef]
  jvm_step Y.here [hx, hdat, dhA_1, getfield.wp_ready (e := e) (s := U₀) (c := X.2.2.1 1) (field := fld0) (a := b) (rest := []) (cell := { cls := X.2.2.1 1, slots := [.ref ra].toArray, vm := .none }) (v := .ref ra) (f := { method := ⟨X.2.2.1 1, 1⟩, pc := 1, locals := #[.val (.ref b), .val (.int x1)], stack := [.ref b], locked := none }) Y.here.top hr0 hs0 rfl (by rw [hH]; exact hcell) (fun h => by cases h) (by rw [hl0]; rfl)]
  jvm_step Y.here [hx, hdat, dhA_4]
  exact Steps.refl _
theorem g_lc2 {X : gX} {σ : gS} {post : Option Value → gS → Prop} {own : String} {index count nL fr mc ms lo b t : Nat} {ra : Nat} {x1 : Int32} (hx : p.tables.exec = Jvm.exec) (hb : c.code = cc) (hml : c.maxLocals = nL) (hown : s.vm.findClass own = some m.cls) (hts : ∀ w ∈ lw_all, w.before args s = true) (hK : gIn X s) (hG : gSat X σ H) (hS : va_S (gA X) s.heap H locs) (hls : ls.size = nL)
    (hM : gMet l X yX0_steps cX0_steps 2 (some .int) fr mc ms lo σ [.ref ra, .int x1] post) (hc : σ b = some (t, gL 2 [.ref ra])) {t2 : Nat} {fs : List Value} (hrec : σ ra = some (t2, gO 0 fs)) (h1 : Cond.methodLink own index xiA ∈ lw_all) (hok : ∀ v σ', post v σ' → (fun v => ∃ w : Int32, v = some (.int w)) v)
    (hR : fr + 2 ≤ R.frames ∧ 8 + (2 + 11) + (8 + (2 + 11) + lo) ≤ R.locals) (hf : cells + mc ≤ R.cells ∧ slots + ms ≤ R.slots) (hcat : (rest.map fun v => v.category).sum ≤ 8) (hdg : decode cc pc = .ok (.invokeinterface index count, 5))
    (kk : ∀ (v : Option Value) (σ' : gS) (H1 : Heap) (locs1 : List Loc), post v σ' → gSat X σ' H1 → va_S (gA X) s.heap H1 locs1 → W p l e R s m args below meth c H1 locs1 (cells + mc) (slots + ms) Q ((fun st => F0 m (pc + 5) ls st) (v.toList ++ rest))) : W p l e R s m args below meth c H locs cells slots Q (F0 m pc ls ([.int x1].reverse ++ .ref b :: rest)) := by
  obtain ⟨d, methk, ck, hfc, hmade, hfl, hdat, hmL, hrt, hB, hF⟩ := lam_at (k := 2) (σ := lm_2) (by decide) rfl lfi_2 lse_2 lla_2 lco_2 lfl_2 hK hts
  have hcell : H[b]? = some { cls := X.2.2.1 2, slots := [.ref ra].toArray, vm := .none } := (hG b t _ hc).1
  obtain ⟨cr, c1, c2, c3⟩ := g_recv hK hG hrec rfl
  refine g_lam (d := d) (lmk := lm_2) (methk := methk) (ck := ck) (As := [.int x1]) (okv := (fun v => ∃ w : Int32, v = some (.int w))) 1 hx hb hml hown hts hK hG hS hls hM ⟨_, hcell, rfl, rfl⟩ h1 (hK.iM (by decide) q402 q401 args) hmade (by decide +kernel) hfl hB (fun hadm => ?_) hok q69 q395 (by decide +kernel) rfl hR hf hcat hdg kk
  refine runV (ra := ra) (pk := 5) (mi := 22) (n := 1) (cB := d) (As2 := [.int x1]) (Ls := #[.val (.ref b), .val (.int x1)]) hx (fun U hW => lam_V (A := args) hadm (hF U hW) leM_2 leC_2 lim_2 (word_at hW (Or.inl rfl) (hts _ q395)) (word_at hW (Or.inl rfl) (hts _ q394)) (word_at hW (Or.inl rfl) (hts _ qs7)) (by decide +kernel)) rfl ⟨cr, c1, c2, Option.some.inj (c3.symm.trans hfc)⟩ (by rw [hdat]; exact dhA_5) (by rw [hmL]; rfl) (Or.inl ⟨hrt, by rw [hdat]; exact dhA_8, fun v h => h⟩) ?_
  intro R' below' s' U₀ hW hH Y
  rw [hmL]
  show Steps p.tables e below' (U₀.setTop { method := ⟨X.2.2.1 2, 1⟩, pc := 0, locals := #[.val (.ref b), .val (.int x1)], stack := [], locked := none }) _
  obtain ⟨fld0, hr0, hs0, hl0⟩ := lam_F (hF U₀ hW) leF0_2.1 leF0_2.2.1 leF0_2.2.2.1 leF0_2.2.2.2
  jvm_step Y.here [hx, hdat, dhA_0, Value.isRef]
  jvm_step Y.here [hx, hdat, dhA_1, getfield.wp_ready (e := e) (s := U₀) (c := X.2.2.1 2) (field := fld0) (a := b) (rest := []) (cell := { cls := X.2.2.1 2, slots := [.ref ra].toArray, vm := .none }) (v := .ref ra) (f := { method := ⟨X.2.2.1 2, 1⟩, pc := 1, locals := #[.val (.ref b), .val (.int x1)], stack := [.ref b], locked := none }) Y.here.top hr0 hs0 rfl (by rw [hH]; exact hcell) (fun h => by cases h) (by rw [hl0]; rfl)]
  jvm_step Y.here [hx, hdat, dhA_4]
  exact Steps.refl _
theorem g_lc3 {X : gX} {σ : gS} {post : Option Value → gS → Prop} {own : String} {index count nL fr mc ms lo b t : Nat} {ra : Nat} {x1 : Int32} (hx : p.tables.exec = Jvm.exec) (hb : c.code = cc) (hml : c.maxLocals = nL) (hown : s.vm.findClass own = some m.cls) (hts : ∀ w ∈ lw_all, w.before args s = true) (hK : gIn X s) (hG : gSat X σ H) (hS : va_S (gA X) s.heap H locs) (hls : ls.size = nL)
    (hM : gMet l X yX0_stepsBack cX0_stepsBack 2 (some .int) fr mc ms lo σ [.ref ra, .int x1] post) (hc : σ b = some (t, gL 3 [.ref ra])) {t2 : Nat} {fs : List Value} (hrec : σ ra = some (t2, gO 0 fs)) (h1 : Cond.methodLink own index xiA ∈ lw_all) (hok : ∀ v σ', post v σ' → (fun v => ∃ w : Int32, v = some (.int w)) v)
    (hR : fr + 2 ≤ R.frames ∧ 8 + (2 + 11) + (8 + (2 + 11) + lo) ≤ R.locals) (hf : cells + mc ≤ R.cells ∧ slots + ms ≤ R.slots) (hcat : (rest.map fun v => v.category).sum ≤ 8) (hdg : decode cc pc = .ok (.invokeinterface index count, 5))
    (kk : ∀ (v : Option Value) (σ' : gS) (H1 : Heap) (locs1 : List Loc), post v σ' → gSat X σ' H1 → va_S (gA X) s.heap H1 locs1 → W p l e R s m args below meth c H1 locs1 (cells + mc) (slots + ms) Q ((fun st => F0 m (pc + 5) ls st) (v.toList ++ rest))) : W p l e R s m args below meth c H locs cells slots Q (F0 m pc ls ([.int x1].reverse ++ .ref b :: rest)) := by
  obtain ⟨d, methk, ck, hfc, hmade, hfl, hdat, hmL, hrt, hB, hF⟩ := lam_at (k := 3) (σ := lm_3) (by decide) rfl lfi_3 lse_3 lla_3 lco_3 lfl_3 hK hts
  have hcell : H[b]? = some { cls := X.2.2.1 3, slots := [.ref ra].toArray, vm := .none } := (hG b t _ hc).1
  obtain ⟨cr, c1, c2, c3⟩ := g_recv hK hG hrec rfl
  refine g_lam (d := d) (lmk := lm_3) (methk := methk) (ck := ck) (As := [.int x1]) (okv := (fun v => ∃ w : Int32, v = some (.int w))) 1 hx hb hml hown hts hK hG hS hls hM ⟨_, hcell, rfl, rfl⟩ h1 (hK.iM (by decide) q402 q401 args) hmade (by decide +kernel) hfl hB (fun hadm => ?_) hok q69 q405 (by decide +kernel) rfl hR hf hcat hdg kk
  refine runV (ra := ra) (pk := 5) (mi := 22) (n := 1) (cB := d) (As2 := [.int x1]) (Ls := #[.val (.ref b), .val (.int x1)]) hx (fun U hW => lam_V (A := args) hadm (hF U hW) leM_3 leC_3 lim_3 (word_at hW (Or.inl rfl) (hts _ q405)) (word_at hW (Or.inl rfl) (hts _ q404)) (word_at hW (Or.inl rfl) (hts _ qs8)) (by decide +kernel)) rfl ⟨cr, c1, c2, Option.some.inj (c3.symm.trans hfc)⟩ (by rw [hdat]; exact dhA_5) (by rw [hmL]; rfl) (Or.inl ⟨hrt, by rw [hdat]; exact dhA_8, fun v h => h⟩) ?_
  intro R' below' s' U₀ hW hH Y
  rw [hmL]
  show Steps p.tables e below' (U₀.setTop { method := ⟨X.2.2.1 3, 1⟩, pc := 0, locals := #[.val (.ref b), .val (.int x1)], stack := [], locked := none }) _
  obtain ⟨fld0, hr0, hs0, hl0⟩ := lam_F (hF U₀ hW) leF0_3.1 leF0_3.2.1 leF0_3.2.2.1 leF0_3.2.2.2
  jvm_step Y.here [hx, hdat, dhA_0, Value.isRef]
  jvm_step Y.here [hx, hdat, dhA_1, getfield.wp_ready (e := e) (s := U₀) (c := X.2.2.1 3) (field := fld0) (a := b) (rest := []) (cell := { cls := X.2.2.1 3, slots := [.ref ra].toArray, vm := .none }) (v := .ref ra) (f := { method := ⟨X.2.2.1 3, 1⟩, pc := 1, locals := #[.val (.ref b), .val (.int x1)], stack := [.ref b], locked := none }) Y.here.top hr0 hs0 rfl (by rw [hH]; exact hcell) (fun h => by cases h) (by rw [hl0]; rfl)]
  jvm_step Y.here [hx, hdat, dhA_4]
  exact Steps.refl _
theorem g_lc4 {X : gX} {σ : gS} {post : Option Value → gS → Prop} {own : String} {index count nL fr mc ms lo b t : Nat} {ra : Nat} {x1 : Int32} {x2 : Int32} (hx : p.tables.exec = Jvm.exec) (hb : c.code = cc) (hml : c.maxLocals = nL) (hown : s.vm.findClass own = some m.cls) (hts : ∀ w ∈ lw_all, w.before args s = true) (hK : gIn X s) (hG : gSat X σ H) (hS : va_S (gA X) s.heap H locs) (hls : ls.size = nL)
    (hM : gMet l X yX0_lambda_new_0 cX0_lambda_new_0 3 (some .int) fr mc ms lo σ [.ref ra, .int x1, .int x2] post) (hc : σ b = some (t, gL 4 [.ref ra])) {t2 : Nat} {fs : List Value} (hrec : σ ra = some (t2, gO 0 fs)) (h1 : Cond.methodLink own index xiB ∈ lw_all) (hok : ∀ v σ', post v σ' → (fun v => ∃ w : Int32, v = some (.int w)) v)
    (hR : fr + 2 ≤ R.frames ∧ 8 + (3 + 11) + (8 + (3 + 11) + lo) ≤ R.locals) (hf : cells + mc ≤ R.cells ∧ slots + ms ≤ R.slots) (hcat : (rest.map fun v => v.category).sum ≤ 8) (hdg : decode cc pc = .ok (.invokeinterface index count, 5))
    (kk : ∀ (v : Option Value) (σ' : gS) (H1 : Heap) (locs1 : List Loc), post v σ' → gSat X σ' H1 → va_S (gA X) s.heap H1 locs1 → W p l e R s m args below meth c H1 locs1 (cells + mc) (slots + ms) Q ((fun st => F0 m (pc + 5) ls st) (v.toList ++ rest))) : W p l e R s m args below meth c H locs cells slots Q (F0 m pc ls ([.int x1, .int x2].reverse ++ .ref b :: rest)) := by
  obtain ⟨d, methk, ck, hfc, hmade, hfl, hdat, hmL, hrt, hB, hF⟩ := lam_at (k := 4) (σ := lm_4) (by decide) rfl lfi_4 lse_4 lla_4 lco_4 lfl_4 hK hts
  have hcell : H[b]? = some { cls := X.2.2.1 4, slots := [.ref ra].toArray, vm := .none } := (hG b t _ hc).1
  obtain ⟨cr, c1, c2, c3⟩ := g_recv hK hG hrec rfl
  refine g_lam (d := d) (lmk := lm_4) (methk := methk) (ck := ck) (As := [.int x1, .int x2]) (okv := (fun v => ∃ w : Int32, v = some (.int w))) 2 hx hb hml hown hts hK hG hS hls hM ⟨_, hcell, rfl, rfl⟩ h1 (hK.iM (by decide) q1636 q1635 args) hmade (by decide +kernel) hfl hB (fun hadm => ?_) hok q69 q408 (by decide +kernel) rfl hR hf hcat hdg kk
  refine runV (ra := ra) (pk := 6) (mi := 22) (n := 2) (cB := d) (As2 := [.int x1, .int x2]) (Ls := #[.val (.ref b), .val (.int x1), .val (.int x2)]) hx (fun U hW => lam_V (A := args) hadm (hF U hW) leM_4 leC_4 lim_4 (word_at hW (Or.inl rfl) (hts _ q408)) (word_at hW (Or.inl rfl) (hts _ q407)) (word_at hW (Or.inl rfl) (hts _ qs9)) (by decide +kernel)) rfl ⟨cr, c1, c2, Option.some.inj (c3.symm.trans hfc)⟩ (by rw [hdat]; exact dhB_6) (by rw [hmL]; rfl) (Or.inl ⟨hrt, by rw [hdat]; exact dhB_9, fun v h => h⟩) ?_
  intro R' below' s' U₀ hW hH Y
  rw [hmL]
  show Steps p.tables e below' (U₀.setTop { method := ⟨X.2.2.1 4, 1⟩, pc := 0, locals := #[.val (.ref b), .val (.int x1), .val (.int x2)], stack := [], locked := none }) _
  obtain ⟨fld0, hr0, hs0, hl0⟩ := lam_F (hF U₀ hW) leF0_4.1 leF0_4.2.1 leF0_4.2.2.1 leF0_4.2.2.2
  jvm_step Y.here [hx, hdat, dhB_0, Value.isRef]
  jvm_step Y.here [hx, hdat, dhB_1, getfield.wp_ready (e := e) (s := U₀) (c := X.2.2.1 4) (field := fld0) (a := b) (rest := []) (cell := { cls := X.2.2.1 4, slots := [.ref ra].toArray, vm := .none }) (v := .ref ra) (f := { method := ⟨X.2.2.1 4, 1⟩, pc := 1, locals := #[.val (.ref b), .val (.int x1), .val (.int x2)], stack := [.ref b], locked := none }) Y.here.top hr0 hs0 rfl (by rw [hH]; exact hcell) (fun h => by cases h) (by rw [hl0]; rfl)]
  jvm_step Y.here [hx, hdat, dhB_4]
  jvm_step Y.here [hx, hdat, dhB_5]
  exact Steps.refl _
theorem g_lc5 {X : gX} {σ : gS} {post : Option Value → gS → Prop} {own : String} {index count nL fr mc ms lo b t : Nat} {ra : Nat} {x1 : Int32} {x2 : Int32} (hx : p.tables.exec = Jvm.exec) (hb : c.code = cc) (hml : c.maxLocals = nL) (hown : s.vm.findClass own = some m.cls) (hts : ∀ w ∈ lw_all, w.before args s = true) (hK : gIn X s) (hG : gSat X σ H) (hS : va_S (gA X) s.heap H locs) (hls : ls.size = nL)
    (hM : gMet l X yX0_lambda_new_1 cX0_lambda_new_1 3 (some .int) fr mc ms lo σ [.ref ra, .int x1, .int x2] post) (hc : σ b = some (t, gL 5 [.ref ra])) {t2 : Nat} {fs : List Value} (hrec : σ ra = some (t2, gO 0 fs)) (h1 : Cond.methodLink own index xiB ∈ lw_all) (hok : ∀ v σ', post v σ' → (fun v => ∃ w : Int32, v = some (.int w)) v)
    (hR : fr + 2 ≤ R.frames ∧ 8 + (3 + 11) + (8 + (3 + 11) + lo) ≤ R.locals) (hf : cells + mc ≤ R.cells ∧ slots + ms ≤ R.slots) (hcat : (rest.map fun v => v.category).sum ≤ 8) (hdg : decode cc pc = .ok (.invokeinterface index count, 5))
    (kk : ∀ (v : Option Value) (σ' : gS) (H1 : Heap) (locs1 : List Loc), post v σ' → gSat X σ' H1 → va_S (gA X) s.heap H1 locs1 → W p l e R s m args below meth c H1 locs1 (cells + mc) (slots + ms) Q ((fun st => F0 m (pc + 5) ls st) (v.toList ++ rest))) : W p l e R s m args below meth c H locs cells slots Q (F0 m pc ls ([.int x1, .int x2].reverse ++ .ref b :: rest)) := by
  obtain ⟨d, methk, ck, hfc, hmade, hfl, hdat, hmL, hrt, hB, hF⟩ := lam_at (k := 5) (σ := lm_5) (by decide) rfl lfi_5 lse_5 lla_5 lco_5 lfl_5 hK hts
  have hcell : H[b]? = some { cls := X.2.2.1 5, slots := [.ref ra].toArray, vm := .none } := (hG b t _ hc).1
  obtain ⟨cr, c1, c2, c3⟩ := g_recv hK hG hrec rfl
  refine g_lam (d := d) (lmk := lm_5) (methk := methk) (ck := ck) (As := [.int x1, .int x2]) (okv := (fun v => ∃ w : Int32, v = some (.int w))) 2 hx hb hml hown hts hK hG hS hls hM ⟨_, hcell, rfl, rfl⟩ h1 (hK.iM (by decide) q1636 q1635 args) hmade (by decide +kernel) hfl hB (fun hadm => ?_) hok q69 q414 (by decide +kernel) rfl hR hf hcat hdg kk
  refine runV (ra := ra) (pk := 6) (mi := 22) (n := 2) (cB := d) (As2 := [.int x1, .int x2]) (Ls := #[.val (.ref b), .val (.int x1), .val (.int x2)]) hx (fun U hW => lam_V (A := args) hadm (hF U hW) leM_5 leC_5 lim_5 (word_at hW (Or.inl rfl) (hts _ q414)) (word_at hW (Or.inl rfl) (hts _ q413)) (word_at hW (Or.inl rfl) (hts _ qs10)) (by decide +kernel)) rfl ⟨cr, c1, c2, Option.some.inj (c3.symm.trans hfc)⟩ (by rw [hdat]; exact dhB_6) (by rw [hmL]; rfl) (Or.inl ⟨hrt, by rw [hdat]; exact dhB_9, fun v h => h⟩) ?_
  intro R' below' s' U₀ hW hH Y
  rw [hmL]
  show Steps p.tables e below' (U₀.setTop { method := ⟨X.2.2.1 5, 1⟩, pc := 0, locals := #[.val (.ref b), .val (.int x1), .val (.int x2)], stack := [], locked := none }) _
  obtain ⟨fld0, hr0, hs0, hl0⟩ := lam_F (hF U₀ hW) leF0_5.1 leF0_5.2.1 leF0_5.2.2.1 leF0_5.2.2.2
  jvm_step Y.here [hx, hdat, dhB_0, Value.isRef]
  jvm_step Y.here [hx, hdat, dhB_1, getfield.wp_ready (e := e) (s := U₀) (c := X.2.2.1 5) (field := fld0) (a := b) (rest := []) (cell := { cls := X.2.2.1 5, slots := [.ref ra].toArray, vm := .none }) (v := .ref ra) (f := { method := ⟨X.2.2.1 5, 1⟩, pc := 1, locals := #[.val (.ref b), .val (.int x1), .val (.int x2)], stack := [.ref b], locked := none }) Y.here.top hr0 hs0 rfl (by rw [hH]; exact hcell) (fun h => by cases h) (by rw [hl0]; rfl)]
  jvm_step Y.here [hx, hdat, dhB_4]
  jvm_step Y.here [hx, hdat, dhB_5]
  exact Steps.refl _
theorem g_lc6 {X : gX} {σ : gS} {post : Option Value → gS → Prop} {own : String} {index count nL fr mc ms lo b t : Nat} {ra : Nat} {x1 : Int32} {x2 : Int32} (hx : p.tables.exec = Jvm.exec) (hb : c.code = cc) (hml : c.maxLocals = nL) (hown : s.vm.findClass own = some m.cls) (hts : ∀ w ∈ lw_all, w.before args s = true) (hK : gIn X s) (hG : gSat X σ H) (hS : va_S (gA X) s.heap H locs) (hls : ls.size = nL)
    (hM : gMet l X yX0_swapsOne cX0_swapsOne 3 (some .int) fr mc ms lo σ [.ref ra, .int x1, .int x2] post) (hc : σ b = some (t, gL 6 [.ref ra])) {t2 : Nat} {fs : List Value} (hrec : σ ra = some (t2, gO 0 fs)) (h1 : Cond.methodLink own index xiB ∈ lw_all) (hok : ∀ v σ', post v σ' → (fun v => ∃ w : Int32, v = some (.int w)) v)
    (hR : fr + 2 ≤ R.frames ∧ 8 + (3 + 11) + (8 + (3 + 11) + lo) ≤ R.locals) (hf : cells + mc ≤ R.cells ∧ slots + ms ≤ R.slots) (hcat : (rest.map fun v => v.category).sum ≤ 8) (hdg : decode cc pc = .ok (.invokeinterface index count, 5))
    (kk : ∀ (v : Option Value) (σ' : gS) (H1 : Heap) (locs1 : List Loc), post v σ' → gSat X σ' H1 → va_S (gA X) s.heap H1 locs1 → W p l e R s m args below meth c H1 locs1 (cells + mc) (slots + ms) Q ((fun st => F0 m (pc + 5) ls st) (v.toList ++ rest))) : W p l e R s m args below meth c H locs cells slots Q (F0 m pc ls ([.int x1, .int x2].reverse ++ .ref b :: rest)) := by
  obtain ⟨d, methk, ck, hfc, hmade, hfl, hdat, hmL, hrt, hB, hF⟩ := lam_at (k := 6) (σ := lm_6) (by decide) rfl lfi_6 lse_6 lla_6 lco_6 lfl_6 hK hts
  have hcell : H[b]? = some { cls := X.2.2.1 6, slots := [.ref ra].toArray, vm := .none } := (hG b t _ hc).1
  obtain ⟨cr, c1, c2, c3⟩ := g_recv hK hG hrec rfl
  refine g_lam (d := d) (lmk := lm_6) (methk := methk) (ck := ck) (As := [.int x1, .int x2]) (okv := (fun v => ∃ w : Int32, v = some (.int w))) 2 hx hb hml hown hts hK hG hS hls hM ⟨_, hcell, rfl, rfl⟩ h1 (hK.iM (by decide) q1636 q1635 args) hmade (by decide +kernel) hfl hB (fun hadm => ?_) hok q69 q417 (by decide +kernel) rfl hR hf hcat hdg kk
  refine runV (ra := ra) (pk := 6) (mi := 22) (n := 2) (cB := d) (As2 := [.int x1, .int x2]) (Ls := #[.val (.ref b), .val (.int x1), .val (.int x2)]) hx (fun U hW => lam_V (A := args) hadm (hF U hW) leM_6 leC_6 lim_6 (word_at hW (Or.inl rfl) (hts _ q417)) (word_at hW (Or.inl rfl) (hts _ q416)) (word_at hW (Or.inl rfl) (hts _ qs11)) (by decide +kernel)) rfl ⟨cr, c1, c2, Option.some.inj (c3.symm.trans hfc)⟩ (by rw [hdat]; exact dhB_6) (by rw [hmL]; rfl) (Or.inl ⟨hrt, by rw [hdat]; exact dhB_9, fun v h => h⟩) ?_
  intro R' below' s' U₀ hW hH Y
  rw [hmL]
  show Steps p.tables e below' (U₀.setTop { method := ⟨X.2.2.1 6, 1⟩, pc := 0, locals := #[.val (.ref b), .val (.int x1), .val (.int x2)], stack := [], locked := none }) _
  obtain ⟨fld0, hr0, hs0, hl0⟩ := lam_F (hF U₀ hW) leF0_6.1 leF0_6.2.1 leF0_6.2.2.1 leF0_6.2.2.2
  jvm_step Y.here [hx, hdat, dhB_0, Value.isRef]
  jvm_step Y.here [hx, hdat, dhB_1, getfield.wp_ready (e := e) (s := U₀) (c := X.2.2.1 6) (field := fld0) (a := b) (rest := []) (cell := { cls := X.2.2.1 6, slots := [.ref ra].toArray, vm := .none }) (v := .ref ra) (f := { method := ⟨X.2.2.1 6, 1⟩, pc := 1, locals := #[.val (.ref b), .val (.int x1), .val (.int x2)], stack := [.ref b], locked := none }) Y.here.top hr0 hs0 rfl (by rw [hH]; exact hcell) (fun h => by cases h) (by rw [hl0]; rfl)]
  jvm_step Y.here [hx, hdat, dhB_4]
  jvm_step Y.here [hx, hdat, dhB_5]
  exact Steps.refl _
theorem g_lc7 {X : gX} {σ : gS} {post : Option Value → gS → Prop} {own : String} {index count nL fr mc ms lo b t : Nat}  {x1 : Int32} {x2 : Int32} (hx : p.tables.exec = Jvm.exec) (hb : c.code = cc) (hml : c.maxLocals = nL) (hown : s.vm.findClass own = some m.cls) (hts : ∀ w ∈ lw_all, w.before args s = true) (hK : gIn X s) (hG : gSat X σ H) (hS : va_S (gA X) s.heap H locs) (hls : ls.size = nL)
    (hM : gMet l X yX0_turnedOver cX0_turnedOver 2 (some .int) fr mc ms lo σ [.int x1, .int x2] post) (hc : ∃ cell : Cell, H[b]? = some cell ∧ cell.cls = X.2.2.1 7 ∧ cell.vm = .none)  (h1 : Cond.methodLink own index xiB ∈ lw_all) (hok : ∀ v σ', post v σ' → (fun v => ∃ w : Int32, v = some (.int w)) v)
    (hR : fr + 2 ≤ R.frames ∧ 8 + (3 + 11) + (8 + (2 + 11) + lo) ≤ R.locals) (hf : cells + mc ≤ R.cells ∧ slots + ms ≤ R.slots) (hcat : (rest.map fun v => v.category).sum ≤ 8) (hdg : decode cc pc = .ok (.invokeinterface index count, 5))
    (kk : ∀ (v : Option Value) (σ' : gS) (H1 : Heap) (locs1 : List Loc), post v σ' → gSat X σ' H1 → va_S (gA X) s.heap H1 locs1 → W p l e R s m args below meth c H1 locs1 (cells + mc) (slots + ms) Q ((fun st => F0 m (pc + 5) ls st) (v.toList ++ rest))) : W p l e R s m args below meth c H locs cells slots Q (F0 m pc ls ([.int x1, .int x2].reverse ++ .ref b :: rest)) := by
  obtain ⟨d, methk, ck, hfc, hmade, hfl, hdat, hmL, hrt, hB, hF⟩ := lam_at (k := 7) (σ := lm_7) (by decide) rfl lfi_7 lse_7 lla_7 lco_7 lfl_7 hK hts
  refine g_lam (d := d) (lmk := lm_7) (methk := methk) (ck := ck) (As := [.int x1, .int x2]) (okv := (fun v => ∃ w : Int32, v = some (.int w))) 2 hx hb hml hown hts hK hG hS hls hM hc h1 (hK.iM (by decide) q1636 q1635 args) hmade (by decide +kernel) hfl hB (fun hadm => ?_) hok q69 q419 (by decide +kernel) rfl hR hf hcat hdg kk
  refine runS (pk := 2) (mi := 17) (n := 2) (As2 := [.int x1, .int x2]) (Ls := #[.val (.ref b), .val (.int x1), .val (.int x2)]) hx (fun U hW => lam_T (A := args) (hF U hW) leM_7 leC_7 lim_7 (word_at hW (Or.inl rfl) (hts _ q419)) (word_at hW (Or.inl rfl) (hts _ q418)) (word_at hW (Or.inl rfl) (hts _ q69)) (by decide +kernel)) rfl (by rw [hdat]; exact dhC_2) (by rw [hmL]; rfl) (Or.inl ⟨hrt, by rw [hdat]; exact dhC_5, fun v h => h⟩) ?_
  intro R' below' s' U₀ hW hH Y
  rw [hmL]
  show Steps p.tables e below' (U₀.setTop { method := ⟨X.2.2.1 7, 1⟩, pc := 0, locals := #[.val (.ref b), .val (.int x1), .val (.int x2)], stack := [], locked := none }) _
  jvm_step Y.here [hx, hdat, dhC_0]
  jvm_step Y.here [hx, hdat, dhC_1]
  exact Steps.refl _
theorem g_lc8 {X : gX} {σ : gS} {post : Option Value → gS → Prop} {own : String} {index count nL fr mc ms lo b t : Nat} {ra : Nat} {k0 : Int32} {x1 : Int32} {x2 : Int32} (hx : p.tables.exec = Jvm.exec) (hb : c.code = cc) (hml : c.maxLocals = nL) (hown : s.vm.findClass own = some m.cls) (hts : ∀ w ∈ lw_all, w.before args s = true) (hK : gIn X s) (hG : gSat X σ H) (hS : va_S (gA X) s.heap H locs) (hls : ls.size = nL)
    (hM : gMet l X yX0_lambda_gathers_2 cX0_lambda_gathers_2 4 none fr mc ms lo σ [.ref ra, .int k0, .int x1, .int x2] post) (hc : σ b = some (t, gL 8 [.ref ra, .int k0])) {t2 : Nat} {fs : List Value} (hrec : σ ra = some (t2, gO 0 fs)) (h1 : Cond.methodLink own index xiC ∈ lw_all) (hok : ∀ v σ', post v σ' → (fun v => v = none) v)
    (hR : fr + 2 ≤ R.frames ∧ 8 + (3 + 11) + (8 + (4 + 11) + lo) ≤ R.locals) (hf : cells + mc ≤ R.cells ∧ slots + ms ≤ R.slots) (hcat : (rest.map fun v => v.category).sum ≤ 8) (hdg : decode cc pc = .ok (.invokeinterface index count, 5))
    (kk : ∀ (v : Option Value) (σ' : gS) (H1 : Heap) (locs1 : List Loc), post v σ' → gSat X σ' H1 → va_S (gA X) s.heap H1 locs1 → W p l e R s m args below meth c H1 locs1 (cells + mc) (slots + ms) Q ((fun st => F0 m (pc + 5) ls st) (v.toList ++ rest))) : W p l e R s m args below meth c H locs cells slots Q (F0 m pc ls ([.int x1, .int x2].reverse ++ .ref b :: rest)) := by
  obtain ⟨d, methk, ck, hfc, hmade, hfl, hdat, hmL, hrt, hB, hF⟩ := lam_at (k := 8) (σ := lm_8) (by decide) rfl lfi_8 lse_8 lla_8 lco_8 lfl_8 hK hts
  have hcell : H[b]? = some { cls := X.2.2.1 8, slots := [.ref ra, .int k0].toArray, vm := .none } := (hG b t _ hc).1
  obtain ⟨cr, c1, c2, c3⟩ := g_recv hK hG hrec rfl
  refine g_lam (d := d) (lmk := lm_8) (methk := methk) (ck := ck) (As := [.int x1, .int x2]) (okv := (fun v => v = none)) 2 hx hb hml hown hts hK hG hS hls hM ⟨_, hcell, rfl, rfl⟩ h1 (hK.iM (by decide) q666 q665 args) hmade (by decide +kernel) hfl hB (fun hadm => ?_) hok q69 q654 (by decide +kernel) rfl hR hf hcat hdg kk
  refine runV (ra := ra) (pk := 10) (mi := 27) (n := 3) (cB := d) (As2 := [.int k0, .int x1, .int x2]) (Ls := #[.val (.ref b), .val (.int x1), .val (.int x2)]) hx (fun U hW => lam_V (A := args) hadm (hF U hW) leM_8 leC_8 lim_8 (word_at hW (Or.inl rfl) (hts _ q654)) (word_at hW (Or.inl rfl) (hts _ q653)) (word_at hW (Or.inl rfl) (hts _ qs21)) (by decide +kernel)) rfl ⟨cr, c1, c2, Option.some.inj (c3.symm.trans hfc)⟩ (by rw [hdat]; exact dhD_10) (by rw [hmL]; rfl) (Or.inr ⟨hrt, by rw [hdat]; exact dhD_13, fun v h => h⟩) ?_
  intro R' below' s' U₀ hW hH Y
  rw [hmL]
  show Steps p.tables e below' (U₀.setTop { method := ⟨X.2.2.1 8, 1⟩, pc := 0, locals := #[.val (.ref b), .val (.int x1), .val (.int x2)], stack := [], locked := none }) _
  obtain ⟨fld0, hr0, hs0, hl0⟩ := lam_F (hF U₀ hW) leF0_8.1 leF0_8.2.1 leF0_8.2.2.1 leF0_8.2.2.2
  obtain ⟨fld1, hr1, hs1, hl1⟩ := lam_F (hF U₀ hW) leF1_8.1 leF1_8.2.1 leF1_8.2.2.1 leF1_8.2.2.2
  jvm_step Y.here [hx, hdat, dhD_0, Value.isRef]
  jvm_step Y.here [hx, hdat, dhD_1, getfield.wp_ready (e := e) (s := U₀) (c := X.2.2.1 8) (field := fld0) (a := b) (rest := []) (cell := { cls := X.2.2.1 8, slots := [.ref ra, .int k0].toArray, vm := .none }) (v := .ref ra) (f := { method := ⟨X.2.2.1 8, 1⟩, pc := 1, locals := #[.val (.ref b), .val (.int x1), .val (.int x2)], stack := [.ref b], locked := none }) Y.here.top hr0 hs0 rfl (by rw [hH]; exact hcell) (fun h => by cases h) (by rw [hl0]; rfl)]
  jvm_step Y.here [hx, hdat, dhD_4, Value.isRef]
  jvm_step Y.here [hx, hdat, dhD_5, getfield.wp_ready (e := e) (s := U₀) (c := X.2.2.1 8) (field := fld1) (a := b) (rest := [.ref ra]) (cell := { cls := X.2.2.1 8, slots := [.ref ra, .int k0].toArray, vm := .none }) (v := .int k0) (f := { method := ⟨X.2.2.1 8, 1⟩, pc := 5, locals := #[.val (.ref b), .val (.int x1), .val (.int x2)], stack := [.ref b, .ref ra], locked := none }) Y.here.top hr1 hs1 rfl (by rw [hH]; exact hcell) (fun h => by cases h) (by rw [hl1]; rfl)]
  jvm_step Y.here [hx, hdat, dhD_8]
  jvm_step Y.here [hx, hdat, dhD_9]
  exact Steps.refl _
theorem g_lc9 {X : gX} {σ : gS} {post : Option Value → gS → Prop} {own : String} {index count nL fr mc ms lo b t : Nat} {ra : Nat} {x1 : Int32} {x2 : Int32} (hx : p.tables.exec = Jvm.exec) (hb : c.code = cc) (hml : c.maxLocals = nL) (hown : s.vm.findClass own = some m.cls) (hts : ∀ w ∈ lw_all, w.before args s = true) (hK : gIn X s) (hG : gSat X σ H) (hS : va_S (gA X) s.heap H locs) (hls : ls.size = nL)
    (hM : gMet l X yX0_lambda_rank_3 cX0_lambda_rank_3 3 none fr mc ms lo σ [.ref ra, .int x1, .int x2] post) (hc : σ b = some (t, gL 9 [.ref ra]))  (h1 : Cond.methodLink own index xiC ∈ lw_all) (hok : ∀ v σ', post v σ' → (fun v => v = none) v)
    (hR : fr + 2 ≤ R.frames ∧ 8 + (3 + 11) + (8 + (3 + 11) + lo) ≤ R.locals) (hf : cells + mc ≤ R.cells ∧ slots + ms ≤ R.slots) (hcat : (rest.map fun v => v.category).sum ≤ 8) (hdg : decode cc pc = .ok (.invokeinterface index count, 5))
    (kk : ∀ (v : Option Value) (σ' : gS) (H1 : Heap) (locs1 : List Loc), post v σ' → gSat X σ' H1 → va_S (gA X) s.heap H1 locs1 → W p l e R s m args below meth c H1 locs1 (cells + mc) (slots + ms) Q ((fun st => F0 m (pc + 5) ls st) (v.toList ++ rest))) : W p l e R s m args below meth c H locs cells slots Q (F0 m pc ls ([.int x1, .int x2].reverse ++ .ref b :: rest)) := by
  obtain ⟨d, methk, ck, hfc, hmade, hfl, hdat, hmL, hrt, hB, hF⟩ := lam_at (k := 9) (σ := lm_9) (by decide) rfl lfi_9 lse_9 lla_9 lco_9 lfl_9 hK hts
  have hcell : H[b]? = some { cls := X.2.2.1 9, slots := [.ref ra].toArray, vm := .none } := (hG b t _ hc).1
  refine g_lam (d := d) (lmk := lm_9) (methk := methk) (ck := ck) (As := [.int x1, .int x2]) (okv := (fun v => v = none)) 2 hx hb hml hown hts hK hG hS hls hM ⟨_, hcell, rfl, rfl⟩ h1 (hK.iM (by decide) q666 q665 args) hmade (by decide +kernel) hfl hB (fun hadm => ?_) hok q69 q697 (by decide +kernel) rfl hR hf hcat hdg kk
  refine runS (pk := 6) (mi := 23) (n := 3) (As2 := [.ref ra, .int x1, .int x2]) (Ls := #[.val (.ref b), .val (.int x1), .val (.int x2)]) hx (fun U hW => lam_T (A := args) (hF U hW) leM_9 leC_9 lim_9 (word_at hW (Or.inl rfl) (hts _ q697)) (word_at hW (Or.inl rfl) (hts _ q696)) (word_at hW (Or.inl rfl) (hts _ q69)) (by decide +kernel)) rfl (by rw [hdat]; exact dhE_6) (by rw [hmL]; rfl) (Or.inr ⟨hrt, by rw [hdat]; exact dhE_9, fun v h => h⟩) ?_
  intro R' below' s' U₀ hW hH Y
  rw [hmL]
  show Steps p.tables e below' (U₀.setTop { method := ⟨X.2.2.1 9, 1⟩, pc := 0, locals := #[.val (.ref b), .val (.int x1), .val (.int x2)], stack := [], locked := none }) _
  obtain ⟨fld0, hr0, hs0, hl0⟩ := lam_F (hF U₀ hW) leF0_9.1 leF0_9.2.1 leF0_9.2.2.1 leF0_9.2.2.2
  jvm_step Y.here [hx, hdat, dhE_0, Value.isRef]
  jvm_step Y.here [hx, hdat, dhE_1, getfield.wp_ready (e := e) (s := U₀) (c := X.2.2.1 9) (field := fld0) (a := b) (rest := []) (cell := { cls := X.2.2.1 9, slots := [.ref ra].toArray, vm := .none }) (v := .ref ra) (f := { method := ⟨X.2.2.1 9, 1⟩, pc := 1, locals := #[.val (.ref b), .val (.int x1), .val (.int x2)], stack := [.ref b], locked := none }) Y.here.top hr0 hs0 rfl (by rw [hH]; exact hcell) (fun h => by cases h) (by rw [hl0]; rfl)]
  jvm_step Y.here [hx, hdat, dhE_4]
  jvm_step Y.here [hx, hdat, dhE_5]
  exact Steps.refl _
end LC
