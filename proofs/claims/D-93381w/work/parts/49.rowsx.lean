/-! what the machine throws, and this method catches: over the map of cells -/
set_option maxRecDepth 100000
def xCD : Cond → Bool
  | .castable _ _ => true
  | .declares _ => true
  | _ => false
theorem gIn.words {X : gX} {U : State} {A : Array Value} (h : gIn X U) (hts : ∀ w ∈ lw_all, w.before A U = true) {L : List Cond} (hL : L.all (fun w => decide (w ∈ lw_tbl) && (goodWord w || xCD w)) = true) : ∀ w ∈ L, w.before A U = true := by
  intro w hw
  have h1 := List.all_eq_true.mp hL w hw
  simp only [Bool.and_eq_true, Bool.or_eq_true, decide_eq_true_eq] at h1
  obtain ⟨h1, h2⟩ := h1
  rcases h2 with g | g
  · exact hts w (List.mem_filter.mpr ⟨h1, g⟩)
  · cases w <;> first | exact va_Nw.use rfl (h.nC h1) | exact va_Nw.use rfl (h.nD h1) | (simp [xCD] at g)
theorem xa_npe : (vx_atN 8).all (fun w => decide (w ∈ lw_tbl) && (goodWord w || xCD w)) = true := by decide +kernel
theorem xg_npe : ∀ w ∈ vx_atN 8, vx_ot w = true := List.all_eq_true.mp (by decide +kernel : (vx_atN 8).all vx_ot = true)
abbrev nmAI : List String := ["java/lang/IndexOutOfBoundsException", "java/lang/RuntimeException", "java/lang/Exception"]
abbrev nmNA : List String := ["java/lang/RuntimeException", "java/lang/Exception"]
theorem xa_ai : (vx_atM "java/lang/ArrayIndexOutOfBoundsException" nmAI).all (fun w => decide (w ∈ lw_tbl) && (goodWord w || xCD w)) = true := by decide +kernel
theorem xg_ai : ∀ w ∈ vx_atM "java/lang/ArrayIndexOutOfBoundsException" nmAI, vx_ot w = true := List.all_eq_true.mp (by decide +kernel : (vx_atM "java/lang/ArrayIndexOutOfBoundsException" nmAI).all vx_ot = true)
theorem xa_na : (vx_atM "java/lang/NegativeArraySizeException" nmNA).all (fun w => decide (w ∈ lw_tbl) && (goodWord w || xCD w)) = true := by decide +kernel
theorem xg_na : ∀ w ∈ vx_atM "java/lang/NegativeArraySizeException" nmNA, vx_ot w = true := List.all_eq_true.mp (by decide +kernel : (vx_atM "java/lang/NegativeArraySizeException" nmNA).all vx_ot = true)
theorem gThU {X : gX} {s : State} (hK : gIn X s) : vx_Zq Bundle.tN "UNASSIGNED_STACK" Bundle.steD (gA X) s s.heap := by
  have h := vx_Zqof (A := gA X) (args := X.2.2.2.1) (s := X.2.2.2.2) (C := Bundle.tN) (n := "UNASSIGNED_STACK") (d := Bundle.steD) (hK.1.1 _ q287) (hK.1.1 _ (lw_all_tbl q82)) (hK.flat _ (by decide +kernel)) (gOut X)
  exact (h.moved hK.2.1.alike).kept hK.kept
theorem gThN {X : gX} {s : State} (hK : gIn X s) : vx_Zq Bundle.tN "SUPPRESSED_SENTINEL" Bundle.listD (gA X) s s.heap := by
  have h := vx_Zqof (A := gA X) (args := X.2.2.2.1) (s := X.2.2.2.2) (C := Bundle.tN) (n := "SUPPRESSED_SENTINEL") (d := Bundle.listD) (hK.1.1 _ q289) (hK.1.1 _ (lw_all_tbl q82)) (hK.flat _ (by decide +kernel)) (gOut X)
  exact (h.moved hK.2.1.alike).kept hK.kept
theorem gSat.grown {X : gX} {σ : gS} {H H1 : Heap} (h : gSat X σ H) (hq : ∀ q : Nat, q < H.size → H1[q]? = H[q]?) : gSat X σ H1 := fun a t x ha => ⟨(h a t x ha).1.kept (hq a (h a t x ha).1.lt), (h a t x ha).2⟩
theorem na_text {i : Int32} (h : i < 0) : (toString i == notModelled) = false := by
  rw [beq_eq_false_iff_ne]
  intro h1
  have h2 := congrArg String.toList h1
  have h4 : notModelled.toList = '\u0000' :: " a message that is not modelled".toList := by decide
  rw [h4] at h2
  have h5 : (toString i) = Int.repr i.toInt := rfl
  rw [h5] at h2
  have h6 : i.toInt < 0 := by have := Int32.lt_iff_toInt_lt.mp h; simpa using this
  cases hi : i.toInt with
  | ofNat m => rw [hi] at h6; exact absurd h6 (by show ¬ ((m : Int) < 0); omega)
  | negSucc m =>
    rw [hi] at h2
    have h7 : (Int.repr (Int.negSucc m)).toList = '-' :: (toString m.succ).toList := by
      show ("-" ++ toString m.succ).toList = _
      rw [String.toList_append]
      rfl
    rw [h7] at h2
    simp at h2
section GRX
variable {p : Program} {l : Launch} {e : Env} {R : Room} {s : State} {m : MethodId} {args : Array Value} {below : List Frame} {meth : Method} {c : Code} {H : Heap} {locs : List Loc} {cells slots : Nat} {Q : State → Prop} {cc : ByteArray} {pc : Nat} {ls : Array Slot} {rest : List Value}
/-- a class of exceptions caught here, behind rows that don't take it -/
def gHas (X : gX) (s : State) (args : Array Value) (c : Code) (own E : String) (pc hp : Nat) : Prop := ∃ (pre : List ExceptionTableEntry) (x : ExceptionTableEntry) (suf : List ExceptionTableEntry), c.exceptionTable.toList = pre ++ x :: suf ∧
  (∀ z ∈ pre, covers z pc = false ∨ (z.catchType ≠ 0 ∧ ∃ nm : String, (Cond.classLink own z.catchType nm).before args s = true ∧ va_Nc E nm s)) ∧ covers x pc = true ∧ x.catchType ≠ 0 ∧ (Cond.classLink own x.catchType E).before args s = true ∧ x.handlerPc = hp
theorem g_npeC {X : gX} {σ : gS} {own : String} {hp nL : Nat} (hx : p.tables.exec = Jvm.exec) (hl : l.stackTraces = false) (hml : c.maxLocals = nL) (hown : s.vm.findClass own = some m.cls) (hts : ∀ w ∈ lw_all, w.before args s = true) (hK : gIn X s) (hG : gSat X σ H) (hS : va_S (gA X) s.heap H locs) (hls : ls.size = nL) (hlocks : meth.locks = false)
    (hh : gHas X s args c own "java/lang/NullPointerException" pc hp) (hR : 7 < R.frames ∧ (rest.map fun v => v.category).sum + 10240 ≤ R.locals) (hf : cells + 1 ≤ R.cells ∧ slots + 8 ≤ R.slots)
    (kk : ∀ (H1 : Heap) (q : Nat), gSat X σ H1 → va_S (gA X) s.heap H1 locs → W p l e R s m args below meth c H1 locs (cells + 1) (slots + 8) Q (F0 m hp ls [.ref q])) : vx_NoteN p l e R s m args below meth c H locs cells slots Q (F0 m pc ls rest) := by
  refine vx_npe (nb := 8) (A := gA X) hx hl (hK.words hts xa_npe) xg_npe (gThU hK) (gThN hK) hS (hls.trans hml.symm) hR.1 hR.2 hf.1 hf.2 hlocks (fun H1 q9 ce h1 h2 h3 h4 h5 h6 => ?_)
  obtain ⟨pre, x, suf, hsp, hpass, hcov, h0, hlk, rfl⟩ := hh
  exact vx_catch hown pre x suf hsp hpass hcov h0 hlk (va_Nw.use rfl (hK.nC q738)) h4 h5 h6 (kk H1 q9 (hG.grown h2) h3)
theorem g_vmC {X : gX} {σ : gS} {own E text : String} {names : List String} {hp nL nb : Nat} (hx : p.tables.exec = Jvm.exec) (hl : l.stackTraces = false) (hml : c.maxLocals = nL) (hown : s.vm.findClass own = some m.cls) (hts : ∀ w ∈ lw_all, w.before args s = true) (hK : gIn X s) (hG : gSat X σ H) (hS : va_S (gA X) s.heap H locs) (hls : ls.size = nL) (hlocks : meth.locks = false)
    (hcls : Bundle.fit E = true) (hnames : ∀ n ∈ names, Bundle.fit n = true) (hsoe : (E == "java/lang/StackOverflowError") = false) (hoom : (E == "java/lang/OutOfMemoryError") = false) (ha : (vx_atM E names).all (fun w => decide (w ∈ lw_tbl) && (goodWord w || xCD w)) = true) (hg : ∀ w ∈ vx_atM E names, vx_ot w = true) (hcast : Cond.castable E E ∈ lw_tbl) (hlen : names.length ≤ 3)
    (htext : (text == notModelled) = false) (hnb : (stringBytes (stringToUtf16 text)).size ≤ nb) (hnb1 : nb ≤ 1000)
    (hh : gHas X s args c own E pc hp) (hR : 7 < R.frames ∧ (rest.map fun v => v.category).sum + 10240 ≤ R.locals) (hf : cells + 3 ≤ R.cells ∧ slots + (nb + 10) ≤ R.slots)
    (kk : ∀ (H1 : Heap) (q : Nat), gSat X σ H1 → va_S (gA X) s.heap H1 locs → W p l e R s m args below meth c H1 locs (cells + 3) (slots + (nb + 10)) Q (F0 m hp ls [.ref q])) : vx_Note p l e R s m args below meth c H locs cells slots Q (F0 m pc ls rest) E text := by
  refine vx_vm (names := names) (nb := nb) (A := gA X) hx hl hcls hnames hsoe hoom (hK.words hts ha) hg (gThU hK) (gThN hK) hS (hls.trans hml.symm) htext hnb hnb1 (by omega) hR.2 (by omega) hf.1 hf.2 hlocks (fun H1 q9 ce h1 h2 h3 h4 h5 h6 => ?_)
  obtain ⟨pre, x, suf, hsp, hpass, hcov, h0, hlk, rfl⟩ := hh
  exact vx_catch hown pre x suf hsp hpass hcov h0 hlk (va_Nw.use rfl (hK.nC hcast)) h4 h5 h6 (kk H1 q9 (hG.grown h2) h3)
end GRX
