/-! KeptCurves$Works -/
set_option maxRecDepth 100000
def RX1 : String := "KeptCurves$Works"
def TX1 : u_T := fun k => match k with
  | 0 => ("KeptCurves$Works", "tables", "[I", true)
  | 1 => ("KeptCurves$Works", "set", "Ljava/util/TreeSet;", true)
  | 2 => ("KeptCurves$Works", "plan", "[I", true)
  | _ => ("KeptCurves$Works", "planned", "I", false)
def tyX1 : Nat → FieldType := fun k => match k with
  | 0 => .array .int
  | 1 => .object "java/util/TreeSet"
  | 2 => .array .int
  | _ => .int
abbrev wsX10 : List Cond := u_ws RX1 TX1 4
theorem nmX1 : ∀ a, a < 4 → ∀ b, b < 4 → a ≠ b → (TX1 a).2.1 ≠ (TX1 b).2.1 := by decide +kernel
theorem tyX1_ok : ∀ k, k < 4 → parseFieldDescriptor (TX1 k).2.2.1 = some (tyX1 k) := by decide +kernel
abbrev cX1_init : ByteArray := prog_14_method_1_code
def yX1_init : MethodName := ⟨RX1, "<init>", "()V"⟩
def dkwX1_init_1 : List UInt8 := [16, 16, 188, 10, 181, 0, 22, 177]
abbrev dktX1_init_1 : List UInt8 := dkwX1_init_1 ++ []
def dkwX1_init_0 : List UInt8 := [42, 183, 0, 3, 42, 16, 18, 188, 10, 181, 0, 9, 42, 187, 0, 15, 89, 183, 0, 17, 181, 0, 18, 42]
abbrev dktX1_init_0 : List UInt8 := dkwX1_init_0 ++ dktX1_init_1
theorem dksX1_init_0 : cX1_init.data.toList.drop 0 = dktX1_init_0 := by decide +kernel
theorem dksX1_init_1 : cX1_init.data.toList.drop 24 = dktX1_init_1 := dk_seg dksX1_init_0 24 rfl rfl
theorem dX1_init_0 : decode cX1_init 0 = .ok (.aload_n 0, 1) := dk_42 (dk_at dksX1_init_0 0 rfl rfl)
theorem dX1_init_1 : decode cX1_init 1 = .ok (.invokespecial 3, 3) := dk_183 0 3 (dk_at dksX1_init_0 1 rfl rfl)
theorem dX1_init_4 : decode cX1_init 4 = .ok (.aload_n 0, 1) := dk_42 (dk_at dksX1_init_0 4 rfl rfl)
theorem dX1_init_5 : decode cX1_init 5 = .ok (.bipush 18, 2) := dk_16 18 (dk_at dksX1_init_0 5 rfl rfl)
theorem dX1_init_7 : decode cX1_init 7 = .ok (.newarray .int, 2) := dk_188_10 (dk_at dksX1_init_0 7 rfl rfl)
theorem dX1_init_9 : decode cX1_init 9 = .ok (.putfield 9, 3) := dk_181 0 9 (dk_at dksX1_init_0 9 rfl rfl)
theorem dX1_init_12 : decode cX1_init 12 = .ok (.aload_n 0, 1) := dk_42 (dk_at dksX1_init_0 12 rfl rfl)
theorem dX1_init_13 : decode cX1_init 13 = .ok (.new 15, 3) := dk_187 0 15 (dk_at dksX1_init_0 13 rfl rfl)
theorem dX1_init_16 : decode cX1_init 16 = .ok (.dup, 1) := dk_89 (dk_at dksX1_init_0 16 rfl rfl)
theorem dX1_init_17 : decode cX1_init 17 = .ok (.invokespecial 17, 3) := dk_183 0 17 (dk_at dksX1_init_0 17 rfl rfl)
theorem dX1_init_20 : decode cX1_init 20 = .ok (.putfield 18, 3) := dk_181 0 18 (dk_at dksX1_init_0 20 rfl rfl)
theorem dX1_init_23 : decode cX1_init 23 = .ok (.aload_n 0, 1) := dk_42 (dk_at dksX1_init_0 23 rfl rfl)
theorem dX1_init_24 : decode cX1_init 24 = .ok (.bipush 16, 2) := dk_16 16 (dk_at dksX1_init_1 0 rfl rfl)
theorem dX1_init_26 : decode cX1_init 26 = .ok (.newarray .int, 2) := dk_188_10 (dk_at dksX1_init_1 2 rfl rfl)
theorem dX1_init_28 : decode cX1_init 28 = .ok (.putfield 22, 3) := dk_181 0 22 (dk_at dksX1_init_1 4 rfl rfl)
theorem dX1_init_31 : decode cX1_init 31 = .ok (.return_, 1) := dk_177 (dk_at dksX1_init_1 7 rfl rfl)
abbrev cX1_becomes : ByteArray := prog_14_method_3_code
def yX1_becomes : MethodName := ⟨RX1, "becomes", "(Ljava/util/TreeSet;)V"⟩
def dkwX1_becomes_1 : List UInt8 := [185, 0, 52, 1, 0, 192, 0, 56, 78, 42, 180, 0, 18, 45, 182, 0, 58, 87, 167, 255, 228, 177]
abbrev dktX1_becomes_1 : List UInt8 := dkwX1_becomes_1 ++ []
def dkwX1_becomes_0 : List UInt8 := [42, 180, 0, 18, 182, 0, 39, 43, 182, 0, 42, 77, 44, 185, 0, 46, 1, 0, 153, 0, 25, 44]
abbrev dktX1_becomes_0 : List UInt8 := dkwX1_becomes_0 ++ dktX1_becomes_1
theorem dksX1_becomes_0 : cX1_becomes.data.toList.drop 0 = dktX1_becomes_0 := by decide +kernel
theorem dksX1_becomes_1 : cX1_becomes.data.toList.drop 22 = dktX1_becomes_1 := dk_seg dksX1_becomes_0 22 rfl rfl
theorem dX1_becomes_0 : decode cX1_becomes 0 = .ok (.aload_n 0, 1) := dk_42 (dk_at dksX1_becomes_0 0 rfl rfl)
theorem dX1_becomes_1 : decode cX1_becomes 1 = .ok (.getfield 18, 3) := dk_180 0 18 (dk_at dksX1_becomes_0 1 rfl rfl)
theorem dX1_becomes_4 : decode cX1_becomes 4 = .ok (.invokevirtual 39, 3) := dk_182 0 39 (dk_at dksX1_becomes_0 4 rfl rfl)
theorem dX1_becomes_7 : decode cX1_becomes 7 = .ok (.aload_n 1, 1) := dk_43 (dk_at dksX1_becomes_0 7 rfl rfl)
theorem dX1_becomes_8 : decode cX1_becomes 8 = .ok (.invokevirtual 42, 3) := dk_182 0 42 (dk_at dksX1_becomes_0 8 rfl rfl)
theorem dX1_becomes_11 : decode cX1_becomes 11 = .ok (.astore_n 2, 1) := dk_77 (dk_at dksX1_becomes_0 11 rfl rfl)
theorem dX1_becomes_12 : decode cX1_becomes 12 = .ok (.aload_n 2, 1) := dk_44 (dk_at dksX1_becomes_0 12 rfl rfl)
theorem dX1_becomes_13 : decode cX1_becomes 13 = .ok (.invokeinterface 46 1, 5) := by decide +kernel
theorem dX1_becomes_18 : decode cX1_becomes 18 = .ok (.ifCond .eq 25, 3) := dk_153 0 25 (dk_at dksX1_becomes_0 18 rfl rfl)
theorem dX1_becomes_21 : decode cX1_becomes 21 = .ok (.aload_n 2, 1) := dk_44 (dk_at dksX1_becomes_0 21 rfl rfl)
theorem dX1_becomes_22 : decode cX1_becomes 22 = .ok (.invokeinterface 52 1, 5) := by decide +kernel
theorem dX1_becomes_27 : decode cX1_becomes 27 = .ok (.checkcast 56, 3) := dk_192 0 56 (dk_at dksX1_becomes_1 5 rfl rfl)
theorem dX1_becomes_30 : decode cX1_becomes 30 = .ok (.astore_n 3, 1) := dk_78 (dk_at dksX1_becomes_1 8 rfl rfl)
theorem dX1_becomes_31 : decode cX1_becomes 31 = .ok (.aload_n 0, 1) := dk_42 (dk_at dksX1_becomes_1 9 rfl rfl)
theorem dX1_becomes_32 : decode cX1_becomes 32 = .ok (.getfield 18, 3) := dk_180 0 18 (dk_at dksX1_becomes_1 10 rfl rfl)
theorem dX1_becomes_35 : decode cX1_becomes 35 = .ok (.aload_n 3, 1) := dk_45 (dk_at dksX1_becomes_1 13 rfl rfl)
theorem dX1_becomes_36 : decode cX1_becomes 36 = .ok (.invokevirtual 58, 3) := dk_182 0 58 (dk_at dksX1_becomes_1 14 rfl rfl)
theorem dX1_becomes_39 : decode cX1_becomes 39 = .ok (.pop, 1) := dk_87 (dk_at dksX1_becomes_1 17 rfl rfl)
theorem dX1_becomes_40 : decode cX1_becomes 40 = .ok (.goto (-28), 3) := dk_167 255 228 (dk_at dksX1_becomes_1 18 rfl rfl)
theorem dX1_becomes_43 : decode cX1_becomes 43 = .ok (.return_, 1) := dk_177 (dk_at dksX1_becomes_1 21 rfl rfl)
abbrev cX1_like : ByteArray := prog_14_method_2_code
def yX1_like : MethodName := ⟨RX1, "like", "(LKeptCurves$Works;)V"⟩
def dkwX1_like_2 : List UInt8 := [180, 0, 35, 181, 0, 35, 177]
abbrev dktX1_like_2 : List UInt8 := dkwX1_like_2 ++ []
def dkwX1_like_1 : List UInt8 := [182, 0, 31, 43, 180, 0, 22, 3, 42, 180, 0, 22, 3, 42, 180, 0, 22, 190, 184, 0, 25, 42, 43]
abbrev dktX1_like_1 : List UInt8 := dkwX1_like_1 ++ dktX1_like_2
def dkwX1_like_0 : List UInt8 := [43, 180, 0, 9, 3, 42, 180, 0, 9, 3, 42, 180, 0, 9, 190, 184, 0, 25, 42, 43, 180, 0, 18]
abbrev dktX1_like_0 : List UInt8 := dkwX1_like_0 ++ dktX1_like_1
theorem dksX1_like_0 : cX1_like.data.toList.drop 0 = dktX1_like_0 := by decide +kernel
theorem dksX1_like_1 : cX1_like.data.toList.drop 23 = dktX1_like_1 := dk_seg dksX1_like_0 23 rfl rfl
theorem dksX1_like_2 : cX1_like.data.toList.drop 46 = dktX1_like_2 := dk_seg dksX1_like_1 23 rfl rfl
theorem dX1_like_0 : decode cX1_like 0 = .ok (.aload_n 1, 1) := dk_43 (dk_at dksX1_like_0 0 rfl rfl)
theorem dX1_like_1 : decode cX1_like 1 = .ok (.getfield 9, 3) := dk_180 0 9 (dk_at dksX1_like_0 1 rfl rfl)
theorem dX1_like_4 : decode cX1_like 4 = .ok (.iconst 0, 1) := dk_3 (dk_at dksX1_like_0 4 rfl rfl)
theorem dX1_like_5 : decode cX1_like 5 = .ok (.aload_n 0, 1) := dk_42 (dk_at dksX1_like_0 5 rfl rfl)
theorem dX1_like_6 : decode cX1_like 6 = .ok (.getfield 9, 3) := dk_180 0 9 (dk_at dksX1_like_0 6 rfl rfl)
theorem dX1_like_9 : decode cX1_like 9 = .ok (.iconst 0, 1) := dk_3 (dk_at dksX1_like_0 9 rfl rfl)
theorem dX1_like_10 : decode cX1_like 10 = .ok (.aload_n 0, 1) := dk_42 (dk_at dksX1_like_0 10 rfl rfl)
theorem dX1_like_11 : decode cX1_like 11 = .ok (.getfield 9, 3) := dk_180 0 9 (dk_at dksX1_like_0 11 rfl rfl)
theorem dX1_like_14 : decode cX1_like 14 = .ok (.arraylength, 1) := dk_190 (dk_at dksX1_like_0 14 rfl rfl)
theorem dX1_like_15 : decode cX1_like 15 = .ok (.invokestatic 25, 3) := dk_184 0 25 (dk_at dksX1_like_0 15 rfl rfl)
theorem dX1_like_18 : decode cX1_like 18 = .ok (.aload_n 0, 1) := dk_42 (dk_at dksX1_like_0 18 rfl rfl)
theorem dX1_like_19 : decode cX1_like 19 = .ok (.aload_n 1, 1) := dk_43 (dk_at dksX1_like_0 19 rfl rfl)
theorem dX1_like_20 : decode cX1_like 20 = .ok (.getfield 18, 3) := dk_180 0 18 (dk_at dksX1_like_0 20 rfl rfl)
theorem dX1_like_23 : decode cX1_like 23 = .ok (.invokevirtual 31, 3) := dk_182 0 31 (dk_at dksX1_like_1 0 rfl rfl)
theorem dX1_like_26 : decode cX1_like 26 = .ok (.aload_n 1, 1) := dk_43 (dk_at dksX1_like_1 3 rfl rfl)
theorem dX1_like_27 : decode cX1_like 27 = .ok (.getfield 22, 3) := dk_180 0 22 (dk_at dksX1_like_1 4 rfl rfl)
theorem dX1_like_30 : decode cX1_like 30 = .ok (.iconst 0, 1) := dk_3 (dk_at dksX1_like_1 7 rfl rfl)
theorem dX1_like_31 : decode cX1_like 31 = .ok (.aload_n 0, 1) := dk_42 (dk_at dksX1_like_1 8 rfl rfl)
theorem dX1_like_32 : decode cX1_like 32 = .ok (.getfield 22, 3) := dk_180 0 22 (dk_at dksX1_like_1 9 rfl rfl)
theorem dX1_like_35 : decode cX1_like 35 = .ok (.iconst 0, 1) := dk_3 (dk_at dksX1_like_1 12 rfl rfl)
theorem dX1_like_36 : decode cX1_like 36 = .ok (.aload_n 0, 1) := dk_42 (dk_at dksX1_like_1 13 rfl rfl)
theorem dX1_like_37 : decode cX1_like 37 = .ok (.getfield 22, 3) := dk_180 0 22 (dk_at dksX1_like_1 14 rfl rfl)
theorem dX1_like_40 : decode cX1_like 40 = .ok (.arraylength, 1) := dk_190 (dk_at dksX1_like_1 17 rfl rfl)
theorem dX1_like_41 : decode cX1_like 41 = .ok (.invokestatic 25, 3) := dk_184 0 25 (dk_at dksX1_like_1 18 rfl rfl)
theorem dX1_like_44 : decode cX1_like 44 = .ok (.aload_n 0, 1) := dk_42 (dk_at dksX1_like_1 21 rfl rfl)
theorem dX1_like_45 : decode cX1_like 45 = .ok (.aload_n 1, 1) := dk_43 (dk_at dksX1_like_1 22 rfl rfl)
theorem dX1_like_46 : decode cX1_like 46 = .ok (.getfield 35, 3) := dk_180 0 35 (dk_at dksX1_like_2 0 rfl rfl)
theorem dX1_like_49 : decode cX1_like 49 = .ok (.putfield 35, 3) := dk_181 0 35 (dk_at dksX1_like_2 3 rfl rfl)
theorem dX1_like_52 : decode cX1_like 52 = .ok (.return_, 1) := dk_177 (dk_at dksX1_like_2 6 rfl rfl)
theorem q70 : (Jvm.Cond.initialized "KeptCurves$Works") ∈ lw_all := lw_g (lw_at lw_m1 2 rfl) rfl
theorem q126 : (Jvm.Cond.instantiable "KeptCurves$Works" (4 : Nat)) ∈ lw_all := lw_g (lw_at lw_m1 58 rfl) rfl
theorem q128 : (Jvm.Cond.instanceMethod ({ cls := "KeptCurves$Works", name := "<init>", desc := "()V" } : Jvm.MethodName)) ∈ lw_all := lw_g (lw_at lw_m1 60 rfl) rfl
theorem q129 : (Jvm.Cond.code ({ cls := "KeptCurves$Works", name := "<init>", desc := "()V" } : Jvm.MethodName) prog_14_method_1_code (1 : Nat) (Option.none : Option Jvm.ClassFile.FieldType)) ∈ lw_all := lw_g (lw_at lw_m1 61 rfl) rfl
theorem q130 : (Jvm.Cond.methodLink "KeptCurves$Works" (3 : Nat) ({ cls := "java/lang/Object", name := "<init>", desc := "()V" } : Jvm.MethodName)) ∈ lw_all := lw_g (lw_at lw_m1 62 rfl) rfl
theorem q131 : (Jvm.Cond.classLink "KeptCurves$Works" (15 : Nat) "java/util/TreeSet") ∈ lw_all := lw_g (lw_at lw_m1 63 rfl) rfl
theorem q133 : (Jvm.Cond.methodLink "KeptCurves$Works" (17 : Nat) ({ cls := "java/util/TreeSet", name := "<init>", desc := "()V" } : Jvm.MethodName)) ∈ lw_all := lw_g (lw_at lw_m1 65 rfl) rfl
theorem q186 : (Jvm.Cond.fieldLink "KeptCurves$Works" (9 : Nat) "KeptCurves$Works" "tables" "[I") ∈ lw_all := lw_g (lw_at lw_m1 118 rfl) rfl
theorem q188 : (Jvm.Cond.fieldLink "KeptCurves$Works" (18 : Nat) "KeptCurves$Works" "set" "Ljava/util/TreeSet;") ∈ lw_all := lw_g (lw_at lw_m1 120 rfl) rfl
theorem q190 : (Jvm.Cond.fieldLink "KeptCurves$Works" (22 : Nat) "KeptCurves$Works" "plan" "[I") ∈ lw_all := lw_g (lw_at lw_m1 122 rfl) rfl
theorem q192 : (Jvm.Cond.fieldLink "KeptCurves$Works" (35 : Nat) "KeptCurves$Works" "planned" "I") ∈ lw_all := lw_g (lw_at lw_m1 124 rfl) rfl
theorem q194 : (Jvm.Cond.laysFinal "KeptCurves$Works" "KeptCurves$Works" "tables" "[I") ∈ lw_all := lw_g (lw_at lw_m1 126 rfl) rfl
theorem q195 : (Jvm.Cond.soleField "KeptCurves$Works" "tables") ∈ lw_all := lw_g (lw_at lw_m1 127 rfl) rfl
theorem q196 : (Jvm.Cond.laysFinal "KeptCurves$Works" "KeptCurves$Works" "set" "Ljava/util/TreeSet;") ∈ lw_all := lw_g (lw_at lw_m1 128 rfl) rfl
theorem q197 : (Jvm.Cond.soleField "KeptCurves$Works" "set") ∈ lw_all := lw_g (lw_at lw_m1 129 rfl) rfl
theorem q198 : (Jvm.Cond.laysFinal "KeptCurves$Works" "KeptCurves$Works" "plan" "[I") ∈ lw_all := lw_g (lw_at lw_m1 130 rfl) rfl
theorem q199 : (Jvm.Cond.soleField "KeptCurves$Works" "plan") ∈ lw_all := lw_g (lw_at lw_m1 131 rfl) rfl
theorem q200 : (Jvm.Cond.lays "KeptCurves$Works" "KeptCurves$Works" "planned" "I") ∈ lw_all := lw_g (lw_at lw_m1 132 rfl) rfl
theorem q201 : (Jvm.Cond.soleField "KeptCurves$Works" "planned") ∈ lw_all := lw_g (lw_at lw_m1 133 rfl) rfl
theorem q202 : (Jvm.Cond.superclass "KeptCurves$Works" "java/lang/Object") ∈ lw_all := lw_g (lw_at lw_m1 134 rfl) rfl
theorem q786 : (Jvm.Cond.selects "KeptCurves$Works" ({ cls := "java/lang/Object", name := "getClass", desc := "()Ljava/lang/Class;" } : Jvm.MethodName) ({ cls := "java/lang/Object", name := "getClass", desc := "()Ljava/lang/Class;" } : Jvm.MethodName)) ∈ lw_all := lw_g (lw_at lw_m3 238 rfl) rfl
theorem q1578 : (Jvm.Cond.instanceMethod ({ cls := "KeptCurves$Works", name := "becomes", desc := "(Ljava/util/TreeSet;)V" } : Jvm.MethodName)) ∈ lw_all := lw_g (lw_at lw_m7 70 rfl) rfl
theorem q1579 : (Jvm.Cond.selects "KeptCurves$Works" ({ cls := "KeptCurves$Works", name := "becomes", desc := "(Ljava/util/TreeSet;)V" } : Jvm.MethodName) ({ cls := "KeptCurves$Works", name := "becomes", desc := "(Ljava/util/TreeSet;)V" } : Jvm.MethodName)) ∈ lw_all := lw_g (lw_at lw_m7 71 rfl) rfl
theorem q1580 : (Jvm.Cond.code ({ cls := "KeptCurves$Works", name := "becomes", desc := "(Ljava/util/TreeSet;)V" } : Jvm.MethodName) prog_14_method_3_code (4 : Nat) (Option.none : Option Jvm.ClassFile.FieldType)) ∈ lw_all := lw_g (lw_at lw_m7 72 rfl) rfl
theorem q1581 : (Jvm.Cond.methodLink "KeptCurves$Works" (39 : Nat) ({ cls := "java/util/TreeSet", name := "clear", desc := "()V" } : Jvm.MethodName)) ∈ lw_all := lw_g (lw_at lw_m7 73 rfl) rfl
theorem q1593 : (Jvm.Cond.methodLink "KeptCurves$Works" (42 : Nat) ({ cls := "java/util/TreeSet", name := "iterator", desc := "()Ljava/util/Iterator;" } : Jvm.MethodName)) ∈ lw_all := lw_g (lw_at lw_m7 85 rfl) rfl
theorem q1594 : (Jvm.Cond.interfaceEntry "KeptCurves$Works" (46 : Nat)) ∈ lw_tbl := lw_at lw_m7 86 rfl
theorem q1595 : (Jvm.Cond.methodLink "KeptCurves$Works" (46 : Nat) ({ cls := "java/util/Iterator", name := "hasNext", desc := "()Z" } : Jvm.MethodName)) ∈ lw_all := lw_g (lw_at lw_m7 87 rfl) rfl
theorem q1596 : (Jvm.Cond.interfaceEntry "KeptCurves$Works" (52 : Nat)) ∈ lw_tbl := lw_at lw_m7 88 rfl
theorem q1597 : (Jvm.Cond.methodLink "KeptCurves$Works" (52 : Nat) ({ cls := "java/util/Iterator", name := "next", desc := "()Ljava/lang/Object;" } : Jvm.MethodName)) ∈ lw_all := lw_g (lw_at lw_m7 89 rfl) rfl
theorem q1598 : (Jvm.Cond.classLink "KeptCurves$Works" (56 : Nat) "KeptCurves$Spot") ∈ lw_all := lw_g (lw_at lw_m7 90 rfl) rfl
theorem q1599 : (Jvm.Cond.methodLink "KeptCurves$Works" (58 : Nat) ({ cls := "java/util/TreeSet", name := "add", desc := "(Ljava/lang/Object;)Z" } : Jvm.MethodName)) ∈ lw_all := lw_g (lw_at lw_m7 91 rfl) rfl
theorem q1934 : (Jvm.Cond.instanceMethod ({ cls := "KeptCurves$Works", name := "like", desc := "(LKeptCurves$Works;)V" } : Jvm.MethodName)) ∈ lw_all := lw_g (lw_at lw_m8 186 rfl) rfl
theorem q1935 : (Jvm.Cond.selects "KeptCurves$Works" ({ cls := "KeptCurves$Works", name := "like", desc := "(LKeptCurves$Works;)V" } : Jvm.MethodName) ({ cls := "KeptCurves$Works", name := "like", desc := "(LKeptCurves$Works;)V" } : Jvm.MethodName)) ∈ lw_all := lw_g (lw_at lw_m8 187 rfl) rfl
theorem q1936 : (Jvm.Cond.code ({ cls := "KeptCurves$Works", name := "like", desc := "(LKeptCurves$Works;)V" } : Jvm.MethodName) prog_14_method_2_code (2 : Nat) (Option.none : Option Jvm.ClassFile.FieldType)) ∈ lw_all := lw_g (lw_at lw_m8 188 rfl) rfl
theorem q1937 : (Jvm.Cond.methodLink "KeptCurves$Works" (25 : Nat) ({ cls := "java/lang/System", name := "arraycopy", desc := "(Ljava/lang/Object;ILjava/lang/Object;II)V" } : Jvm.MethodName)) ∈ lw_all := lw_g (lw_at lw_m8 189 rfl) rfl
theorem q1938 : (Jvm.Cond.methodLink "KeptCurves$Works" (31 : Nat) ({ cls := "KeptCurves$Works", name := "becomes", desc := "(Ljava/util/TreeSet;)V" } : Jvm.MethodName)) ∈ lw_all := lw_g (lw_at lw_m8 190 rfl) rfl
theorem q2366 : (Jvm.Cond.castable "KeptCurves$Works" "java/lang/Object") ∈ lw_tbl := lw_at lw_m10 138 rfl
theorem in_X1 : ∀ w ∈ wsX10, w ∈ lw_all := lw_in wsX10 [194, 196, 198, 200] (by decide +kernel) (by decide +kernel)
/-! KeptCurves$Count -/
set_option maxRecDepth 100000
def RX10 : String := "KeptCurves$Count"
def TX10 : u_T := fun k => match k with
  | _ => ("KeptCurves$Count", "many", "I", false)
def tyX10 : Nat → FieldType := fun k => match k with
  | _ => .int
abbrev wsX100 : List Cond := u_ws RX10 TX10 1
theorem nmX10 : ∀ a, a < 1 → ∀ b, b < 1 → a ≠ b → (TX10 a).2.1 ≠ (TX10 b).2.1 := by decide +kernel
theorem tyX10_ok : ∀ k, k < 1 → parseFieldDescriptor (TX10 k).2.2.1 = some (tyX10 k) := by decide +kernel
abbrev cX10_init : ByteArray := prog_3_method_1_code
def yX10_init : MethodName := ⟨RX10, "<init>", "()V"⟩
theorem dX10_init_0 : decode cX10_init 0 = .ok (.aload_n 0, 1) := by decide +kernel
theorem dX10_init_1 : decode cX10_init 1 = .ok (.invokespecial 1, 3) := by decide +kernel
theorem dX10_init_4 : decode cX10_init 4 = .ok (.return_, 1) := by decide +kernel
theorem q107 : (Jvm.Cond.initialized "KeptCurves$Count") ∈ lw_all := lw_g (lw_at lw_m1 39 rfl) rfl
theorem q777 : (Jvm.Cond.selects "KeptCurves$Count" ({ cls := "java/lang/Object", name := "getClass", desc := "()Ljava/lang/Class;" } : Jvm.MethodName) ({ cls := "java/lang/Object", name := "getClass", desc := "()Ljava/lang/Class;" } : Jvm.MethodName)) ∈ lw_all := lw_g (lw_at lw_m3 229 rfl) rfl
theorem q1144 : (Jvm.Cond.instantiable "KeptCurves$Count" (1 : Nat)) ∈ lw_all := lw_g (lw_at lw_m5 116 rfl) rfl
theorem q1146 : (Jvm.Cond.instanceMethod ({ cls := "KeptCurves$Count", name := "<init>", desc := "()V" } : Jvm.MethodName)) ∈ lw_all := lw_g (lw_at lw_m5 118 rfl) rfl
theorem q1147 : (Jvm.Cond.code ({ cls := "KeptCurves$Count", name := "<init>", desc := "()V" } : Jvm.MethodName) prog_3_method_1_code (1 : Nat) (Option.none : Option Jvm.ClassFile.FieldType)) ∈ lw_all := lw_g (lw_at lw_m5 119 rfl) rfl
theorem q1148 : (Jvm.Cond.methodLink "KeptCurves$Count" (1 : Nat) ({ cls := "java/lang/Object", name := "<init>", desc := "()V" } : Jvm.MethodName)) ∈ lw_all := lw_g (lw_at lw_m5 120 rfl) rfl
theorem q1150 : (Jvm.Cond.lays "KeptCurves$Count" "KeptCurves$Count" "many" "I") ∈ lw_all := lw_g (lw_at lw_m5 122 rfl) rfl
theorem q1151 : (Jvm.Cond.soleField "KeptCurves$Count" "many") ∈ lw_all := lw_g (lw_at lw_m5 123 rfl) rfl
theorem q1152 : (Jvm.Cond.superclass "KeptCurves$Count" "java/lang/Object") ∈ lw_all := lw_g (lw_at lw_m5 124 rfl) rfl
theorem q2379 : (Jvm.Cond.castable "KeptCurves$Count" "java/lang/Object") ∈ lw_tbl := lw_at lw_m10 151 rfl
theorem in_X10 : ∀ w ∈ wsX100, w ∈ lw_all := lw_in wsX100 [1150] (by decide +kernel) (by decide +kernel)
/-! KeptCurves$Spot -/
set_option maxRecDepth 100000
def RX11 : String := "KeptCurves$Spot"
def TX11 : u_T := fun k => match k with
  | _ => ("KeptCurves$Spot", "code", "I", true)
def tyX11 : Nat → FieldType := fun k => match k with
  | _ => .int
abbrev wsX110 : List Cond := u_ws RX11 TX11 1
theorem nmX11 : ∀ a, a < 1 → ∀ b, b < 1 → a ≠ b → (TX11 a).2.1 ≠ (TX11 b).2.1 := by decide +kernel
theorem tyX11_ok : ∀ k, k < 1 → parseFieldDescriptor (TX11 k).2.2.1 = some (tyX11 k) := by decide +kernel
abbrev cX11_compareTo : ByteArray := prog_12_method_3_code
def yX11_compareTo : MethodName := ⟨RX11, "compareTo", "(Ljava/lang/Object;)I"⟩
def dkwX11_compareTo_0 : List UInt8 := [42, 43, 192, 0, 8, 182, 0, 19, 172]
abbrev dktX11_compareTo_0 : List UInt8 := dkwX11_compareTo_0 ++ []
theorem dksX11_compareTo_0 : cX11_compareTo.data.toList.drop 0 = dktX11_compareTo_0 := by decide +kernel
theorem dX11_compareTo_0 : decode cX11_compareTo 0 = .ok (.aload_n 0, 1) := dk_42 (dk_at dksX11_compareTo_0 0 rfl rfl)
theorem dX11_compareTo_1 : decode cX11_compareTo 1 = .ok (.aload_n 1, 1) := dk_43 (dk_at dksX11_compareTo_0 1 rfl rfl)
theorem dX11_compareTo_2 : decode cX11_compareTo 2 = .ok (.checkcast 8, 3) := dk_192 0 8 (dk_at dksX11_compareTo_0 2 rfl rfl)
theorem dX11_compareTo_5 : decode cX11_compareTo 5 = .ok (.invokevirtual 19, 3) := dk_182 0 19 (dk_at dksX11_compareTo_0 5 rfl rfl)
theorem dX11_compareTo_8 : decode cX11_compareTo 8 = .ok (.ireturn, 1) := dk_172 (dk_at dksX11_compareTo_0 8 rfl rfl)
abbrev cX11_compareTo_2 : ByteArray := prog_12_method_2_code
def yX11_compareTo_2 : MethodName := ⟨RX11, "compareTo", "(LKeptCurves$Spot;)I"⟩
def dkwX11_compareTo_2_0 : List UInt8 := [42, 180, 0, 7, 43, 180, 0, 7, 184, 0, 13, 172]
abbrev dktX11_compareTo_2_0 : List UInt8 := dkwX11_compareTo_2_0 ++ []
theorem dksX11_compareTo_2_0 : cX11_compareTo_2.data.toList.drop 0 = dktX11_compareTo_2_0 := by decide +kernel
theorem dX11_compareTo_2_0 : decode cX11_compareTo_2 0 = .ok (.aload_n 0, 1) := dk_42 (dk_at dksX11_compareTo_2_0 0 rfl rfl)
theorem dX11_compareTo_2_1 : decode cX11_compareTo_2 1 = .ok (.getfield 7, 3) := dk_180 0 7 (dk_at dksX11_compareTo_2_0 1 rfl rfl)
theorem dX11_compareTo_2_4 : decode cX11_compareTo_2 4 = .ok (.aload_n 1, 1) := dk_43 (dk_at dksX11_compareTo_2_0 4 rfl rfl)
theorem dX11_compareTo_2_5 : decode cX11_compareTo_2 5 = .ok (.getfield 7, 3) := dk_180 0 7 (dk_at dksX11_compareTo_2_0 5 rfl rfl)
theorem dX11_compareTo_2_8 : decode cX11_compareTo_2 8 = .ok (.invokestatic 13, 3) := dk_184 0 13 (dk_at dksX11_compareTo_2_0 8 rfl rfl)
theorem dX11_compareTo_2_11 : decode cX11_compareTo_2 11 = .ok (.ireturn, 1) := dk_172 (dk_at dksX11_compareTo_2_0 11 rfl rfl)
abbrev cX11_init : ByteArray := prog_12_method_1_code
def yX11_init : MethodName := ⟨RX11, "<init>", "(I)V"⟩
def dkwX11_init_0 : List UInt8 := [42, 183, 0, 1, 42, 27, 181, 0, 7, 177]
abbrev dktX11_init_0 : List UInt8 := dkwX11_init_0 ++ []
theorem dksX11_init_0 : cX11_init.data.toList.drop 0 = dktX11_init_0 := by decide +kernel
theorem dX11_init_0 : decode cX11_init 0 = .ok (.aload_n 0, 1) := dk_42 (dk_at dksX11_init_0 0 rfl rfl)
theorem dX11_init_1 : decode cX11_init 1 = .ok (.invokespecial 1, 3) := dk_183 0 1 (dk_at dksX11_init_0 1 rfl rfl)
theorem dX11_init_4 : decode cX11_init 4 = .ok (.aload_n 0, 1) := dk_42 (dk_at dksX11_init_0 4 rfl rfl)
theorem dX11_init_5 : decode cX11_init 5 = .ok (.iload_n 1, 1) := dk_27 (dk_at dksX11_init_0 5 rfl rfl)
theorem dX11_init_6 : decode cX11_init 6 = .ok (.putfield 7, 3) := dk_181 0 7 (dk_at dksX11_init_0 6 rfl rfl)
theorem dX11_init_9 : decode cX11_init 9 = .ok (.return_, 1) := dk_177 (dk_at dksX11_init_0 9 rfl rfl)
theorem q114 : (Jvm.Cond.initialized "KeptCurves$Spot") ∈ lw_all := lw_g (lw_at lw_m1 46 rfl) rfl
theorem q785 : (Jvm.Cond.selects "KeptCurves$Spot" ({ cls := "java/lang/Object", name := "getClass", desc := "()Ljava/lang/Class;" } : Jvm.MethodName) ({ cls := "java/lang/Object", name := "getClass", desc := "()Ljava/lang/Class;" } : Jvm.MethodName)) ∈ lw_all := lw_g (lw_at lw_m3 237 rfl) rfl
theorem q857 : (Jvm.Cond.castable "KeptCurves$Spot" "java/lang/Comparable") ∈ lw_tbl := lw_at lw_m4 69 rfl
theorem q858 : (Jvm.Cond.selects "KeptCurves$Spot" ({ cls := "java/lang/Comparable", name := "compareTo", desc := "(Ljava/lang/Object;)I" } : Jvm.MethodName) ({ cls := "KeptCurves$Spot", name := "compareTo", desc := "(Ljava/lang/Object;)I" } : Jvm.MethodName)) ∈ lw_all := lw_g (lw_at lw_m4 70 rfl) rfl
theorem q859 : (Jvm.Cond.unhidden "KeptCurves$Spot" "compareTo" "(Ljava/lang/Object;)I") ∈ lw_tbl := lw_at lw_m4 71 rfl
theorem q860 : (Jvm.Cond.instanceMethod ({ cls := "KeptCurves$Spot", name := "compareTo", desc := "(Ljava/lang/Object;)I" } : Jvm.MethodName)) ∈ lw_all := lw_g (lw_at lw_m4 72 rfl) rfl
theorem q861 : (Jvm.Cond.publicMethod ({ cls := "KeptCurves$Spot", name := "compareTo", desc := "(Ljava/lang/Object;)I" } : Jvm.MethodName)) ∈ lw_tbl := lw_at lw_m4 73 rfl
theorem q862 : (Jvm.Cond.code ({ cls := "KeptCurves$Spot", name := "compareTo", desc := "(Ljava/lang/Object;)I" } : Jvm.MethodName) prog_12_method_3_code (2 : Nat) (Option.some Jvm.ClassFile.FieldType.int)) ∈ lw_all := lw_g (lw_at lw_m4 74 rfl) rfl
theorem q863 : (Jvm.Cond.classLink "KeptCurves$Spot" (8 : Nat) "KeptCurves$Spot") ∈ lw_all := lw_g (lw_at lw_m4 75 rfl) rfl
theorem q864 : (Jvm.Cond.methodLink "KeptCurves$Spot" (19 : Nat) ({ cls := "KeptCurves$Spot", name := "compareTo", desc := "(LKeptCurves$Spot;)I" } : Jvm.MethodName)) ∈ lw_all := lw_g (lw_at lw_m4 76 rfl) rfl
theorem q865 : (Jvm.Cond.instanceMethod ({ cls := "KeptCurves$Spot", name := "compareTo", desc := "(LKeptCurves$Spot;)I" } : Jvm.MethodName)) ∈ lw_all := lw_g (lw_at lw_m4 77 rfl) rfl
theorem q866 : (Jvm.Cond.selects "KeptCurves$Spot" ({ cls := "KeptCurves$Spot", name := "compareTo", desc := "(LKeptCurves$Spot;)I" } : Jvm.MethodName) ({ cls := "KeptCurves$Spot", name := "compareTo", desc := "(LKeptCurves$Spot;)I" } : Jvm.MethodName)) ∈ lw_all := lw_g (lw_at lw_m4 78 rfl) rfl
theorem q867 : (Jvm.Cond.code ({ cls := "KeptCurves$Spot", name := "compareTo", desc := "(LKeptCurves$Spot;)I" } : Jvm.MethodName) prog_12_method_2_code (2 : Nat) (Option.some Jvm.ClassFile.FieldType.int)) ∈ lw_all := lw_g (lw_at lw_m4 79 rfl) rfl
theorem q868 : (Jvm.Cond.methodLink "KeptCurves$Spot" (13 : Nat) ({ cls := "java/lang/Integer", name := "compare", desc := "(II)I" } : Jvm.MethodName)) ∈ lw_all := lw_g (lw_at lw_m4 80 rfl) rfl
theorem q1486 : (Jvm.Cond.instantiable "KeptCurves$Spot" (1 : Nat)) ∈ lw_all := lw_g (lw_at lw_m6 218 rfl) rfl
theorem q1488 : (Jvm.Cond.instanceMethod ({ cls := "KeptCurves$Spot", name := "<init>", desc := "(I)V" } : Jvm.MethodName)) ∈ lw_all := lw_g (lw_at lw_m6 220 rfl) rfl
theorem q1489 : (Jvm.Cond.code ({ cls := "KeptCurves$Spot", name := "<init>", desc := "(I)V" } : Jvm.MethodName) prog_12_method_1_code (2 : Nat) (Option.none : Option Jvm.ClassFile.FieldType)) ∈ lw_all := lw_g (lw_at lw_m6 221 rfl) rfl
theorem q1490 : (Jvm.Cond.methodLink "KeptCurves$Spot" (1 : Nat) ({ cls := "java/lang/Object", name := "<init>", desc := "()V" } : Jvm.MethodName)) ∈ lw_all := lw_g (lw_at lw_m6 222 rfl) rfl
theorem q1491 : (Jvm.Cond.fieldLink "KeptCurves$Spot" (7 : Nat) "KeptCurves$Spot" "code" "I") ∈ lw_all := lw_g (lw_at lw_m6 223 rfl) rfl
theorem q1493 : (Jvm.Cond.laysFinal "KeptCurves$Spot" "KeptCurves$Spot" "code" "I") ∈ lw_all := lw_g (lw_at lw_m6 225 rfl) rfl
theorem q1494 : (Jvm.Cond.soleField "KeptCurves$Spot" "code") ∈ lw_all := lw_g (lw_at lw_m6 226 rfl) rfl
theorem q1495 : (Jvm.Cond.superclass "KeptCurves$Spot" "java/lang/Object") ∈ lw_all := lw_g (lw_at lw_m6 227 rfl) rfl
theorem q2385 : (Jvm.Cond.castable "KeptCurves$Spot" "java/lang/Object") ∈ lw_tbl := lw_at lw_m10 157 rfl
theorem in_X11 : ∀ w ∈ wsX110, w ∈ lw_all := lw_in wsX110 [1493] (by decide +kernel) (by decide +kernel)
/-! KeptCurves$Fraction -/
set_option maxRecDepth 100000
def RX2 : String := "KeptCurves$Fraction"
def TX2 : u_T := fun k => match k with
  | 0 => ("KeptCurves$Fraction", "above", "LKeptCurves$Poly;", true)
  | _ => ("KeptCurves$Fraction", "below", "LKeptCurves$Poly;", true)
def tyX2 : Nat → FieldType := fun k => match k with
  | 0 => .object "KeptCurves$Poly"
  | _ => .object "KeptCurves$Poly"
abbrev wsX20 : List Cond := u_ws RX2 TX2 2
theorem nmX2 : ∀ a, a < 2 → ∀ b, b < 2 → a ≠ b → (TX2 a).2.1 ≠ (TX2 b).2.1 := by decide +kernel
theorem tyX2_ok : ∀ k, k < 2 → parseFieldDescriptor (TX2 k).2.2.1 = some (tyX2 k) := by decide +kernel
abbrev cX2_init : ByteArray := prog_6_method_1_code
def yX2_init : MethodName := ⟨RX2, "<init>", "()V"⟩
def dkwX2_init_1 : List UInt8 := [181, 0, 16, 177]
abbrev dktX2_init_1 : List UInt8 := dkwX2_init_1 ++ []
def dkwX2_init_0 : List UInt8 := [42, 183, 0, 1, 42, 187, 0, 7, 89, 183, 0, 9, 181, 0, 10, 42, 187, 0, 7, 89, 183, 0, 9]
abbrev dktX2_init_0 : List UInt8 := dkwX2_init_0 ++ dktX2_init_1
theorem dksX2_init_0 : cX2_init.data.toList.drop 0 = dktX2_init_0 := by decide +kernel
theorem dksX2_init_1 : cX2_init.data.toList.drop 23 = dktX2_init_1 := dk_seg dksX2_init_0 23 rfl rfl
theorem dX2_init_0 : decode cX2_init 0 = .ok (.aload_n 0, 1) := dk_42 (dk_at dksX2_init_0 0 rfl rfl)
theorem dX2_init_1 : decode cX2_init 1 = .ok (.invokespecial 1, 3) := dk_183 0 1 (dk_at dksX2_init_0 1 rfl rfl)
theorem dX2_init_4 : decode cX2_init 4 = .ok (.aload_n 0, 1) := dk_42 (dk_at dksX2_init_0 4 rfl rfl)
theorem dX2_init_5 : decode cX2_init 5 = .ok (.new 7, 3) := dk_187 0 7 (dk_at dksX2_init_0 5 rfl rfl)
theorem dX2_init_8 : decode cX2_init 8 = .ok (.dup, 1) := dk_89 (dk_at dksX2_init_0 8 rfl rfl)
theorem dX2_init_9 : decode cX2_init 9 = .ok (.invokespecial 9, 3) := dk_183 0 9 (dk_at dksX2_init_0 9 rfl rfl)
theorem dX2_init_12 : decode cX2_init 12 = .ok (.putfield 10, 3) := dk_181 0 10 (dk_at dksX2_init_0 12 rfl rfl)
theorem dX2_init_15 : decode cX2_init 15 = .ok (.aload_n 0, 1) := dk_42 (dk_at dksX2_init_0 15 rfl rfl)
theorem dX2_init_16 : decode cX2_init 16 = .ok (.new 7, 3) := dk_187 0 7 (dk_at dksX2_init_0 16 rfl rfl)
theorem dX2_init_19 : decode cX2_init 19 = .ok (.dup, 1) := dk_89 (dk_at dksX2_init_0 19 rfl rfl)
theorem dX2_init_20 : decode cX2_init 20 = .ok (.invokespecial 9, 3) := dk_183 0 9 (dk_at dksX2_init_0 20 rfl rfl)
theorem dX2_init_23 : decode cX2_init 23 = .ok (.putfield 16, 3) := dk_181 0 16 (dk_at dksX2_init_1 0 rfl rfl)
theorem dX2_init_26 : decode cX2_init 26 = .ok (.return_, 1) := dk_177 (dk_at dksX2_init_1 3 rfl rfl)
abbrev cX2_degree : ByteArray := prog_6_method_2_code
def yX2_degree : MethodName := ⟨RX2, "degree", "()I"⟩
def dkwX2_degree_1 : List UInt8 := [42, 180, 0, 10, 180, 0, 19, 42, 180, 0, 16, 180, 0, 19, 184, 0, 23, 4, 100, 172]
abbrev dktX2_degree_1 : List UInt8 := dkwX2_degree_1 ++ []
def dkwX2_degree_0 : List UInt8 := [42, 180, 0, 10, 180, 0, 19, 153, 0, 13, 42, 180, 0, 16, 180, 0, 19, 154, 0, 7, 3, 167, 0, 22]
abbrev dktX2_degree_0 : List UInt8 := dkwX2_degree_0 ++ dktX2_degree_1
theorem dksX2_degree_0 : cX2_degree.data.toList.drop 0 = dktX2_degree_0 := by decide +kernel
theorem dksX2_degree_1 : cX2_degree.data.toList.drop 24 = dktX2_degree_1 := dk_seg dksX2_degree_0 24 rfl rfl
theorem dX2_degree_0 : decode cX2_degree 0 = .ok (.aload_n 0, 1) := dk_42 (dk_at dksX2_degree_0 0 rfl rfl)
theorem dX2_degree_1 : decode cX2_degree 1 = .ok (.getfield 10, 3) := dk_180 0 10 (dk_at dksX2_degree_0 1 rfl rfl)
theorem dX2_degree_4 : decode cX2_degree 4 = .ok (.getfield 19, 3) := dk_180 0 19 (dk_at dksX2_degree_0 4 rfl rfl)
theorem dX2_degree_7 : decode cX2_degree 7 = .ok (.ifCond .eq 13, 3) := dk_153 0 13 (dk_at dksX2_degree_0 7 rfl rfl)
theorem dX2_degree_10 : decode cX2_degree 10 = .ok (.aload_n 0, 1) := dk_42 (dk_at dksX2_degree_0 10 rfl rfl)
theorem dX2_degree_11 : decode cX2_degree 11 = .ok (.getfield 16, 3) := dk_180 0 16 (dk_at dksX2_degree_0 11 rfl rfl)
theorem dX2_degree_14 : decode cX2_degree 14 = .ok (.getfield 19, 3) := dk_180 0 19 (dk_at dksX2_degree_0 14 rfl rfl)
theorem dX2_degree_17 : decode cX2_degree 17 = .ok (.ifCond .ne 7, 3) := dk_154 0 7 (dk_at dksX2_degree_0 17 rfl rfl)
theorem dX2_degree_20 : decode cX2_degree 20 = .ok (.iconst 0, 1) := dk_3 (dk_at dksX2_degree_0 20 rfl rfl)
theorem dX2_degree_21 : decode cX2_degree 21 = .ok (.goto 22, 3) := dk_167 0 22 (dk_at dksX2_degree_0 21 rfl rfl)
theorem dX2_degree_24 : decode cX2_degree 24 = .ok (.aload_n 0, 1) := dk_42 (dk_at dksX2_degree_1 0 rfl rfl)
theorem dX2_degree_25 : decode cX2_degree 25 = .ok (.getfield 10, 3) := dk_180 0 10 (dk_at dksX2_degree_1 1 rfl rfl)
theorem dX2_degree_28 : decode cX2_degree 28 = .ok (.getfield 19, 3) := dk_180 0 19 (dk_at dksX2_degree_1 4 rfl rfl)
theorem dX2_degree_31 : decode cX2_degree 31 = .ok (.aload_n 0, 1) := dk_42 (dk_at dksX2_degree_1 7 rfl rfl)
theorem dX2_degree_32 : decode cX2_degree 32 = .ok (.getfield 16, 3) := dk_180 0 16 (dk_at dksX2_degree_1 8 rfl rfl)
theorem dX2_degree_35 : decode cX2_degree 35 = .ok (.getfield 19, 3) := dk_180 0 19 (dk_at dksX2_degree_1 11 rfl rfl)
theorem dX2_degree_38 : decode cX2_degree 38 = .ok (.invokestatic 23, 3) := dk_184 0 23 (dk_at dksX2_degree_1 14 rfl rfl)
theorem dX2_degree_41 : decode cX2_degree 41 = .ok (.iconst 1, 1) := dk_4 (dk_at dksX2_degree_1 17 rfl rfl)
theorem dX2_degree_42 : decode cX2_degree 42 = .ok (.isub, 1) := dk_100 (dk_at dksX2_degree_1 18 rfl rfl)
theorem dX2_degree_43 : decode cX2_degree 43 = .ok (.ireturn, 1) := dk_172 (dk_at dksX2_degree_1 19 rfl rfl)
theorem q76 : (Jvm.Cond.initialized "KeptCurves$Fraction") ∈ lw_all := lw_g (lw_at lw_m1 8 rfl) rfl
theorem q209 : (Jvm.Cond.instantiable "KeptCurves$Fraction" (2 : Nat)) ∈ lw_all := lw_g (lw_at lw_m1 141 rfl) rfl
theorem q211 : (Jvm.Cond.instanceMethod ({ cls := "KeptCurves$Fraction", name := "<init>", desc := "()V" } : Jvm.MethodName)) ∈ lw_all := lw_g (lw_at lw_m1 143 rfl) rfl
theorem q212 : (Jvm.Cond.code ({ cls := "KeptCurves$Fraction", name := "<init>", desc := "()V" } : Jvm.MethodName) prog_6_method_1_code (1 : Nat) (Option.none : Option Jvm.ClassFile.FieldType)) ∈ lw_all := lw_g (lw_at lw_m1 144 rfl) rfl
theorem q213 : (Jvm.Cond.methodLink "KeptCurves$Fraction" (1 : Nat) ({ cls := "java/lang/Object", name := "<init>", desc := "()V" } : Jvm.MethodName)) ∈ lw_all := lw_g (lw_at lw_m1 145 rfl) rfl
theorem q214 : (Jvm.Cond.classLink "KeptCurves$Fraction" (7 : Nat) "KeptCurves$Poly") ∈ lw_all := lw_g (lw_at lw_m1 146 rfl) rfl
theorem q216 : (Jvm.Cond.methodLinkNest "KeptCurves$Fraction" (9 : Nat) ({ cls := "KeptCurves$Poly", name := "<init>", desc := "()V" } : Jvm.MethodName) "KeptCurves") ∈ lw_tbl := lw_at lw_m1 148 rfl
theorem q221 : (Jvm.Cond.fieldLinkNest "KeptCurves$Fraction" (19 : Nat) "KeptCurves$Poly" "many" "I" "KeptCurves") ∈ lw_tbl := lw_at lw_m1 153 rfl
theorem q231 : (Jvm.Cond.fieldLink "KeptCurves$Fraction" (10 : Nat) "KeptCurves$Fraction" "above" "LKeptCurves$Poly;") ∈ lw_all := lw_g (lw_at lw_m1 163 rfl) rfl
theorem q233 : (Jvm.Cond.fieldLink "KeptCurves$Fraction" (16 : Nat) "KeptCurves$Fraction" "below" "LKeptCurves$Poly;") ∈ lw_all := lw_g (lw_at lw_m1 165 rfl) rfl
theorem q235 : (Jvm.Cond.laysFinal "KeptCurves$Fraction" "KeptCurves$Fraction" "above" "LKeptCurves$Poly;") ∈ lw_all := lw_g (lw_at lw_m1 167 rfl) rfl
theorem q236 : (Jvm.Cond.soleField "KeptCurves$Fraction" "above") ∈ lw_all := lw_g (lw_at lw_m1 168 rfl) rfl
theorem q237 : (Jvm.Cond.laysFinal "KeptCurves$Fraction" "KeptCurves$Fraction" "below" "LKeptCurves$Poly;") ∈ lw_all := lw_g (lw_at lw_m1 169 rfl) rfl
theorem q238 : (Jvm.Cond.soleField "KeptCurves$Fraction" "below") ∈ lw_all := lw_g (lw_at lw_m1 170 rfl) rfl
theorem q239 : (Jvm.Cond.superclass "KeptCurves$Fraction" "java/lang/Object") ∈ lw_all := lw_g (lw_at lw_m1 171 rfl) rfl
theorem q780 : (Jvm.Cond.selects "KeptCurves$Fraction" ({ cls := "java/lang/Object", name := "getClass", desc := "()Ljava/lang/Class;" } : Jvm.MethodName) ({ cls := "java/lang/Object", name := "getClass", desc := "()Ljava/lang/Class;" } : Jvm.MethodName)) ∈ lw_all := lw_g (lw_at lw_m3 232 rfl) rfl
theorem q1477 : (Jvm.Cond.instanceMethod ({ cls := "KeptCurves$Fraction", name := "degree", desc := "()I" } : Jvm.MethodName)) ∈ lw_all := lw_g (lw_at lw_m6 209 rfl) rfl
theorem q1478 : (Jvm.Cond.selects "KeptCurves$Fraction" ({ cls := "KeptCurves$Fraction", name := "degree", desc := "()I" } : Jvm.MethodName) ({ cls := "KeptCurves$Fraction", name := "degree", desc := "()I" } : Jvm.MethodName)) ∈ lw_all := lw_g (lw_at lw_m6 210 rfl) rfl
theorem q1479 : (Jvm.Cond.code ({ cls := "KeptCurves$Fraction", name := "degree", desc := "()I" } : Jvm.MethodName) prog_6_method_2_code (1 : Nat) (Option.some Jvm.ClassFile.FieldType.int)) ∈ lw_all := lw_g (lw_at lw_m6 211 rfl) rfl
theorem q1480 : (Jvm.Cond.methodLink "KeptCurves$Fraction" (23 : Nat) ({ cls := "java/lang/Math", name := "max", desc := "(II)I" } : Jvm.MethodName)) ∈ lw_all := lw_g (lw_at lw_m6 212 rfl) rfl
theorem q2362 : (Jvm.Cond.castable "KeptCurves$Fraction" "java/lang/Object") ∈ lw_tbl := lw_at lw_m10 134 rfl
theorem in_X2 : ∀ w ∈ wsX20, w ∈ lw_all := lw_in wsX20 [235, 237] (by decide +kernel) (by decide +kernel)
/-! KeptCurves$Poly -/
set_option maxRecDepth 100000
def RX3 : String := "KeptCurves$Poly"
def TX3 : u_T := fun k => match k with
  | 0 => ("KeptCurves$Poly", "numbers", "[I", true)
  | _ => ("KeptCurves$Poly", "many", "I", false)
def tyX3 : Nat → FieldType := fun k => match k with
  | 0 => .array .int
  | _ => .int
abbrev wsX30 : List Cond := u_ws RX3 TX3 2
theorem nmX3 : ∀ a, a < 2 → ∀ b, b < 2 → a ≠ b → (TX3 a).2.1 ≠ (TX3 b).2.1 := by decide +kernel
theorem tyX3_ok : ∀ k, k < 2 → parseFieldDescriptor (TX3 k).2.2.1 = some (tyX3 k) := by decide +kernel
abbrev cX3_init : ByteArray := prog_10_method_1_code
def yX3_init : MethodName := ⟨RX3, "<init>", "()V"⟩
def dkwX3_init_0 : List UInt8 := [42, 183, 0, 3, 42, 17, 5, 120, 188, 10, 181, 0, 9, 177]
abbrev dktX3_init_0 : List UInt8 := dkwX3_init_0 ++ []
theorem dksX3_init_0 : cX3_init.data.toList.drop 0 = dktX3_init_0 := by decide +kernel
theorem dX3_init_0 : decode cX3_init 0 = .ok (.aload_n 0, 1) := dk_42 (dk_at dksX3_init_0 0 rfl rfl)
theorem dX3_init_1 : decode cX3_init 1 = .ok (.invokespecial 3, 3) := dk_183 0 3 (dk_at dksX3_init_0 1 rfl rfl)
theorem dX3_init_4 : decode cX3_init 4 = .ok (.aload_n 0, 1) := dk_42 (dk_at dksX3_init_0 4 rfl rfl)
theorem dX3_init_5 : decode cX3_init 5 = .ok (.sipush 1400, 3) := dk_17 5 120 (dk_at dksX3_init_0 5 rfl rfl)
theorem dX3_init_8 : decode cX3_init 8 = .ok (.newarray .int, 2) := dk_188_10 (dk_at dksX3_init_0 8 rfl rfl)
theorem dX3_init_10 : decode cX3_init 10 = .ok (.putfield 9, 3) := dk_181 0 9 (dk_at dksX3_init_0 10 rfl rfl)
theorem dX3_init_13 : decode cX3_init 13 = .ok (.return_, 1) := dk_177 (dk_at dksX3_init_0 13 rfl rfl)
abbrev cX3_becomesUnknown : ByteArray := prog_10_method_3_code
def yX3_becomesUnknown : MethodName := ⟨RX3, "becomesUnknown", "()V"⟩
def dkwX3_becomesUnknown_0 : List UInt8 := [42, 180, 0, 9, 3, 3, 79, 42, 180, 0, 9, 4, 4, 79, 42, 5, 181, 0, 15, 177]
abbrev dktX3_becomesUnknown_0 : List UInt8 := dkwX3_becomesUnknown_0 ++ []
theorem dksX3_becomesUnknown_0 : cX3_becomesUnknown.data.toList.drop 0 = dktX3_becomesUnknown_0 := by decide +kernel
theorem dX3_becomesUnknown_0 : decode cX3_becomesUnknown 0 = .ok (.aload_n 0, 1) := dk_42 (dk_at dksX3_becomesUnknown_0 0 rfl rfl)
theorem dX3_becomesUnknown_1 : decode cX3_becomesUnknown 1 = .ok (.getfield 9, 3) := dk_180 0 9 (dk_at dksX3_becomesUnknown_0 1 rfl rfl)
theorem dX3_becomesUnknown_4 : decode cX3_becomesUnknown 4 = .ok (.iconst 0, 1) := dk_3 (dk_at dksX3_becomesUnknown_0 4 rfl rfl)
theorem dX3_becomesUnknown_5 : decode cX3_becomesUnknown 5 = .ok (.iconst 0, 1) := dk_3 (dk_at dksX3_becomesUnknown_0 5 rfl rfl)
theorem dX3_becomesUnknown_6 : decode cX3_becomesUnknown 6 = .ok (.iastore, 1) := dk_79 (dk_at dksX3_becomesUnknown_0 6 rfl rfl)
theorem dX3_becomesUnknown_7 : decode cX3_becomesUnknown 7 = .ok (.aload_n 0, 1) := dk_42 (dk_at dksX3_becomesUnknown_0 7 rfl rfl)
theorem dX3_becomesUnknown_8 : decode cX3_becomesUnknown 8 = .ok (.getfield 9, 3) := dk_180 0 9 (dk_at dksX3_becomesUnknown_0 8 rfl rfl)
theorem dX3_becomesUnknown_11 : decode cX3_becomesUnknown 11 = .ok (.iconst 1, 1) := dk_4 (dk_at dksX3_becomesUnknown_0 11 rfl rfl)
theorem dX3_becomesUnknown_12 : decode cX3_becomesUnknown 12 = .ok (.iconst 1, 1) := dk_4 (dk_at dksX3_becomesUnknown_0 12 rfl rfl)
theorem dX3_becomesUnknown_13 : decode cX3_becomesUnknown 13 = .ok (.iastore, 1) := dk_79 (dk_at dksX3_becomesUnknown_0 13 rfl rfl)
theorem dX3_becomesUnknown_14 : decode cX3_becomesUnknown 14 = .ok (.aload_n 0, 1) := dk_42 (dk_at dksX3_becomesUnknown_0 14 rfl rfl)
theorem dX3_becomesUnknown_15 : decode cX3_becomesUnknown 15 = .ok (.iconst 2, 1) := dk_5 (dk_at dksX3_becomesUnknown_0 15 rfl rfl)
theorem dX3_becomesUnknown_16 : decode cX3_becomesUnknown 16 = .ok (.putfield 15, 3) := dk_181 0 15 (dk_at dksX3_becomesUnknown_0 16 rfl rfl)
theorem dX3_becomesUnknown_19 : decode cX3_becomesUnknown 19 = .ok (.return_, 1) := dk_177 (dk_at dksX3_becomesUnknown_0 19 rfl rfl)
abbrev cX3_becomes : ByteArray := prog_10_method_2_code
def yX3_becomes : MethodName := ⟨RX3, "becomes", "(I)V"⟩
def dkwX3_becomes_0 : List UInt8 := [42, 180, 0, 9, 3, 27, 79, 42, 27, 154, 0, 7, 3, 167, 0, 4, 4, 181, 0, 15, 177]
abbrev dktX3_becomes_0 : List UInt8 := dkwX3_becomes_0 ++ []
theorem dksX3_becomes_0 : cX3_becomes.data.toList.drop 0 = dktX3_becomes_0 := by decide +kernel
theorem dX3_becomes_0 : decode cX3_becomes 0 = .ok (.aload_n 0, 1) := dk_42 (dk_at dksX3_becomes_0 0 rfl rfl)
theorem dX3_becomes_1 : decode cX3_becomes 1 = .ok (.getfield 9, 3) := dk_180 0 9 (dk_at dksX3_becomes_0 1 rfl rfl)
theorem dX3_becomes_4 : decode cX3_becomes 4 = .ok (.iconst 0, 1) := dk_3 (dk_at dksX3_becomes_0 4 rfl rfl)
theorem dX3_becomes_5 : decode cX3_becomes 5 = .ok (.iload_n 1, 1) := dk_27 (dk_at dksX3_becomes_0 5 rfl rfl)
theorem dX3_becomes_6 : decode cX3_becomes 6 = .ok (.iastore, 1) := dk_79 (dk_at dksX3_becomes_0 6 rfl rfl)
theorem dX3_becomes_7 : decode cX3_becomes 7 = .ok (.aload_n 0, 1) := dk_42 (dk_at dksX3_becomes_0 7 rfl rfl)
theorem dX3_becomes_8 : decode cX3_becomes 8 = .ok (.iload_n 1, 1) := dk_27 (dk_at dksX3_becomes_0 8 rfl rfl)
theorem dX3_becomes_9 : decode cX3_becomes 9 = .ok (.ifCond .ne 7, 3) := dk_154 0 7 (dk_at dksX3_becomes_0 9 rfl rfl)
theorem dX3_becomes_12 : decode cX3_becomes 12 = .ok (.iconst 0, 1) := dk_3 (dk_at dksX3_becomes_0 12 rfl rfl)
theorem dX3_becomes_13 : decode cX3_becomes 13 = .ok (.goto 4, 3) := dk_167 0 4 (dk_at dksX3_becomes_0 13 rfl rfl)
theorem dX3_becomes_16 : decode cX3_becomes 16 = .ok (.iconst 1, 1) := dk_4 (dk_at dksX3_becomes_0 16 rfl rfl)
theorem dX3_becomes_17 : decode cX3_becomes 17 = .ok (.putfield 15, 3) := dk_181 0 15 (dk_at dksX3_becomes_0 17 rfl rfl)
theorem dX3_becomes_20 : decode cX3_becomes 20 = .ok (.return_, 1) := dk_177 (dk_at dksX3_becomes_0 20 rfl rfl)
abbrev cX3_adds : ByteArray := prog_10_method_8_code
def yX3_adds : MethodName := ⟨RX3, "adds", "(LKeptCurves$Poly;LKeptCurves$Poly;I)V"⟩
def dkwX3_adds_1 : List UInt8 := [184, 0, 38, 21, 4, 182, 0, 41, 132, 4, 1, 167, 255, 226, 177]
abbrev dktX3_adds_1 : List UInt8 := dkwX3_adds_1 ++ []
def dkwX3_adds_0 : List UInt8 := [3, 54, 4, 21, 4, 43, 180, 0, 15, 162, 0, 27, 42, 44, 29, 43, 180, 0, 9, 21, 4, 46]
abbrev dktX3_adds_0 : List UInt8 := dkwX3_adds_0 ++ dktX3_adds_1
theorem dksX3_adds_0 : cX3_adds.data.toList.drop 0 = dktX3_adds_0 := by decide +kernel
theorem dksX3_adds_1 : cX3_adds.data.toList.drop 22 = dktX3_adds_1 := dk_seg dksX3_adds_0 22 rfl rfl
theorem dX3_adds_0 : decode cX3_adds 0 = .ok (.iconst 0, 1) := dk_3 (dk_at dksX3_adds_0 0 rfl rfl)
theorem dX3_adds_1 : decode cX3_adds 1 = .ok (.istore 4, 2) := dk_54 4 (dk_at dksX3_adds_0 1 rfl rfl)
theorem dX3_adds_3 : decode cX3_adds 3 = .ok (.iload 4, 2) := dk_21 4 (dk_at dksX3_adds_0 3 rfl rfl)
theorem dX3_adds_5 : decode cX3_adds 5 = .ok (.aload_n 1, 1) := dk_43 (dk_at dksX3_adds_0 5 rfl rfl)
theorem dX3_adds_6 : decode cX3_adds 6 = .ok (.getfield 15, 3) := dk_180 0 15 (dk_at dksX3_adds_0 6 rfl rfl)
theorem dX3_adds_9 : decode cX3_adds 9 = .ok (.if_icmp .ge 27, 3) := dk_162 0 27 (dk_at dksX3_adds_0 9 rfl rfl)
theorem dX3_adds_12 : decode cX3_adds 12 = .ok (.aload_n 0, 1) := dk_42 (dk_at dksX3_adds_0 12 rfl rfl)
theorem dX3_adds_13 : decode cX3_adds 13 = .ok (.aload_n 2, 1) := dk_44 (dk_at dksX3_adds_0 13 rfl rfl)
theorem dX3_adds_14 : decode cX3_adds 14 = .ok (.iload_n 3, 1) := dk_29 (dk_at dksX3_adds_0 14 rfl rfl)
theorem dX3_adds_15 : decode cX3_adds 15 = .ok (.aload_n 1, 1) := dk_43 (dk_at dksX3_adds_0 15 rfl rfl)
theorem dX3_adds_16 : decode cX3_adds 16 = .ok (.getfield 9, 3) := dk_180 0 9 (dk_at dksX3_adds_0 16 rfl rfl)
theorem dX3_adds_19 : decode cX3_adds 19 = .ok (.iload 4, 2) := dk_21 4 (dk_at dksX3_adds_0 19 rfl rfl)
theorem dX3_adds_21 : decode cX3_adds 21 = .ok (.iaload, 1) := dk_46 (dk_at dksX3_adds_0 21 rfl rfl)
theorem dX3_adds_22 : decode cX3_adds 22 = .ok (.invokestatic 38, 3) := dk_184 0 38 (dk_at dksX3_adds_1 0 rfl rfl)
theorem dX3_adds_25 : decode cX3_adds 25 = .ok (.iload 4, 2) := dk_21 4 (dk_at dksX3_adds_1 3 rfl rfl)
theorem dX3_adds_27 : decode cX3_adds 27 = .ok (.invokevirtual 41, 3) := dk_182 0 41 (dk_at dksX3_adds_1 5 rfl rfl)
theorem dX3_adds_30 : decode cX3_adds 30 = .ok (.iinc 4 1, 3) := dk_132 4 1 (dk_at dksX3_adds_1 8 rfl rfl)
theorem dX3_adds_33 : decode cX3_adds 33 = .ok (.goto (-30), 3) := dk_167 255 226 (dk_at dksX3_adds_1 11 rfl rfl)
theorem dX3_adds_36 : decode cX3_adds 36 = .ok (.return_, 1) := dk_177 (dk_at dksX3_adds_1 14 rfl rfl)
abbrev cX3_adds_2 : ByteArray := prog_10_method_7_code
def yX3_adds_2 : MethodName := ⟨RX3, "adds", "(LKeptCurves$Poly;II)V"⟩
def dkwX3_adds_2_3 : List UInt8 := [167, 255, 213, 42, 182, 0, 35, 177]
abbrev dktX3_adds_2_3 : List UInt8 := dkwX3_adds_2_3 ++ []
def dkwX3_adds_2_2 : List UInt8 := [21, 4, 29, 96, 46, 28, 43, 180, 0, 9, 21, 4, 46, 104, 96, 16, 31, 112, 79, 132, 4, 1]
abbrev dktX3_adds_2_2 : List UInt8 := dkwX3_adds_2_2 ++ dktX3_adds_2_3
def dkwX3_adds_2_1 : List UInt8 := [54, 4, 21, 4, 43, 180, 0, 15, 162, 0, 40, 42, 180, 0, 9, 21, 4, 29, 96, 42, 180, 0, 9]
abbrev dktX3_adds_2_1 : List UInt8 := dkwX3_adds_2_1 ++ dktX3_adds_2_2
def dkwX3_adds_2_0 : List UInt8 := [43, 180, 0, 15, 153, 0, 7, 28, 154, 0, 4, 177, 42, 43, 180, 0, 15, 29, 96, 182, 0, 31, 3]
abbrev dktX3_adds_2_0 : List UInt8 := dkwX3_adds_2_0 ++ dktX3_adds_2_1
theorem dksX3_adds_2_0 : cX3_adds_2.data.toList.drop 0 = dktX3_adds_2_0 := by decide +kernel
theorem dksX3_adds_2_1 : cX3_adds_2.data.toList.drop 23 = dktX3_adds_2_1 := dk_seg dksX3_adds_2_0 23 rfl rfl
theorem dksX3_adds_2_2 : cX3_adds_2.data.toList.drop 46 = dktX3_adds_2_2 := dk_seg dksX3_adds_2_1 23 rfl rfl
theorem dksX3_adds_2_3 : cX3_adds_2.data.toList.drop 68 = dktX3_adds_2_3 := dk_seg dksX3_adds_2_2 22 rfl rfl
theorem dX3_adds_2_0 : decode cX3_adds_2 0 = .ok (.aload_n 1, 1) := dk_43 (dk_at dksX3_adds_2_0 0 rfl rfl)
theorem dX3_adds_2_1 : decode cX3_adds_2 1 = .ok (.getfield 15, 3) := dk_180 0 15 (dk_at dksX3_adds_2_0 1 rfl rfl)
theorem dX3_adds_2_4 : decode cX3_adds_2 4 = .ok (.ifCond .eq 7, 3) := dk_153 0 7 (dk_at dksX3_adds_2_0 4 rfl rfl)
theorem dX3_adds_2_7 : decode cX3_adds_2 7 = .ok (.iload_n 2, 1) := dk_28 (dk_at dksX3_adds_2_0 7 rfl rfl)
theorem dX3_adds_2_8 : decode cX3_adds_2 8 = .ok (.ifCond .ne 4, 3) := dk_154 0 4 (dk_at dksX3_adds_2_0 8 rfl rfl)
theorem dX3_adds_2_11 : decode cX3_adds_2 11 = .ok (.return_, 1) := dk_177 (dk_at dksX3_adds_2_0 11 rfl rfl)
theorem dX3_adds_2_12 : decode cX3_adds_2 12 = .ok (.aload_n 0, 1) := dk_42 (dk_at dksX3_adds_2_0 12 rfl rfl)
theorem dX3_adds_2_13 : decode cX3_adds_2 13 = .ok (.aload_n 1, 1) := dk_43 (dk_at dksX3_adds_2_0 13 rfl rfl)
theorem dX3_adds_2_14 : decode cX3_adds_2 14 = .ok (.getfield 15, 3) := dk_180 0 15 (dk_at dksX3_adds_2_0 14 rfl rfl)
theorem dX3_adds_2_17 : decode cX3_adds_2 17 = .ok (.iload_n 3, 1) := dk_29 (dk_at dksX3_adds_2_0 17 rfl rfl)
theorem dX3_adds_2_18 : decode cX3_adds_2 18 = .ok (.iadd, 1) := dk_96 (dk_at dksX3_adds_2_0 18 rfl rfl)
theorem dX3_adds_2_19 : decode cX3_adds_2 19 = .ok (.invokevirtual 31, 3) := dk_182 0 31 (dk_at dksX3_adds_2_0 19 rfl rfl)
theorem dX3_adds_2_22 : decode cX3_adds_2 22 = .ok (.iconst 0, 1) := dk_3 (dk_at dksX3_adds_2_0 22 rfl rfl)
theorem dX3_adds_2_23 : decode cX3_adds_2 23 = .ok (.istore 4, 2) := dk_54 4 (dk_at dksX3_adds_2_1 0 rfl rfl)
theorem dX3_adds_2_25 : decode cX3_adds_2 25 = .ok (.iload 4, 2) := dk_21 4 (dk_at dksX3_adds_2_1 2 rfl rfl)
theorem dX3_adds_2_27 : decode cX3_adds_2 27 = .ok (.aload_n 1, 1) := dk_43 (dk_at dksX3_adds_2_1 4 rfl rfl)
theorem dX3_adds_2_28 : decode cX3_adds_2 28 = .ok (.getfield 15, 3) := dk_180 0 15 (dk_at dksX3_adds_2_1 5 rfl rfl)
theorem dX3_adds_2_31 : decode cX3_adds_2 31 = .ok (.if_icmp .ge 40, 3) := dk_162 0 40 (dk_at dksX3_adds_2_1 8 rfl rfl)
theorem dX3_adds_2_34 : decode cX3_adds_2 34 = .ok (.aload_n 0, 1) := dk_42 (dk_at dksX3_adds_2_1 11 rfl rfl)
theorem dX3_adds_2_35 : decode cX3_adds_2 35 = .ok (.getfield 9, 3) := dk_180 0 9 (dk_at dksX3_adds_2_1 12 rfl rfl)
theorem dX3_adds_2_38 : decode cX3_adds_2 38 = .ok (.iload 4, 2) := dk_21 4 (dk_at dksX3_adds_2_1 15 rfl rfl)
theorem dX3_adds_2_40 : decode cX3_adds_2 40 = .ok (.iload_n 3, 1) := dk_29 (dk_at dksX3_adds_2_1 17 rfl rfl)
theorem dX3_adds_2_41 : decode cX3_adds_2 41 = .ok (.iadd, 1) := dk_96 (dk_at dksX3_adds_2_1 18 rfl rfl)
theorem dX3_adds_2_42 : decode cX3_adds_2 42 = .ok (.aload_n 0, 1) := dk_42 (dk_at dksX3_adds_2_1 19 rfl rfl)
theorem dX3_adds_2_43 : decode cX3_adds_2 43 = .ok (.getfield 9, 3) := dk_180 0 9 (dk_at dksX3_adds_2_1 20 rfl rfl)
theorem dX3_adds_2_46 : decode cX3_adds_2 46 = .ok (.iload 4, 2) := dk_21 4 (dk_at dksX3_adds_2_2 0 rfl rfl)
theorem dX3_adds_2_48 : decode cX3_adds_2 48 = .ok (.iload_n 3, 1) := dk_29 (dk_at dksX3_adds_2_2 2 rfl rfl)
theorem dX3_adds_2_49 : decode cX3_adds_2 49 = .ok (.iadd, 1) := dk_96 (dk_at dksX3_adds_2_2 3 rfl rfl)
theorem dX3_adds_2_50 : decode cX3_adds_2 50 = .ok (.iaload, 1) := dk_46 (dk_at dksX3_adds_2_2 4 rfl rfl)
theorem dX3_adds_2_51 : decode cX3_adds_2 51 = .ok (.iload_n 2, 1) := dk_28 (dk_at dksX3_adds_2_2 5 rfl rfl)
theorem dX3_adds_2_52 : decode cX3_adds_2 52 = .ok (.aload_n 1, 1) := dk_43 (dk_at dksX3_adds_2_2 6 rfl rfl)
theorem dX3_adds_2_53 : decode cX3_adds_2 53 = .ok (.getfield 9, 3) := dk_180 0 9 (dk_at dksX3_adds_2_2 7 rfl rfl)
theorem dX3_adds_2_56 : decode cX3_adds_2 56 = .ok (.iload 4, 2) := dk_21 4 (dk_at dksX3_adds_2_2 10 rfl rfl)
theorem dX3_adds_2_58 : decode cX3_adds_2 58 = .ok (.iaload, 1) := dk_46 (dk_at dksX3_adds_2_2 12 rfl rfl)
theorem dX3_adds_2_59 : decode cX3_adds_2 59 = .ok (.imul, 1) := dk_104 (dk_at dksX3_adds_2_2 13 rfl rfl)
theorem dX3_adds_2_60 : decode cX3_adds_2 60 = .ok (.iadd, 1) := dk_96 (dk_at dksX3_adds_2_2 14 rfl rfl)
theorem dX3_adds_2_61 : decode cX3_adds_2 61 = .ok (.bipush 31, 2) := dk_16 31 (dk_at dksX3_adds_2_2 15 rfl rfl)
theorem dX3_adds_2_63 : decode cX3_adds_2 63 = .ok (.irem, 1) := dk_112 (dk_at dksX3_adds_2_2 17 rfl rfl)
theorem dX3_adds_2_64 : decode cX3_adds_2 64 = .ok (.iastore, 1) := dk_79 (dk_at dksX3_adds_2_2 18 rfl rfl)
theorem dX3_adds_2_65 : decode cX3_adds_2 65 = .ok (.iinc 4 1, 3) := dk_132 4 1 (dk_at dksX3_adds_2_2 19 rfl rfl)
theorem dX3_adds_2_68 : decode cX3_adds_2 68 = .ok (.goto (-43), 3) := dk_167 255 213 (dk_at dksX3_adds_2_3 0 rfl rfl)
theorem dX3_adds_2_71 : decode cX3_adds_2 71 = .ok (.aload_n 0, 1) := dk_42 (dk_at dksX3_adds_2_3 3 rfl rfl)
theorem dX3_adds_2_72 : decode cX3_adds_2 72 = .ok (.invokevirtual 35, 3) := dk_182 0 35 (dk_at dksX3_adds_2_3 4 rfl rfl)
theorem dX3_adds_2_75 : decode cX3_adds_2 75 = .ok (.return_, 1) := dk_177 (dk_at dksX3_adds_2_3 7 rfl rfl)
abbrev cX3_reaches : ByteArray := prog_10_method_5_code
def yX3_reaches : MethodName := ⟨RX3, "reaches", "(I)V"⟩
def dkwX3_reaches_1 : List UInt8 := [42, 180, 0, 15, 27, 184, 0, 25, 181, 0, 15, 177]
abbrev dktX3_reaches_1 : List UInt8 := dkwX3_reaches_1 ++ []
def dkwX3_reaches_0 : List UInt8 := [42, 180, 0, 15, 61, 28, 27, 162, 0, 16, 42, 180, 0, 9, 28, 3, 79, 132, 2, 1, 167, 255, 241, 42]
abbrev dktX3_reaches_0 : List UInt8 := dkwX3_reaches_0 ++ dktX3_reaches_1
theorem dksX3_reaches_0 : cX3_reaches.data.toList.drop 0 = dktX3_reaches_0 := by decide +kernel
theorem dksX3_reaches_1 : cX3_reaches.data.toList.drop 24 = dktX3_reaches_1 := dk_seg dksX3_reaches_0 24 rfl rfl
theorem dX3_reaches_0 : decode cX3_reaches 0 = .ok (.aload_n 0, 1) := dk_42 (dk_at dksX3_reaches_0 0 rfl rfl)
theorem dX3_reaches_1 : decode cX3_reaches 1 = .ok (.getfield 15, 3) := dk_180 0 15 (dk_at dksX3_reaches_0 1 rfl rfl)
theorem dX3_reaches_4 : decode cX3_reaches 4 = .ok (.istore_n 2, 1) := dk_61 (dk_at dksX3_reaches_0 4 rfl rfl)
theorem dX3_reaches_5 : decode cX3_reaches 5 = .ok (.iload_n 2, 1) := dk_28 (dk_at dksX3_reaches_0 5 rfl rfl)
theorem dX3_reaches_6 : decode cX3_reaches 6 = .ok (.iload_n 1, 1) := dk_27 (dk_at dksX3_reaches_0 6 rfl rfl)
theorem dX3_reaches_7 : decode cX3_reaches 7 = .ok (.if_icmp .ge 16, 3) := dk_162 0 16 (dk_at dksX3_reaches_0 7 rfl rfl)
theorem dX3_reaches_10 : decode cX3_reaches 10 = .ok (.aload_n 0, 1) := dk_42 (dk_at dksX3_reaches_0 10 rfl rfl)
theorem dX3_reaches_11 : decode cX3_reaches 11 = .ok (.getfield 9, 3) := dk_180 0 9 (dk_at dksX3_reaches_0 11 rfl rfl)
theorem dX3_reaches_14 : decode cX3_reaches 14 = .ok (.iload_n 2, 1) := dk_28 (dk_at dksX3_reaches_0 14 rfl rfl)
theorem dX3_reaches_15 : decode cX3_reaches 15 = .ok (.iconst 0, 1) := dk_3 (dk_at dksX3_reaches_0 15 rfl rfl)
theorem dX3_reaches_16 : decode cX3_reaches 16 = .ok (.iastore, 1) := dk_79 (dk_at dksX3_reaches_0 16 rfl rfl)
theorem dX3_reaches_17 : decode cX3_reaches 17 = .ok (.iinc 2 1, 3) := dk_132 2 1 (dk_at dksX3_reaches_0 17 rfl rfl)
theorem dX3_reaches_20 : decode cX3_reaches 20 = .ok (.goto (-15), 3) := dk_167 255 241 (dk_at dksX3_reaches_0 20 rfl rfl)
theorem dX3_reaches_23 : decode cX3_reaches 23 = .ok (.aload_n 0, 1) := dk_42 (dk_at dksX3_reaches_0 23 rfl rfl)
theorem dX3_reaches_24 : decode cX3_reaches 24 = .ok (.aload_n 0, 1) := dk_42 (dk_at dksX3_reaches_1 0 rfl rfl)
theorem dX3_reaches_25 : decode cX3_reaches 25 = .ok (.getfield 15, 3) := dk_180 0 15 (dk_at dksX3_reaches_1 1 rfl rfl)
theorem dX3_reaches_28 : decode cX3_reaches 28 = .ok (.iload_n 1, 1) := dk_27 (dk_at dksX3_reaches_1 4 rfl rfl)
theorem dX3_reaches_29 : decode cX3_reaches 29 = .ok (.invokestatic 25, 3) := dk_184 0 25 (dk_at dksX3_reaches_1 5 rfl rfl)
theorem dX3_reaches_32 : decode cX3_reaches 32 = .ok (.putfield 15, 3) := dk_181 0 15 (dk_at dksX3_reaches_1 8 rfl rfl)
theorem dX3_reaches_35 : decode cX3_reaches 35 = .ok (.return_, 1) := dk_177 (dk_at dksX3_reaches_1 11 rfl rfl)
abbrev cX3_ends : ByteArray := prog_10_method_6_code
def yX3_ends : MethodName := ⟨RX3, "ends", "()V"⟩
def dkwX3_ends_1 : List UInt8 := [180, 0, 15, 4, 100, 181, 0, 15, 167, 255, 225, 177]
abbrev dktX3_ends_1 : List UInt8 := dkwX3_ends_1 ++ []
def dkwX3_ends_0 : List UInt8 := [42, 180, 0, 15, 158, 0, 30, 42, 180, 0, 9, 42, 180, 0, 15, 4, 100, 46, 154, 0, 16, 42, 89]
abbrev dktX3_ends_0 : List UInt8 := dkwX3_ends_0 ++ dktX3_ends_1
theorem dksX3_ends_0 : cX3_ends.data.toList.drop 0 = dktX3_ends_0 := by decide +kernel
theorem dksX3_ends_1 : cX3_ends.data.toList.drop 23 = dktX3_ends_1 := dk_seg dksX3_ends_0 23 rfl rfl
theorem dX3_ends_0 : decode cX3_ends 0 = .ok (.aload_n 0, 1) := dk_42 (dk_at dksX3_ends_0 0 rfl rfl)
theorem dX3_ends_1 : decode cX3_ends 1 = .ok (.getfield 15, 3) := dk_180 0 15 (dk_at dksX3_ends_0 1 rfl rfl)
theorem dX3_ends_4 : decode cX3_ends 4 = .ok (.ifCond .le 30, 3) := dk_158 0 30 (dk_at dksX3_ends_0 4 rfl rfl)
theorem dX3_ends_7 : decode cX3_ends 7 = .ok (.aload_n 0, 1) := dk_42 (dk_at dksX3_ends_0 7 rfl rfl)
theorem dX3_ends_8 : decode cX3_ends 8 = .ok (.getfield 9, 3) := dk_180 0 9 (dk_at dksX3_ends_0 8 rfl rfl)
theorem dX3_ends_11 : decode cX3_ends 11 = .ok (.aload_n 0, 1) := dk_42 (dk_at dksX3_ends_0 11 rfl rfl)
theorem dX3_ends_12 : decode cX3_ends 12 = .ok (.getfield 15, 3) := dk_180 0 15 (dk_at dksX3_ends_0 12 rfl rfl)
theorem dX3_ends_15 : decode cX3_ends 15 = .ok (.iconst 1, 1) := dk_4 (dk_at dksX3_ends_0 15 rfl rfl)
theorem dX3_ends_16 : decode cX3_ends 16 = .ok (.isub, 1) := dk_100 (dk_at dksX3_ends_0 16 rfl rfl)
theorem dX3_ends_17 : decode cX3_ends 17 = .ok (.iaload, 1) := dk_46 (dk_at dksX3_ends_0 17 rfl rfl)
theorem dX3_ends_18 : decode cX3_ends 18 = .ok (.ifCond .ne 16, 3) := dk_154 0 16 (dk_at dksX3_ends_0 18 rfl rfl)
theorem dX3_ends_21 : decode cX3_ends 21 = .ok (.aload_n 0, 1) := dk_42 (dk_at dksX3_ends_0 21 rfl rfl)
theorem dX3_ends_22 : decode cX3_ends 22 = .ok (.dup, 1) := dk_89 (dk_at dksX3_ends_0 22 rfl rfl)
theorem dX3_ends_23 : decode cX3_ends 23 = .ok (.getfield 15, 3) := dk_180 0 15 (dk_at dksX3_ends_1 0 rfl rfl)
theorem dX3_ends_26 : decode cX3_ends 26 = .ok (.iconst 1, 1) := dk_4 (dk_at dksX3_ends_1 3 rfl rfl)
theorem dX3_ends_27 : decode cX3_ends 27 = .ok (.isub, 1) := dk_100 (dk_at dksX3_ends_1 4 rfl rfl)
theorem dX3_ends_28 : decode cX3_ends 28 = .ok (.putfield 15, 3) := dk_181 0 15 (dk_at dksX3_ends_1 5 rfl rfl)
theorem dX3_ends_31 : decode cX3_ends 31 = .ok (.goto (-31), 3) := dk_167 255 225 (dk_at dksX3_ends_1 8 rfl rfl)
theorem dX3_ends_34 : decode cX3_ends 34 = .ok (.return_, 1) := dk_177 (dk_at dksX3_ends_1 11 rfl rfl)
abbrev cX3_like : ByteArray := prog_10_method_4_code
def yX3_like : MethodName := ⟨RX3, "like", "(LKeptCurves$Poly;)V"⟩
def dkwX3_like_1 : List UInt8 := [181, 0, 15, 177]
abbrev dktX3_like_1 : List UInt8 := dkwX3_like_1 ++ []
def dkwX3_like_0 : List UInt8 := [43, 180, 0, 9, 3, 42, 180, 0, 9, 3, 43, 180, 0, 15, 184, 0, 19, 42, 43, 180, 0, 15]
abbrev dktX3_like_0 : List UInt8 := dkwX3_like_0 ++ dktX3_like_1
theorem dksX3_like_0 : cX3_like.data.toList.drop 0 = dktX3_like_0 := by decide +kernel
theorem dksX3_like_1 : cX3_like.data.toList.drop 22 = dktX3_like_1 := dk_seg dksX3_like_0 22 rfl rfl
theorem dX3_like_0 : decode cX3_like 0 = .ok (.aload_n 1, 1) := dk_43 (dk_at dksX3_like_0 0 rfl rfl)
theorem dX3_like_1 : decode cX3_like 1 = .ok (.getfield 9, 3) := dk_180 0 9 (dk_at dksX3_like_0 1 rfl rfl)
theorem dX3_like_4 : decode cX3_like 4 = .ok (.iconst 0, 1) := dk_3 (dk_at dksX3_like_0 4 rfl rfl)
theorem dX3_like_5 : decode cX3_like 5 = .ok (.aload_n 0, 1) := dk_42 (dk_at dksX3_like_0 5 rfl rfl)
theorem dX3_like_6 : decode cX3_like 6 = .ok (.getfield 9, 3) := dk_180 0 9 (dk_at dksX3_like_0 6 rfl rfl)
theorem dX3_like_9 : decode cX3_like 9 = .ok (.iconst 0, 1) := dk_3 (dk_at dksX3_like_0 9 rfl rfl)
theorem dX3_like_10 : decode cX3_like 10 = .ok (.aload_n 1, 1) := dk_43 (dk_at dksX3_like_0 10 rfl rfl)
theorem dX3_like_11 : decode cX3_like 11 = .ok (.getfield 15, 3) := dk_180 0 15 (dk_at dksX3_like_0 11 rfl rfl)
theorem dX3_like_14 : decode cX3_like 14 = .ok (.invokestatic 19, 3) := dk_184 0 19 (dk_at dksX3_like_0 14 rfl rfl)
theorem dX3_like_17 : decode cX3_like 17 = .ok (.aload_n 0, 1) := dk_42 (dk_at dksX3_like_0 17 rfl rfl)
theorem dX3_like_18 : decode cX3_like 18 = .ok (.aload_n 1, 1) := dk_43 (dk_at dksX3_like_0 18 rfl rfl)
theorem dX3_like_19 : decode cX3_like 19 = .ok (.getfield 15, 3) := dk_180 0 15 (dk_at dksX3_like_0 19 rfl rfl)
theorem dX3_like_22 : decode cX3_like 22 = .ok (.putfield 15, 3) := dk_181 0 15 (dk_at dksX3_like_1 0 rfl rfl)
theorem dX3_like_25 : decode cX3_like 25 = .ok (.return_, 1) := dk_177 (dk_at dksX3_like_1 3 rfl rfl)
abbrev cX3_remains : ByteArray := prog_10_method_9_code
def yX3_remains : MethodName := ⟨RX3, "remains", "(LKeptCurves$Poly;)V"⟩
def dkwX3_remains_2 : List UInt8 := [184, 0, 48, 42, 180, 0, 15, 43, 180, 0, 15, 100, 182, 0, 41, 167, 255, 196, 177]
abbrev dktX3_remains_2 : List UInt8 := dkwX3_remains_2 ++ []
def dkwX3_remains_1 : List UInt8 := [178, 0, 45, 43, 180, 0, 9, 43, 180, 0, 15, 4, 100, 46, 46, 184, 0, 38, 61, 42, 43, 3, 28]
abbrev dktX3_remains_1 : List UInt8 := dkwX3_remains_1 ++ dktX3_remains_2
def dkwX3_remains_0 : List UInt8 := [42, 180, 0, 15, 43, 180, 0, 15, 161, 0, 55, 42, 180, 0, 9, 42, 180, 0, 15, 4, 100, 46]
abbrev dktX3_remains_0 : List UInt8 := dkwX3_remains_0 ++ dktX3_remains_1
theorem dksX3_remains_0 : cX3_remains.data.toList.drop 0 = dktX3_remains_0 := by decide +kernel
theorem dksX3_remains_1 : cX3_remains.data.toList.drop 22 = dktX3_remains_1 := dk_seg dksX3_remains_0 22 rfl rfl
theorem dksX3_remains_2 : cX3_remains.data.toList.drop 45 = dktX3_remains_2 := dk_seg dksX3_remains_1 23 rfl rfl
theorem dX3_remains_0 : decode cX3_remains 0 = .ok (.aload_n 0, 1) := dk_42 (dk_at dksX3_remains_0 0 rfl rfl)
theorem dX3_remains_1 : decode cX3_remains 1 = .ok (.getfield 15, 3) := dk_180 0 15 (dk_at dksX3_remains_0 1 rfl rfl)
theorem dX3_remains_4 : decode cX3_remains 4 = .ok (.aload_n 1, 1) := dk_43 (dk_at dksX3_remains_0 4 rfl rfl)
theorem dX3_remains_5 : decode cX3_remains 5 = .ok (.getfield 15, 3) := dk_180 0 15 (dk_at dksX3_remains_0 5 rfl rfl)
theorem dX3_remains_8 : decode cX3_remains 8 = .ok (.if_icmp .lt 55, 3) := dk_161 0 55 (dk_at dksX3_remains_0 8 rfl rfl)
theorem dX3_remains_11 : decode cX3_remains 11 = .ok (.aload_n 0, 1) := dk_42 (dk_at dksX3_remains_0 11 rfl rfl)
theorem dX3_remains_12 : decode cX3_remains 12 = .ok (.getfield 9, 3) := dk_180 0 9 (dk_at dksX3_remains_0 12 rfl rfl)
theorem dX3_remains_15 : decode cX3_remains 15 = .ok (.aload_n 0, 1) := dk_42 (dk_at dksX3_remains_0 15 rfl rfl)
theorem dX3_remains_16 : decode cX3_remains 16 = .ok (.getfield 15, 3) := dk_180 0 15 (dk_at dksX3_remains_0 16 rfl rfl)
theorem dX3_remains_19 : decode cX3_remains 19 = .ok (.iconst 1, 1) := dk_4 (dk_at dksX3_remains_0 19 rfl rfl)
theorem dX3_remains_20 : decode cX3_remains 20 = .ok (.isub, 1) := dk_100 (dk_at dksX3_remains_0 20 rfl rfl)
theorem dX3_remains_21 : decode cX3_remains 21 = .ok (.iaload, 1) := dk_46 (dk_at dksX3_remains_0 21 rfl rfl)
theorem dX3_remains_22 : decode cX3_remains 22 = .ok (.getstatic 45, 3) := dk_178 0 45 (dk_at dksX3_remains_1 0 rfl rfl)
theorem dX3_remains_25 : decode cX3_remains 25 = .ok (.aload_n 1, 1) := dk_43 (dk_at dksX3_remains_1 3 rfl rfl)
theorem dX3_remains_26 : decode cX3_remains 26 = .ok (.getfield 9, 3) := dk_180 0 9 (dk_at dksX3_remains_1 4 rfl rfl)
theorem dX3_remains_29 : decode cX3_remains 29 = .ok (.aload_n 1, 1) := dk_43 (dk_at dksX3_remains_1 7 rfl rfl)
theorem dX3_remains_30 : decode cX3_remains 30 = .ok (.getfield 15, 3) := dk_180 0 15 (dk_at dksX3_remains_1 8 rfl rfl)
theorem dX3_remains_33 : decode cX3_remains 33 = .ok (.iconst 1, 1) := dk_4 (dk_at dksX3_remains_1 11 rfl rfl)
theorem dX3_remains_34 : decode cX3_remains 34 = .ok (.isub, 1) := dk_100 (dk_at dksX3_remains_1 12 rfl rfl)
theorem dX3_remains_35 : decode cX3_remains 35 = .ok (.iaload, 1) := dk_46 (dk_at dksX3_remains_1 13 rfl rfl)
theorem dX3_remains_36 : decode cX3_remains 36 = .ok (.iaload, 1) := dk_46 (dk_at dksX3_remains_1 14 rfl rfl)
theorem dX3_remains_37 : decode cX3_remains 37 = .ok (.invokestatic 38, 3) := dk_184 0 38 (dk_at dksX3_remains_1 15 rfl rfl)
theorem dX3_remains_40 : decode cX3_remains 40 = .ok (.istore_n 2, 1) := dk_61 (dk_at dksX3_remains_1 18 rfl rfl)
theorem dX3_remains_41 : decode cX3_remains 41 = .ok (.aload_n 0, 1) := dk_42 (dk_at dksX3_remains_1 19 rfl rfl)
theorem dX3_remains_42 : decode cX3_remains 42 = .ok (.aload_n 1, 1) := dk_43 (dk_at dksX3_remains_1 20 rfl rfl)
theorem dX3_remains_43 : decode cX3_remains 43 = .ok (.iconst 0, 1) := dk_3 (dk_at dksX3_remains_1 21 rfl rfl)
theorem dX3_remains_44 : decode cX3_remains 44 = .ok (.iload_n 2, 1) := dk_28 (dk_at dksX3_remains_1 22 rfl rfl)
theorem dX3_remains_45 : decode cX3_remains 45 = .ok (.invokestatic 48, 3) := dk_184 0 48 (dk_at dksX3_remains_2 0 rfl rfl)
theorem dX3_remains_48 : decode cX3_remains 48 = .ok (.aload_n 0, 1) := dk_42 (dk_at dksX3_remains_2 3 rfl rfl)
theorem dX3_remains_49 : decode cX3_remains 49 = .ok (.getfield 15, 3) := dk_180 0 15 (dk_at dksX3_remains_2 4 rfl rfl)
theorem dX3_remains_52 : decode cX3_remains 52 = .ok (.aload_n 1, 1) := dk_43 (dk_at dksX3_remains_2 7 rfl rfl)
theorem dX3_remains_53 : decode cX3_remains 53 = .ok (.getfield 15, 3) := dk_180 0 15 (dk_at dksX3_remains_2 8 rfl rfl)
theorem dX3_remains_56 : decode cX3_remains 56 = .ok (.isub, 1) := dk_100 (dk_at dksX3_remains_2 11 rfl rfl)
theorem dX3_remains_57 : decode cX3_remains 57 = .ok (.invokevirtual 41, 3) := dk_182 0 41 (dk_at dksX3_remains_2 12 rfl rfl)
theorem dX3_remains_60 : decode cX3_remains 60 = .ok (.goto (-60), 3) := dk_167 255 196 (dk_at dksX3_remains_2 15 rfl rfl)
theorem dX3_remains_63 : decode cX3_remains 63 = .ok (.return_, 1) := dk_177 (dk_at dksX3_remains_2 18 rfl rfl)
abbrev cX3_quotient : ByteArray := prog_10_method_10_code
def yX3_quotient : MethodName := ⟨RX3, "quotient", "(LKeptCurves$Poly;LKeptCurves$Poly;)V"⟩
def dkwX3_quotient_4 : List UInt8 := [182, 0, 41, 167, 255, 184, 177]
abbrev dktX3_quotient_4 : List UInt8 := dkwX3_quotient_4 ++ []
def dkwX3_quotient_3 : List UInt8 := [46, 184, 0, 38, 54, 4, 44, 180, 0, 9, 29, 21, 4, 79, 42, 43, 3, 21, 4, 184, 0, 48, 29]
abbrev dktX3_quotient_3 : List UInt8 := dkwX3_quotient_3 ++ dktX3_quotient_4
def dkwX3_quotient_2 : List UInt8 := [180, 0, 9, 42, 180, 0, 15, 4, 100, 46, 178, 0, 45, 43, 180, 0, 9, 43, 180, 0, 15, 4, 100, 46]
abbrev dktX3_quotient_2 : List UInt8 := dkwX3_quotient_2 ++ dktX3_quotient_3
def dkwX3_quotient_1 : List UInt8 := [42, 180, 0, 15, 43, 180, 0, 15, 161, 0, 67, 42, 180, 0, 15, 43, 180, 0, 15, 100, 62, 42]
abbrev dktX3_quotient_1 : List UInt8 := dkwX3_quotient_1 ++ dktX3_quotient_2
def dkwX3_quotient_0 : List UInt8 := [44, 3, 181, 0, 15, 44, 3, 42, 180, 0, 15, 43, 180, 0, 15, 100, 4, 96, 184, 0, 25, 182, 0, 31]
abbrev dktX3_quotient_0 : List UInt8 := dkwX3_quotient_0 ++ dktX3_quotient_1
theorem dksX3_quotient_0 : cX3_quotient.data.toList.drop 0 = dktX3_quotient_0 := by decide +kernel
theorem dksX3_quotient_1 : cX3_quotient.data.toList.drop 24 = dktX3_quotient_1 := dk_seg dksX3_quotient_0 24 rfl rfl
theorem dksX3_quotient_2 : cX3_quotient.data.toList.drop 46 = dktX3_quotient_2 := dk_seg dksX3_quotient_1 22 rfl rfl
theorem dksX3_quotient_3 : cX3_quotient.data.toList.drop 70 = dktX3_quotient_3 := dk_seg dksX3_quotient_2 24 rfl rfl
theorem dksX3_quotient_4 : cX3_quotient.data.toList.drop 93 = dktX3_quotient_4 := dk_seg dksX3_quotient_3 23 rfl rfl
theorem dX3_quotient_0 : decode cX3_quotient 0 = .ok (.aload_n 2, 1) := dk_44 (dk_at dksX3_quotient_0 0 rfl rfl)
theorem dX3_quotient_1 : decode cX3_quotient 1 = .ok (.iconst 0, 1) := dk_3 (dk_at dksX3_quotient_0 1 rfl rfl)
theorem dX3_quotient_2 : decode cX3_quotient 2 = .ok (.putfield 15, 3) := dk_181 0 15 (dk_at dksX3_quotient_0 2 rfl rfl)
theorem dX3_quotient_5 : decode cX3_quotient 5 = .ok (.aload_n 2, 1) := dk_44 (dk_at dksX3_quotient_0 5 rfl rfl)
theorem dX3_quotient_6 : decode cX3_quotient 6 = .ok (.iconst 0, 1) := dk_3 (dk_at dksX3_quotient_0 6 rfl rfl)
theorem dX3_quotient_7 : decode cX3_quotient 7 = .ok (.aload_n 0, 1) := dk_42 (dk_at dksX3_quotient_0 7 rfl rfl)
theorem dX3_quotient_8 : decode cX3_quotient 8 = .ok (.getfield 15, 3) := dk_180 0 15 (dk_at dksX3_quotient_0 8 rfl rfl)
theorem dX3_quotient_11 : decode cX3_quotient 11 = .ok (.aload_n 1, 1) := dk_43 (dk_at dksX3_quotient_0 11 rfl rfl)
theorem dX3_quotient_12 : decode cX3_quotient 12 = .ok (.getfield 15, 3) := dk_180 0 15 (dk_at dksX3_quotient_0 12 rfl rfl)
theorem dX3_quotient_15 : decode cX3_quotient 15 = .ok (.isub, 1) := dk_100 (dk_at dksX3_quotient_0 15 rfl rfl)
theorem dX3_quotient_16 : decode cX3_quotient 16 = .ok (.iconst 1, 1) := dk_4 (dk_at dksX3_quotient_0 16 rfl rfl)
theorem dX3_quotient_17 : decode cX3_quotient 17 = .ok (.iadd, 1) := dk_96 (dk_at dksX3_quotient_0 17 rfl rfl)
theorem dX3_quotient_18 : decode cX3_quotient 18 = .ok (.invokestatic 25, 3) := dk_184 0 25 (dk_at dksX3_quotient_0 18 rfl rfl)
theorem dX3_quotient_21 : decode cX3_quotient 21 = .ok (.invokevirtual 31, 3) := dk_182 0 31 (dk_at dksX3_quotient_0 21 rfl rfl)
theorem dX3_quotient_24 : decode cX3_quotient 24 = .ok (.aload_n 0, 1) := dk_42 (dk_at dksX3_quotient_1 0 rfl rfl)
theorem dX3_quotient_25 : decode cX3_quotient 25 = .ok (.getfield 15, 3) := dk_180 0 15 (dk_at dksX3_quotient_1 1 rfl rfl)
theorem dX3_quotient_28 : decode cX3_quotient 28 = .ok (.aload_n 1, 1) := dk_43 (dk_at dksX3_quotient_1 4 rfl rfl)
theorem dX3_quotient_29 : decode cX3_quotient 29 = .ok (.getfield 15, 3) := dk_180 0 15 (dk_at dksX3_quotient_1 5 rfl rfl)
theorem dX3_quotient_32 : decode cX3_quotient 32 = .ok (.if_icmp .lt 67, 3) := dk_161 0 67 (dk_at dksX3_quotient_1 8 rfl rfl)
theorem dX3_quotient_35 : decode cX3_quotient 35 = .ok (.aload_n 0, 1) := dk_42 (dk_at dksX3_quotient_1 11 rfl rfl)
theorem dX3_quotient_36 : decode cX3_quotient 36 = .ok (.getfield 15, 3) := dk_180 0 15 (dk_at dksX3_quotient_1 12 rfl rfl)
theorem dX3_quotient_39 : decode cX3_quotient 39 = .ok (.aload_n 1, 1) := dk_43 (dk_at dksX3_quotient_1 15 rfl rfl)
theorem dX3_quotient_40 : decode cX3_quotient 40 = .ok (.getfield 15, 3) := dk_180 0 15 (dk_at dksX3_quotient_1 16 rfl rfl)
theorem dX3_quotient_43 : decode cX3_quotient 43 = .ok (.isub, 1) := dk_100 (dk_at dksX3_quotient_1 19 rfl rfl)
theorem dX3_quotient_44 : decode cX3_quotient 44 = .ok (.istore_n 3, 1) := dk_62 (dk_at dksX3_quotient_1 20 rfl rfl)
theorem dX3_quotient_45 : decode cX3_quotient 45 = .ok (.aload_n 0, 1) := dk_42 (dk_at dksX3_quotient_1 21 rfl rfl)
theorem dX3_quotient_46 : decode cX3_quotient 46 = .ok (.getfield 9, 3) := dk_180 0 9 (dk_at dksX3_quotient_2 0 rfl rfl)
theorem dX3_quotient_49 : decode cX3_quotient 49 = .ok (.aload_n 0, 1) := dk_42 (dk_at dksX3_quotient_2 3 rfl rfl)
theorem dX3_quotient_50 : decode cX3_quotient 50 = .ok (.getfield 15, 3) := dk_180 0 15 (dk_at dksX3_quotient_2 4 rfl rfl)
theorem dX3_quotient_53 : decode cX3_quotient 53 = .ok (.iconst 1, 1) := dk_4 (dk_at dksX3_quotient_2 7 rfl rfl)
theorem dX3_quotient_54 : decode cX3_quotient 54 = .ok (.isub, 1) := dk_100 (dk_at dksX3_quotient_2 8 rfl rfl)
theorem dX3_quotient_55 : decode cX3_quotient 55 = .ok (.iaload, 1) := dk_46 (dk_at dksX3_quotient_2 9 rfl rfl)
theorem dX3_quotient_56 : decode cX3_quotient 56 = .ok (.getstatic 45, 3) := dk_178 0 45 (dk_at dksX3_quotient_2 10 rfl rfl)
theorem dX3_quotient_59 : decode cX3_quotient 59 = .ok (.aload_n 1, 1) := dk_43 (dk_at dksX3_quotient_2 13 rfl rfl)
theorem dX3_quotient_60 : decode cX3_quotient 60 = .ok (.getfield 9, 3) := dk_180 0 9 (dk_at dksX3_quotient_2 14 rfl rfl)
theorem dX3_quotient_63 : decode cX3_quotient 63 = .ok (.aload_n 1, 1) := dk_43 (dk_at dksX3_quotient_2 17 rfl rfl)
theorem dX3_quotient_64 : decode cX3_quotient 64 = .ok (.getfield 15, 3) := dk_180 0 15 (dk_at dksX3_quotient_2 18 rfl rfl)
theorem dX3_quotient_67 : decode cX3_quotient 67 = .ok (.iconst 1, 1) := dk_4 (dk_at dksX3_quotient_2 21 rfl rfl)
theorem dX3_quotient_68 : decode cX3_quotient 68 = .ok (.isub, 1) := dk_100 (dk_at dksX3_quotient_2 22 rfl rfl)
theorem dX3_quotient_69 : decode cX3_quotient 69 = .ok (.iaload, 1) := dk_46 (dk_at dksX3_quotient_2 23 rfl rfl)
theorem dX3_quotient_70 : decode cX3_quotient 70 = .ok (.iaload, 1) := dk_46 (dk_at dksX3_quotient_3 0 rfl rfl)
theorem dX3_quotient_71 : decode cX3_quotient 71 = .ok (.invokestatic 38, 3) := dk_184 0 38 (dk_at dksX3_quotient_3 1 rfl rfl)
theorem dX3_quotient_74 : decode cX3_quotient 74 = .ok (.istore 4, 2) := dk_54 4 (dk_at dksX3_quotient_3 4 rfl rfl)
theorem dX3_quotient_76 : decode cX3_quotient 76 = .ok (.aload_n 2, 1) := dk_44 (dk_at dksX3_quotient_3 6 rfl rfl)
theorem dX3_quotient_77 : decode cX3_quotient 77 = .ok (.getfield 9, 3) := dk_180 0 9 (dk_at dksX3_quotient_3 7 rfl rfl)
theorem dX3_quotient_80 : decode cX3_quotient 80 = .ok (.iload_n 3, 1) := dk_29 (dk_at dksX3_quotient_3 10 rfl rfl)
theorem dX3_quotient_81 : decode cX3_quotient 81 = .ok (.iload 4, 2) := dk_21 4 (dk_at dksX3_quotient_3 11 rfl rfl)
theorem dX3_quotient_83 : decode cX3_quotient 83 = .ok (.iastore, 1) := dk_79 (dk_at dksX3_quotient_3 13 rfl rfl)
theorem dX3_quotient_84 : decode cX3_quotient 84 = .ok (.aload_n 0, 1) := dk_42 (dk_at dksX3_quotient_3 14 rfl rfl)
theorem dX3_quotient_85 : decode cX3_quotient 85 = .ok (.aload_n 1, 1) := dk_43 (dk_at dksX3_quotient_3 15 rfl rfl)
theorem dX3_quotient_86 : decode cX3_quotient 86 = .ok (.iconst 0, 1) := dk_3 (dk_at dksX3_quotient_3 16 rfl rfl)
theorem dX3_quotient_87 : decode cX3_quotient 87 = .ok (.iload 4, 2) := dk_21 4 (dk_at dksX3_quotient_3 17 rfl rfl)
theorem dX3_quotient_89 : decode cX3_quotient 89 = .ok (.invokestatic 48, 3) := dk_184 0 48 (dk_at dksX3_quotient_3 19 rfl rfl)
theorem dX3_quotient_92 : decode cX3_quotient 92 = .ok (.iload_n 3, 1) := dk_29 (dk_at dksX3_quotient_3 22 rfl rfl)
theorem dX3_quotient_93 : decode cX3_quotient 93 = .ok (.invokevirtual 41, 3) := dk_182 0 41 (dk_at dksX3_quotient_4 0 rfl rfl)
theorem dX3_quotient_96 : decode cX3_quotient 96 = .ok (.goto (-72), 3) := dk_167 255 184 (dk_at dksX3_quotient_4 3 rfl rfl)
theorem dX3_quotient_99 : decode cX3_quotient 99 = .ok (.return_, 1) := dk_177 (dk_at dksX3_quotient_4 6 rfl rfl)
theorem q77 : (Jvm.Cond.initialized "KeptCurves$Poly") ∈ lw_all := lw_g (lw_at lw_m1 9 rfl) rfl
theorem q215 : (Jvm.Cond.instantiable "KeptCurves$Poly" (2 : Nat)) ∈ lw_all := lw_g (lw_at lw_m1 147 rfl) rfl
theorem q217 : (Jvm.Cond.instanceMethod ({ cls := "KeptCurves$Poly", name := "<init>", desc := "()V" } : Jvm.MethodName)) ∈ lw_all := lw_g (lw_at lw_m1 149 rfl) rfl
theorem q218 : (Jvm.Cond.code ({ cls := "KeptCurves$Poly", name := "<init>", desc := "()V" } : Jvm.MethodName) prog_10_method_1_code (1 : Nat) (Option.none : Option Jvm.ClassFile.FieldType)) ∈ lw_all := lw_g (lw_at lw_m1 150 rfl) rfl
theorem q219 : (Jvm.Cond.methodLink "KeptCurves$Poly" (3 : Nat) ({ cls := "java/lang/Object", name := "<init>", desc := "()V" } : Jvm.MethodName)) ∈ lw_all := lw_g (lw_at lw_m1 151 rfl) rfl
theorem q220 : (Jvm.Cond.fieldLink "KeptCurves$Poly" (9 : Nat) "KeptCurves$Poly" "numbers" "[I") ∈ lw_all := lw_g (lw_at lw_m1 152 rfl) rfl
theorem q222 : (Jvm.Cond.fieldLink "KeptCurves$Poly" (15 : Nat) "KeptCurves$Poly" "many" "I") ∈ lw_all := lw_g (lw_at lw_m1 154 rfl) rfl
theorem q224 : (Jvm.Cond.laysFinal "KeptCurves$Poly" "KeptCurves$Poly" "numbers" "[I") ∈ lw_all := lw_g (lw_at lw_m1 156 rfl) rfl
theorem q225 : (Jvm.Cond.soleField "KeptCurves$Poly" "numbers") ∈ lw_all := lw_g (lw_at lw_m1 157 rfl) rfl
theorem q226 : (Jvm.Cond.lays "KeptCurves$Poly" "KeptCurves$Poly" "many" "I") ∈ lw_all := lw_g (lw_at lw_m1 158 rfl) rfl
theorem q227 : (Jvm.Cond.soleField "KeptCurves$Poly" "many") ∈ lw_all := lw_g (lw_at lw_m1 159 rfl) rfl
theorem q228 : (Jvm.Cond.superclass "KeptCurves$Poly" "java/lang/Object") ∈ lw_all := lw_g (lw_at lw_m1 160 rfl) rfl
theorem q783 : (Jvm.Cond.selects "KeptCurves$Poly" ({ cls := "java/lang/Object", name := "getClass", desc := "()Ljava/lang/Class;" } : Jvm.MethodName) ({ cls := "java/lang/Object", name := "getClass", desc := "()Ljava/lang/Class;" } : Jvm.MethodName)) ∈ lw_all := lw_g (lw_at lw_m3 235 rfl) rfl
theorem q1420 : (Jvm.Cond.instanceMethod ({ cls := "KeptCurves$Poly", name := "becomesUnknown", desc := "()V" } : Jvm.MethodName)) ∈ lw_all := lw_g (lw_at lw_m6 152 rfl) rfl
theorem q1421 : (Jvm.Cond.selects "KeptCurves$Poly" ({ cls := "KeptCurves$Poly", name := "becomesUnknown", desc := "()V" } : Jvm.MethodName) ({ cls := "KeptCurves$Poly", name := "becomesUnknown", desc := "()V" } : Jvm.MethodName)) ∈ lw_all := lw_g (lw_at lw_m6 153 rfl) rfl
theorem q1422 : (Jvm.Cond.code ({ cls := "KeptCurves$Poly", name := "becomesUnknown", desc := "()V" } : Jvm.MethodName) prog_10_method_3_code (1 : Nat) (Option.none : Option Jvm.ClassFile.FieldType)) ∈ lw_all := lw_g (lw_at lw_m6 154 rfl) rfl
theorem q1424 : (Jvm.Cond.instanceMethod ({ cls := "KeptCurves$Poly", name := "becomes", desc := "(I)V" } : Jvm.MethodName)) ∈ lw_all := lw_g (lw_at lw_m6 156 rfl) rfl
theorem q1425 : (Jvm.Cond.selects "KeptCurves$Poly" ({ cls := "KeptCurves$Poly", name := "becomes", desc := "(I)V" } : Jvm.MethodName) ({ cls := "KeptCurves$Poly", name := "becomes", desc := "(I)V" } : Jvm.MethodName)) ∈ lw_all := lw_g (lw_at lw_m6 157 rfl) rfl
theorem q1426 : (Jvm.Cond.code ({ cls := "KeptCurves$Poly", name := "becomes", desc := "(I)V" } : Jvm.MethodName) prog_10_method_2_code (2 : Nat) (Option.none : Option Jvm.ClassFile.FieldType)) ∈ lw_all := lw_g (lw_at lw_m6 158 rfl) rfl
theorem q1439 : (Jvm.Cond.instanceMethod ({ cls := "KeptCurves$Poly", name := "adds", desc := "(LKeptCurves$Poly;LKeptCurves$Poly;I)V" } : Jvm.MethodName)) ∈ lw_all := lw_g (lw_at lw_m6 171 rfl) rfl
theorem q1440 : (Jvm.Cond.selects "KeptCurves$Poly" ({ cls := "KeptCurves$Poly", name := "adds", desc := "(LKeptCurves$Poly;LKeptCurves$Poly;I)V" } : Jvm.MethodName) ({ cls := "KeptCurves$Poly", name := "adds", desc := "(LKeptCurves$Poly;LKeptCurves$Poly;I)V" } : Jvm.MethodName)) ∈ lw_all := lw_g (lw_at lw_m6 172 rfl) rfl
theorem q1441 : (Jvm.Cond.code ({ cls := "KeptCurves$Poly", name := "adds", desc := "(LKeptCurves$Poly;LKeptCurves$Poly;I)V" } : Jvm.MethodName) prog_10_method_8_code (5 : Nat) (Option.none : Option Jvm.ClassFile.FieldType)) ∈ lw_all := lw_g (lw_at lw_m6 173 rfl) rfl
theorem q1442 : (Jvm.Cond.methodLinkNest "KeptCurves$Poly" (38 : Nat) ({ cls := "KeptCurves", name := "times", desc := "(II)I" } : Jvm.MethodName) "KeptCurves") ∈ lw_tbl := lw_at lw_m6 174 rfl
theorem q1443 : (Jvm.Cond.methodLink "KeptCurves$Poly" (41 : Nat) ({ cls := "KeptCurves$Poly", name := "adds", desc := "(LKeptCurves$Poly;II)V" } : Jvm.MethodName)) ∈ lw_all := lw_g (lw_at lw_m6 175 rfl) rfl
theorem q1444 : (Jvm.Cond.instanceMethod ({ cls := "KeptCurves$Poly", name := "adds", desc := "(LKeptCurves$Poly;II)V" } : Jvm.MethodName)) ∈ lw_all := lw_g (lw_at lw_m6 176 rfl) rfl
theorem q1445 : (Jvm.Cond.selects "KeptCurves$Poly" ({ cls := "KeptCurves$Poly", name := "adds", desc := "(LKeptCurves$Poly;II)V" } : Jvm.MethodName) ({ cls := "KeptCurves$Poly", name := "adds", desc := "(LKeptCurves$Poly;II)V" } : Jvm.MethodName)) ∈ lw_all := lw_g (lw_at lw_m6 177 rfl) rfl
theorem q1446 : (Jvm.Cond.code ({ cls := "KeptCurves$Poly", name := "adds", desc := "(LKeptCurves$Poly;II)V" } : Jvm.MethodName) prog_10_method_7_code (5 : Nat) (Option.none : Option Jvm.ClassFile.FieldType)) ∈ lw_all := lw_g (lw_at lw_m6 178 rfl) rfl
theorem q1447 : (Jvm.Cond.methodLink "KeptCurves$Poly" (31 : Nat) ({ cls := "KeptCurves$Poly", name := "reaches", desc := "(I)V" } : Jvm.MethodName)) ∈ lw_all := lw_g (lw_at lw_m6 179 rfl) rfl
theorem q1448 : (Jvm.Cond.privateMethod ({ cls := "KeptCurves$Poly", name := "reaches", desc := "(I)V" } : Jvm.MethodName)) ∈ lw_tbl := lw_at lw_m6 180 rfl
theorem q1449 : (Jvm.Cond.instanceMethod ({ cls := "KeptCurves$Poly", name := "reaches", desc := "(I)V" } : Jvm.MethodName)) ∈ lw_all := lw_g (lw_at lw_m6 181 rfl) rfl
theorem q1450 : (Jvm.Cond.code ({ cls := "KeptCurves$Poly", name := "reaches", desc := "(I)V" } : Jvm.MethodName) prog_10_method_5_code (3 : Nat) (Option.none : Option Jvm.ClassFile.FieldType)) ∈ lw_all := lw_g (lw_at lw_m6 182 rfl) rfl
theorem q1451 : (Jvm.Cond.methodLink "KeptCurves$Poly" (25 : Nat) ({ cls := "java/lang/Math", name := "max", desc := "(II)I" } : Jvm.MethodName)) ∈ lw_all := lw_g (lw_at lw_m6 183 rfl) rfl
theorem q1452 : (Jvm.Cond.methodLink "KeptCurves$Poly" (35 : Nat) ({ cls := "KeptCurves$Poly", name := "ends", desc := "()V" } : Jvm.MethodName)) ∈ lw_all := lw_g (lw_at lw_m6 184 rfl) rfl
theorem q1453 : (Jvm.Cond.privateMethod ({ cls := "KeptCurves$Poly", name := "ends", desc := "()V" } : Jvm.MethodName)) ∈ lw_tbl := lw_at lw_m6 185 rfl
theorem q1454 : (Jvm.Cond.instanceMethod ({ cls := "KeptCurves$Poly", name := "ends", desc := "()V" } : Jvm.MethodName)) ∈ lw_all := lw_g (lw_at lw_m6 186 rfl) rfl
theorem q1455 : (Jvm.Cond.code ({ cls := "KeptCurves$Poly", name := "ends", desc := "()V" } : Jvm.MethodName) prog_10_method_6_code (1 : Nat) (Option.none : Option Jvm.ClassFile.FieldType)) ∈ lw_all := lw_g (lw_at lw_m6 187 rfl) rfl
theorem q1458 : (Jvm.Cond.instanceMethod ({ cls := "KeptCurves$Poly", name := "like", desc := "(LKeptCurves$Poly;)V" } : Jvm.MethodName)) ∈ lw_all := lw_g (lw_at lw_m6 190 rfl) rfl
theorem q1459 : (Jvm.Cond.selects "KeptCurves$Poly" ({ cls := "KeptCurves$Poly", name := "like", desc := "(LKeptCurves$Poly;)V" } : Jvm.MethodName) ({ cls := "KeptCurves$Poly", name := "like", desc := "(LKeptCurves$Poly;)V" } : Jvm.MethodName)) ∈ lw_all := lw_g (lw_at lw_m6 191 rfl) rfl
theorem q1460 : (Jvm.Cond.code ({ cls := "KeptCurves$Poly", name := "like", desc := "(LKeptCurves$Poly;)V" } : Jvm.MethodName) prog_10_method_4_code (2 : Nat) (Option.none : Option Jvm.ClassFile.FieldType)) ∈ lw_all := lw_g (lw_at lw_m6 192 rfl) rfl
theorem q1461 : (Jvm.Cond.methodLink "KeptCurves$Poly" (19 : Nat) ({ cls := "java/lang/System", name := "arraycopy", desc := "(Ljava/lang/Object;ILjava/lang/Object;II)V" } : Jvm.MethodName)) ∈ lw_all := lw_g (lw_at lw_m6 193 rfl) rfl
theorem q1467 : (Jvm.Cond.instanceMethod ({ cls := "KeptCurves$Poly", name := "remains", desc := "(LKeptCurves$Poly;)V" } : Jvm.MethodName)) ∈ lw_all := lw_g (lw_at lw_m6 199 rfl) rfl
theorem q1468 : (Jvm.Cond.selects "KeptCurves$Poly" ({ cls := "KeptCurves$Poly", name := "remains", desc := "(LKeptCurves$Poly;)V" } : Jvm.MethodName) ({ cls := "KeptCurves$Poly", name := "remains", desc := "(LKeptCurves$Poly;)V" } : Jvm.MethodName)) ∈ lw_all := lw_g (lw_at lw_m6 200 rfl) rfl
theorem q1469 : (Jvm.Cond.code ({ cls := "KeptCurves$Poly", name := "remains", desc := "(LKeptCurves$Poly;)V" } : Jvm.MethodName) prog_10_method_9_code (3 : Nat) (Option.none : Option Jvm.ClassFile.FieldType)) ∈ lw_all := lw_g (lw_at lw_m6 201 rfl) rfl
theorem q1470 : (Jvm.Cond.fieldLinkNest "KeptCurves$Poly" (45 : Nat) "KeptCurves" "INVERSE" "[I" "KeptCurves") ∈ lw_tbl := lw_at lw_m6 202 rfl
theorem q1471 : (Jvm.Cond.methodLinkNest "KeptCurves$Poly" (48 : Nat) ({ cls := "KeptCurves", name := "less", desc := "(II)I" } : Jvm.MethodName) "KeptCurves") ∈ lw_tbl := lw_at lw_m6 203 rfl
theorem q1473 : (Jvm.Cond.instanceMethod ({ cls := "KeptCurves$Poly", name := "quotient", desc := "(LKeptCurves$Poly;LKeptCurves$Poly;)V" } : Jvm.MethodName)) ∈ lw_all := lw_g (lw_at lw_m6 205 rfl) rfl
theorem q1474 : (Jvm.Cond.selects "KeptCurves$Poly" ({ cls := "KeptCurves$Poly", name := "quotient", desc := "(LKeptCurves$Poly;LKeptCurves$Poly;)V" } : Jvm.MethodName) ({ cls := "KeptCurves$Poly", name := "quotient", desc := "(LKeptCurves$Poly;LKeptCurves$Poly;)V" } : Jvm.MethodName)) ∈ lw_all := lw_g (lw_at lw_m6 206 rfl) rfl
theorem q1475 : (Jvm.Cond.code ({ cls := "KeptCurves$Poly", name := "quotient", desc := "(LKeptCurves$Poly;LKeptCurves$Poly;)V" } : Jvm.MethodName) prog_10_method_10_code (5 : Nat) (Option.none : Option Jvm.ClassFile.FieldType)) ∈ lw_all := lw_g (lw_at lw_m6 207 rfl) rfl
theorem q2363 : (Jvm.Cond.castable "KeptCurves$Poly" "java/lang/Object") ∈ lw_tbl := lw_at lw_m10 135 rfl
theorem in_X3 : ∀ w ∈ wsX30, w ∈ lw_all := lw_in wsX30 [224, 226] (by decide +kernel) (by decide +kernel)
/-! KeptCurves$Reader -/
set_option maxRecDepth 100000
def RX5 : String := "KeptCurves$Reader"
def TX5 : u_T := fun k => match k with
  | 0 => ("KeptCurves$Reader", "at", "I", false)
  | _ => ("KeptCurves$Reader", "this$0", "LKeptCurves;", true)
def tyX5 : Nat → FieldType := fun k => match k with
  | 0 => .int
  | _ => .object "KeptCurves"
abbrev wsX50 : List Cond := u_ws RX5 TX5 2
theorem nmX5 : ∀ a, a < 2 → ∀ b, b < 2 → a ≠ b → (TX5 a).2.1 ≠ (TX5 b).2.1 := by decide +kernel
theorem tyX5_ok : ∀ k, k < 2 → parseFieldDescriptor (TX5 k).2.2.1 = some (tyX5 k) := by decide +kernel
abbrev cX5_init : ByteArray := prog_11_method_1_code
def yX5_init : MethodName := ⟨RX5, "<init>", "(LKeptCurves;)V"⟩
def dkwX5_init_0 : List UInt8 := [42, 43, 181, 0, 3, 42, 183, 0, 9, 177]
abbrev dktX5_init_0 : List UInt8 := dkwX5_init_0 ++ []
theorem dksX5_init_0 : cX5_init.data.toList.drop 0 = dktX5_init_0 := by decide +kernel
theorem dX5_init_0 : decode cX5_init 0 = .ok (.aload_n 0, 1) := dk_42 (dk_at dksX5_init_0 0 rfl rfl)
theorem dX5_init_1 : decode cX5_init 1 = .ok (.aload_n 1, 1) := dk_43 (dk_at dksX5_init_0 1 rfl rfl)
theorem dX5_init_2 : decode cX5_init 2 = .ok (.putfield 3, 3) := dk_181 0 3 (dk_at dksX5_init_0 2 rfl rfl)
theorem dX5_init_5 : decode cX5_init 5 = .ok (.aload_n 0, 1) := dk_42 (dk_at dksX5_init_0 5 rfl rfl)
theorem dX5_init_6 : decode cX5_init 6 = .ok (.invokespecial 9, 3) := dk_183 0 9 (dk_at dksX5_init_0 6 rfl rfl)
theorem dX5_init_9 : decode cX5_init 9 = .ok (.return_, 1) := dk_177 (dk_at dksX5_init_0 9 rfl rfl)
abbrev cX5_all : ByteArray := prog_11_method_7_code
def yX5_all : MethodName := ⟨RX5, "all", "()I"⟩
def dkwX5_all_3 : List UInt8 := [180, 0, 19, 160, 0, 7, 4, 167, 0, 4, 3, 182, 0, 43, 27, 172]
abbrev dktX5_all_3 : List UInt8 := dkwX5_all_3 ++ []
def dkwX5_all_2 : List UInt8 := [181, 0, 15, 42, 182, 0, 60, 132, 1, 1, 167, 255, 230, 42, 42, 180, 0, 15, 42, 180, 0, 3]
abbrev dktX5_all_2 : List UInt8 := dkwX5_all_2 ++ dktX5_all_3
def dkwX5_all_1 : List UInt8 := [4, 60, 42, 182, 0, 60, 42, 182, 0, 31, 16, 43, 160, 0, 23, 42, 89, 180, 0, 15, 4, 96]
abbrev dktX5_all_1 : List UInt8 := dkwX5_all_1 ++ dktX5_all_2
def dkwX5_all_0 : List UInt8 := [3, 60, 27, 16, 9, 162, 0, 19, 42, 180, 0, 3, 180, 0, 56, 27, 3, 79, 132, 1, 1, 167, 255, 237]
abbrev dktX5_all_0 : List UInt8 := dkwX5_all_0 ++ dktX5_all_1
theorem dksX5_all_0 : cX5_all.data.toList.drop 0 = dktX5_all_0 := by decide +kernel
theorem dksX5_all_1 : cX5_all.data.toList.drop 24 = dktX5_all_1 := dk_seg dksX5_all_0 24 rfl rfl
theorem dksX5_all_2 : cX5_all.data.toList.drop 46 = dktX5_all_2 := dk_seg dksX5_all_1 22 rfl rfl
theorem dksX5_all_3 : cX5_all.data.toList.drop 68 = dktX5_all_3 := dk_seg dksX5_all_2 22 rfl rfl
theorem dX5_all_0 : decode cX5_all 0 = .ok (.iconst 0, 1) := dk_3 (dk_at dksX5_all_0 0 rfl rfl)
theorem dX5_all_1 : decode cX5_all 1 = .ok (.istore_n 1, 1) := dk_60 (dk_at dksX5_all_0 1 rfl rfl)
theorem dX5_all_2 : decode cX5_all 2 = .ok (.iload_n 1, 1) := dk_27 (dk_at dksX5_all_0 2 rfl rfl)
theorem dX5_all_3 : decode cX5_all 3 = .ok (.bipush 9, 2) := dk_16 9 (dk_at dksX5_all_0 3 rfl rfl)
theorem dX5_all_5 : decode cX5_all 5 = .ok (.if_icmp .ge 19, 3) := dk_162 0 19 (dk_at dksX5_all_0 5 rfl rfl)
theorem dX5_all_8 : decode cX5_all 8 = .ok (.aload_n 0, 1) := dk_42 (dk_at dksX5_all_0 8 rfl rfl)
theorem dX5_all_9 : decode cX5_all 9 = .ok (.getfield 3, 3) := dk_180 0 3 (dk_at dksX5_all_0 9 rfl rfl)
theorem dX5_all_12 : decode cX5_all 12 = .ok (.getfield 56, 3) := dk_180 0 56 (dk_at dksX5_all_0 12 rfl rfl)
theorem dX5_all_15 : decode cX5_all 15 = .ok (.iload_n 1, 1) := dk_27 (dk_at dksX5_all_0 15 rfl rfl)
theorem dX5_all_16 : decode cX5_all 16 = .ok (.iconst 0, 1) := dk_3 (dk_at dksX5_all_0 16 rfl rfl)
theorem dX5_all_17 : decode cX5_all 17 = .ok (.iastore, 1) := dk_79 (dk_at dksX5_all_0 17 rfl rfl)
theorem dX5_all_18 : decode cX5_all 18 = .ok (.iinc 1 1, 3) := dk_132 1 1 (dk_at dksX5_all_0 18 rfl rfl)
theorem dX5_all_21 : decode cX5_all 21 = .ok (.goto (-19), 3) := dk_167 255 237 (dk_at dksX5_all_0 21 rfl rfl)
theorem dX5_all_24 : decode cX5_all 24 = .ok (.iconst 1, 1) := dk_4 (dk_at dksX5_all_1 0 rfl rfl)
theorem dX5_all_25 : decode cX5_all 25 = .ok (.istore_n 1, 1) := dk_60 (dk_at dksX5_all_1 1 rfl rfl)
theorem dX5_all_26 : decode cX5_all 26 = .ok (.aload_n 0, 1) := dk_42 (dk_at dksX5_all_1 2 rfl rfl)
theorem dX5_all_27 : decode cX5_all 27 = .ok (.invokevirtual 60, 3) := dk_182 0 60 (dk_at dksX5_all_1 3 rfl rfl)
theorem dX5_all_30 : decode cX5_all 30 = .ok (.aload_n 0, 1) := dk_42 (dk_at dksX5_all_1 6 rfl rfl)
theorem dX5_all_31 : decode cX5_all 31 = .ok (.invokevirtual 31, 3) := dk_182 0 31 (dk_at dksX5_all_1 7 rfl rfl)
theorem dX5_all_34 : decode cX5_all 34 = .ok (.bipush 43, 2) := dk_16 43 (dk_at dksX5_all_1 10 rfl rfl)
theorem dX5_all_36 : decode cX5_all 36 = .ok (.if_icmp .ne 23, 3) := dk_160 0 23 (dk_at dksX5_all_1 12 rfl rfl)
theorem dX5_all_39 : decode cX5_all 39 = .ok (.aload_n 0, 1) := dk_42 (dk_at dksX5_all_1 15 rfl rfl)
theorem dX5_all_40 : decode cX5_all 40 = .ok (.dup, 1) := dk_89 (dk_at dksX5_all_1 16 rfl rfl)
theorem dX5_all_41 : decode cX5_all 41 = .ok (.getfield 15, 3) := dk_180 0 15 (dk_at dksX5_all_1 17 rfl rfl)
theorem dX5_all_44 : decode cX5_all 44 = .ok (.iconst 1, 1) := dk_4 (dk_at dksX5_all_1 20 rfl rfl)
theorem dX5_all_45 : decode cX5_all 45 = .ok (.iadd, 1) := dk_96 (dk_at dksX5_all_1 21 rfl rfl)
theorem dX5_all_46 : decode cX5_all 46 = .ok (.putfield 15, 3) := dk_181 0 15 (dk_at dksX5_all_2 0 rfl rfl)
theorem dX5_all_49 : decode cX5_all 49 = .ok (.aload_n 0, 1) := dk_42 (dk_at dksX5_all_2 3 rfl rfl)
theorem dX5_all_50 : decode cX5_all 50 = .ok (.invokevirtual 60, 3) := dk_182 0 60 (dk_at dksX5_all_2 4 rfl rfl)
theorem dX5_all_53 : decode cX5_all 53 = .ok (.iinc 1 1, 3) := dk_132 1 1 (dk_at dksX5_all_2 7 rfl rfl)
theorem dX5_all_56 : decode cX5_all 56 = .ok (.goto (-26), 3) := dk_167 255 230 (dk_at dksX5_all_2 10 rfl rfl)
theorem dX5_all_59 : decode cX5_all 59 = .ok (.aload_n 0, 1) := dk_42 (dk_at dksX5_all_2 13 rfl rfl)
theorem dX5_all_60 : decode cX5_all 60 = .ok (.aload_n 0, 1) := dk_42 (dk_at dksX5_all_2 14 rfl rfl)
theorem dX5_all_61 : decode cX5_all 61 = .ok (.getfield 15, 3) := dk_180 0 15 (dk_at dksX5_all_2 15 rfl rfl)
theorem dX5_all_64 : decode cX5_all 64 = .ok (.aload_n 0, 1) := dk_42 (dk_at dksX5_all_2 18 rfl rfl)
theorem dX5_all_65 : decode cX5_all 65 = .ok (.getfield 3, 3) := dk_180 0 3 (dk_at dksX5_all_2 19 rfl rfl)
theorem dX5_all_68 : decode cX5_all 68 = .ok (.getfield 19, 3) := dk_180 0 19 (dk_at dksX5_all_3 0 rfl rfl)
theorem dX5_all_71 : decode cX5_all 71 = .ok (.if_icmp .ne 7, 3) := dk_160 0 7 (dk_at dksX5_all_3 3 rfl rfl)
theorem dX5_all_74 : decode cX5_all 74 = .ok (.iconst 1, 1) := dk_4 (dk_at dksX5_all_3 6 rfl rfl)
theorem dX5_all_75 : decode cX5_all 75 = .ok (.goto 4, 3) := dk_167 0 4 (dk_at dksX5_all_3 7 rfl rfl)
theorem dX5_all_78 : decode cX5_all 78 = .ok (.iconst 0, 1) := dk_3 (dk_at dksX5_all_3 10 rfl rfl)
theorem dX5_all_79 : decode cX5_all 79 = .ok (.invokevirtual 43, 3) := dk_182 0 43 (dk_at dksX5_all_3 11 rfl rfl)
theorem dX5_all_82 : decode cX5_all 82 = .ok (.iload_n 1, 1) := dk_27 (dk_at dksX5_all_3 14 rfl rfl)
theorem dX5_all_83 : decode cX5_all 83 = .ok (.ireturn, 1) := dk_172 (dk_at dksX5_all_3 15 rfl rfl)
abbrev cX5_term : ByteArray := prog_11_method_6_code
def yX5_term : MethodName := ⟨RX5, "term", "()V"⟩
def dkwX5_term_2 : List UInt8 := [16, 31, 112, 79, 177]
abbrev dktX5_term_2 : List UInt8 := dkwX5_term_2 ++ []
def dkwX5_term_1 : List UInt8 := [180, 0, 56, 6, 28, 104, 29, 96, 42, 180, 0, 3, 180, 0, 56, 6, 28, 104, 29, 96, 46, 27, 96]
abbrev dktX5_term_1 : List UInt8 := dkwX5_term_1 ++ dktX5_term_2
def dkwX5_term_0 : List UInt8 := [42, 182, 0, 49, 60, 42, 16, 120, 182, 0, 52, 61, 42, 16, 121, 182, 0, 52, 62, 42, 180, 0, 3]
abbrev dktX5_term_0 : List UInt8 := dkwX5_term_0 ++ dktX5_term_1
theorem dksX5_term_0 : cX5_term.data.toList.drop 0 = dktX5_term_0 := by decide +kernel
theorem dksX5_term_1 : cX5_term.data.toList.drop 23 = dktX5_term_1 := dk_seg dksX5_term_0 23 rfl rfl
theorem dksX5_term_2 : cX5_term.data.toList.drop 46 = dktX5_term_2 := dk_seg dksX5_term_1 23 rfl rfl
theorem dX5_term_0 : decode cX5_term 0 = .ok (.aload_n 0, 1) := dk_42 (dk_at dksX5_term_0 0 rfl rfl)
theorem dX5_term_1 : decode cX5_term 1 = .ok (.invokevirtual 49, 3) := dk_182 0 49 (dk_at dksX5_term_0 1 rfl rfl)
theorem dX5_term_4 : decode cX5_term 4 = .ok (.istore_n 1, 1) := dk_60 (dk_at dksX5_term_0 4 rfl rfl)
theorem dX5_term_5 : decode cX5_term 5 = .ok (.aload_n 0, 1) := dk_42 (dk_at dksX5_term_0 5 rfl rfl)
theorem dX5_term_6 : decode cX5_term 6 = .ok (.bipush 120, 2) := dk_16 120 (dk_at dksX5_term_0 6 rfl rfl)
theorem dX5_term_8 : decode cX5_term 8 = .ok (.invokevirtual 52, 3) := dk_182 0 52 (dk_at dksX5_term_0 8 rfl rfl)
theorem dX5_term_11 : decode cX5_term 11 = .ok (.istore_n 2, 1) := dk_61 (dk_at dksX5_term_0 11 rfl rfl)
theorem dX5_term_12 : decode cX5_term 12 = .ok (.aload_n 0, 1) := dk_42 (dk_at dksX5_term_0 12 rfl rfl)
theorem dX5_term_13 : decode cX5_term 13 = .ok (.bipush 121, 2) := dk_16 121 (dk_at dksX5_term_0 13 rfl rfl)
theorem dX5_term_15 : decode cX5_term 15 = .ok (.invokevirtual 52, 3) := dk_182 0 52 (dk_at dksX5_term_0 15 rfl rfl)
theorem dX5_term_18 : decode cX5_term 18 = .ok (.istore_n 3, 1) := dk_62 (dk_at dksX5_term_0 18 rfl rfl)
theorem dX5_term_19 : decode cX5_term 19 = .ok (.aload_n 0, 1) := dk_42 (dk_at dksX5_term_0 19 rfl rfl)
theorem dX5_term_20 : decode cX5_term 20 = .ok (.getfield 3, 3) := dk_180 0 3 (dk_at dksX5_term_0 20 rfl rfl)
theorem dX5_term_23 : decode cX5_term 23 = .ok (.getfield 56, 3) := dk_180 0 56 (dk_at dksX5_term_1 0 rfl rfl)
theorem dX5_term_26 : decode cX5_term 26 = .ok (.iconst 3, 1) := dk_6 (dk_at dksX5_term_1 3 rfl rfl)
theorem dX5_term_27 : decode cX5_term 27 = .ok (.iload_n 2, 1) := dk_28 (dk_at dksX5_term_1 4 rfl rfl)
theorem dX5_term_28 : decode cX5_term 28 = .ok (.imul, 1) := dk_104 (dk_at dksX5_term_1 5 rfl rfl)
theorem dX5_term_29 : decode cX5_term 29 = .ok (.iload_n 3, 1) := dk_29 (dk_at dksX5_term_1 6 rfl rfl)
theorem dX5_term_30 : decode cX5_term 30 = .ok (.iadd, 1) := dk_96 (dk_at dksX5_term_1 7 rfl rfl)
theorem dX5_term_31 : decode cX5_term 31 = .ok (.aload_n 0, 1) := dk_42 (dk_at dksX5_term_1 8 rfl rfl)
theorem dX5_term_32 : decode cX5_term 32 = .ok (.getfield 3, 3) := dk_180 0 3 (dk_at dksX5_term_1 9 rfl rfl)
theorem dX5_term_35 : decode cX5_term 35 = .ok (.getfield 56, 3) := dk_180 0 56 (dk_at dksX5_term_1 12 rfl rfl)
theorem dX5_term_38 : decode cX5_term 38 = .ok (.iconst 3, 1) := dk_6 (dk_at dksX5_term_1 15 rfl rfl)
theorem dX5_term_39 : decode cX5_term 39 = .ok (.iload_n 2, 1) := dk_28 (dk_at dksX5_term_1 16 rfl rfl)
theorem dX5_term_40 : decode cX5_term 40 = .ok (.imul, 1) := dk_104 (dk_at dksX5_term_1 17 rfl rfl)
theorem dX5_term_41 : decode cX5_term 41 = .ok (.iload_n 3, 1) := dk_29 (dk_at dksX5_term_1 18 rfl rfl)
theorem dX5_term_42 : decode cX5_term 42 = .ok (.iadd, 1) := dk_96 (dk_at dksX5_term_1 19 rfl rfl)
theorem dX5_term_43 : decode cX5_term 43 = .ok (.iaload, 1) := dk_46 (dk_at dksX5_term_1 20 rfl rfl)
theorem dX5_term_44 : decode cX5_term 44 = .ok (.iload_n 1, 1) := dk_27 (dk_at dksX5_term_1 21 rfl rfl)
theorem dX5_term_45 : decode cX5_term 45 = .ok (.iadd, 1) := dk_96 (dk_at dksX5_term_1 22 rfl rfl)
theorem dX5_term_46 : decode cX5_term 46 = .ok (.bipush 31, 2) := dk_16 31 (dk_at dksX5_term_2 0 rfl rfl)
theorem dX5_term_48 : decode cX5_term 48 = .ok (.irem, 1) := dk_112 (dk_at dksX5_term_2 2 rfl rfl)
theorem dX5_term_49 : decode cX5_term 49 = .ok (.iastore, 1) := dk_79 (dk_at dksX5_term_2 3 rfl rfl)
theorem dX5_term_50 : decode cX5_term 50 = .ok (.return_, 1) := dk_177 (dk_at dksX5_term_2 4 rfl rfl)
abbrev cX5_number : ByteArray := prog_11_method_4_code
def yX5_number : MethodName := ⟨RX5, "number", "()I"⟩
def dkwX5_number_3 : List UInt8 := [162, 0, 7, 4, 167, 0, 4, 3, 182, 0, 43, 42, 89, 180, 0, 15, 4, 96, 181, 0, 15, 27, 172]
abbrev dktX5_number_3 : List UInt8 := dkwX5_number_3 ++ []
def dkwX5_number_2 : List UInt8 := [184, 0, 39, 153, 0, 41, 16, 10, 27, 104, 42, 182, 0, 31, 96, 16, 48, 100, 60, 42, 27, 16, 31]
abbrev dktX5_number_2 : List UInt8 := dkwX5_number_2 ++ dktX5_number_3
def dkwX5_number_1 : List UInt8 := [100, 60, 42, 89, 180, 0, 15, 4, 96, 181, 0, 15, 42, 182, 0, 31, 133, 20, 0, 47, 20, 0, 37]
abbrev dktX5_number_1 : List UInt8 := dkwX5_number_1 ++ dktX5_number_2
def dkwX5_number_0 : List UInt8 := [42, 42, 182, 0, 31, 133, 20, 0, 35, 20, 0, 37, 184, 0, 39, 182, 0, 43, 42, 182, 0, 31, 16, 48]
abbrev dktX5_number_0 : List UInt8 := dkwX5_number_0 ++ dktX5_number_1
theorem dksX5_number_0 : cX5_number.data.toList.drop 0 = dktX5_number_0 := by decide +kernel
theorem dksX5_number_1 : cX5_number.data.toList.drop 24 = dktX5_number_1 := dk_seg dksX5_number_0 24 rfl rfl
theorem dksX5_number_2 : cX5_number.data.toList.drop 47 = dktX5_number_2 := dk_seg dksX5_number_1 23 rfl rfl
theorem dksX5_number_3 : cX5_number.data.toList.drop 70 = dktX5_number_3 := dk_seg dksX5_number_2 23 rfl rfl
theorem dX5_number_0 : decode cX5_number 0 = .ok (.aload_n 0, 1) := dk_42 (dk_at dksX5_number_0 0 rfl rfl)
theorem dX5_number_1 : decode cX5_number 1 = .ok (.aload_n 0, 1) := dk_42 (dk_at dksX5_number_0 1 rfl rfl)
theorem dX5_number_2 : decode cX5_number 2 = .ok (.invokevirtual 31, 3) := dk_182 0 31 (dk_at dksX5_number_0 2 rfl rfl)
theorem dX5_number_5 : decode cX5_number 5 = .ok (.i2l, 1) := dk_133 (dk_at dksX5_number_0 5 rfl rfl)
theorem dX5_number_6 : decode cX5_number 6 = .ok (.ldc2_w 35, 3) := dk_20 0 35 (dk_at dksX5_number_0 6 rfl rfl)
theorem dX5_number_9 : decode cX5_number 9 = .ok (.ldc2_w 37, 3) := dk_20 0 37 (dk_at dksX5_number_0 9 rfl rfl)
theorem dX5_number_12 : decode cX5_number 12 = .ok (.invokestatic 39, 3) := dk_184 0 39 (dk_at dksX5_number_0 12 rfl rfl)
theorem dX5_number_15 : decode cX5_number 15 = .ok (.invokevirtual 43, 3) := dk_182 0 43 (dk_at dksX5_number_0 15 rfl rfl)
theorem dX5_number_18 : decode cX5_number 18 = .ok (.aload_n 0, 1) := dk_42 (dk_at dksX5_number_0 18 rfl rfl)
theorem dX5_number_19 : decode cX5_number 19 = .ok (.invokevirtual 31, 3) := dk_182 0 31 (dk_at dksX5_number_0 19 rfl rfl)
theorem dX5_number_22 : decode cX5_number 22 = .ok (.bipush 48, 2) := dk_16 48 (dk_at dksX5_number_0 22 rfl rfl)
theorem dX5_number_24 : decode cX5_number 24 = .ok (.isub, 1) := dk_100 (dk_at dksX5_number_1 0 rfl rfl)
theorem dX5_number_25 : decode cX5_number 25 = .ok (.istore_n 1, 1) := dk_60 (dk_at dksX5_number_1 1 rfl rfl)
theorem dX5_number_26 : decode cX5_number 26 = .ok (.aload_n 0, 1) := dk_42 (dk_at dksX5_number_1 2 rfl rfl)
theorem dX5_number_27 : decode cX5_number 27 = .ok (.dup, 1) := dk_89 (dk_at dksX5_number_1 3 rfl rfl)
theorem dX5_number_28 : decode cX5_number 28 = .ok (.getfield 15, 3) := dk_180 0 15 (dk_at dksX5_number_1 4 rfl rfl)
theorem dX5_number_31 : decode cX5_number 31 = .ok (.iconst 1, 1) := dk_4 (dk_at dksX5_number_1 7 rfl rfl)
theorem dX5_number_32 : decode cX5_number 32 = .ok (.iadd, 1) := dk_96 (dk_at dksX5_number_1 8 rfl rfl)
theorem dX5_number_33 : decode cX5_number 33 = .ok (.putfield 15, 3) := dk_181 0 15 (dk_at dksX5_number_1 9 rfl rfl)
theorem dX5_number_36 : decode cX5_number 36 = .ok (.aload_n 0, 1) := dk_42 (dk_at dksX5_number_1 12 rfl rfl)
theorem dX5_number_37 : decode cX5_number 37 = .ok (.invokevirtual 31, 3) := dk_182 0 31 (dk_at dksX5_number_1 13 rfl rfl)
theorem dX5_number_40 : decode cX5_number 40 = .ok (.i2l, 1) := dk_133 (dk_at dksX5_number_1 16 rfl rfl)
theorem dX5_number_41 : decode cX5_number 41 = .ok (.ldc2_w 47, 3) := dk_20 0 47 (dk_at dksX5_number_1 17 rfl rfl)
theorem dX5_number_44 : decode cX5_number 44 = .ok (.ldc2_w 37, 3) := dk_20 0 37 (dk_at dksX5_number_1 20 rfl rfl)
theorem dX5_number_47 : decode cX5_number 47 = .ok (.invokestatic 39, 3) := dk_184 0 39 (dk_at dksX5_number_2 0 rfl rfl)
theorem dX5_number_50 : decode cX5_number 50 = .ok (.ifCond .eq 41, 3) := dk_153 0 41 (dk_at dksX5_number_2 3 rfl rfl)
theorem dX5_number_53 : decode cX5_number 53 = .ok (.bipush 10, 2) := dk_16 10 (dk_at dksX5_number_2 6 rfl rfl)
theorem dX5_number_55 : decode cX5_number 55 = .ok (.iload_n 1, 1) := dk_27 (dk_at dksX5_number_2 8 rfl rfl)
theorem dX5_number_56 : decode cX5_number 56 = .ok (.imul, 1) := dk_104 (dk_at dksX5_number_2 9 rfl rfl)
theorem dX5_number_57 : decode cX5_number 57 = .ok (.aload_n 0, 1) := dk_42 (dk_at dksX5_number_2 10 rfl rfl)
theorem dX5_number_58 : decode cX5_number 58 = .ok (.invokevirtual 31, 3) := dk_182 0 31 (dk_at dksX5_number_2 11 rfl rfl)
theorem dX5_number_61 : decode cX5_number 61 = .ok (.iadd, 1) := dk_96 (dk_at dksX5_number_2 14 rfl rfl)
theorem dX5_number_62 : decode cX5_number 62 = .ok (.bipush 48, 2) := dk_16 48 (dk_at dksX5_number_2 15 rfl rfl)
theorem dX5_number_64 : decode cX5_number 64 = .ok (.isub, 1) := dk_100 (dk_at dksX5_number_2 17 rfl rfl)
theorem dX5_number_65 : decode cX5_number 65 = .ok (.istore_n 1, 1) := dk_60 (dk_at dksX5_number_2 18 rfl rfl)
theorem dX5_number_66 : decode cX5_number 66 = .ok (.aload_n 0, 1) := dk_42 (dk_at dksX5_number_2 19 rfl rfl)
theorem dX5_number_67 : decode cX5_number 67 = .ok (.iload_n 1, 1) := dk_27 (dk_at dksX5_number_2 20 rfl rfl)
theorem dX5_number_68 : decode cX5_number 68 = .ok (.bipush 31, 2) := dk_16 31 (dk_at dksX5_number_2 21 rfl rfl)
theorem dX5_number_70 : decode cX5_number 70 = .ok (.if_icmp .ge 7, 3) := dk_162 0 7 (dk_at dksX5_number_3 0 rfl rfl)
theorem dX5_number_73 : decode cX5_number 73 = .ok (.iconst 1, 1) := dk_4 (dk_at dksX5_number_3 3 rfl rfl)
theorem dX5_number_74 : decode cX5_number 74 = .ok (.goto 4, 3) := dk_167 0 4 (dk_at dksX5_number_3 4 rfl rfl)
theorem dX5_number_77 : decode cX5_number 77 = .ok (.iconst 0, 1) := dk_3 (dk_at dksX5_number_3 7 rfl rfl)
theorem dX5_number_78 : decode cX5_number 78 = .ok (.invokevirtual 43, 3) := dk_182 0 43 (dk_at dksX5_number_3 8 rfl rfl)
theorem dX5_number_81 : decode cX5_number 81 = .ok (.aload_n 0, 1) := dk_42 (dk_at dksX5_number_3 11 rfl rfl)
theorem dX5_number_82 : decode cX5_number 82 = .ok (.dup, 1) := dk_89 (dk_at dksX5_number_3 12 rfl rfl)
theorem dX5_number_83 : decode cX5_number 83 = .ok (.getfield 15, 3) := dk_180 0 15 (dk_at dksX5_number_3 13 rfl rfl)
theorem dX5_number_86 : decode cX5_number 86 = .ok (.iconst 1, 1) := dk_4 (dk_at dksX5_number_3 16 rfl rfl)
theorem dX5_number_87 : decode cX5_number 87 = .ok (.iadd, 1) := dk_96 (dk_at dksX5_number_3 17 rfl rfl)
theorem dX5_number_88 : decode cX5_number 88 = .ok (.putfield 15, 3) := dk_181 0 15 (dk_at dksX5_number_3 18 rfl rfl)
theorem dX5_number_91 : decode cX5_number 91 = .ok (.iload_n 1, 1) := dk_27 (dk_at dksX5_number_3 21 rfl rfl)
theorem dX5_number_92 : decode cX5_number 92 = .ok (.ireturn, 1) := dk_172 (dk_at dksX5_number_3 22 rfl rfl)
abbrev cX5_here : ByteArray := prog_11_method_2_code
def yX5_here : MethodName := ⟨RX5, "here", "()I"⟩
def dkwX5_here_1 : List UInt8 := [180, 0, 15, 51, 167, 0, 4, 2, 172]
abbrev dktX5_here_1 : List UInt8 := dkwX5_here_1 ++ []
def dkwX5_here_0 : List UInt8 := [42, 180, 0, 15, 42, 180, 0, 3, 180, 0, 19, 162, 0, 18, 42, 180, 0, 3, 180, 0, 22, 42]
abbrev dktX5_here_0 : List UInt8 := dkwX5_here_0 ++ dktX5_here_1
theorem dksX5_here_0 : cX5_here.data.toList.drop 0 = dktX5_here_0 := by decide +kernel
theorem dksX5_here_1 : cX5_here.data.toList.drop 22 = dktX5_here_1 := dk_seg dksX5_here_0 22 rfl rfl
theorem dX5_here_0 : decode cX5_here 0 = .ok (.aload_n 0, 1) := dk_42 (dk_at dksX5_here_0 0 rfl rfl)
theorem dX5_here_1 : decode cX5_here 1 = .ok (.getfield 15, 3) := dk_180 0 15 (dk_at dksX5_here_0 1 rfl rfl)
theorem dX5_here_4 : decode cX5_here 4 = .ok (.aload_n 0, 1) := dk_42 (dk_at dksX5_here_0 4 rfl rfl)
theorem dX5_here_5 : decode cX5_here 5 = .ok (.getfield 3, 3) := dk_180 0 3 (dk_at dksX5_here_0 5 rfl rfl)
theorem dX5_here_8 : decode cX5_here 8 = .ok (.getfield 19, 3) := dk_180 0 19 (dk_at dksX5_here_0 8 rfl rfl)
theorem dX5_here_11 : decode cX5_here 11 = .ok (.if_icmp .ge 18, 3) := dk_162 0 18 (dk_at dksX5_here_0 11 rfl rfl)
theorem dX5_here_14 : decode cX5_here 14 = .ok (.aload_n 0, 1) := dk_42 (dk_at dksX5_here_0 14 rfl rfl)
theorem dX5_here_15 : decode cX5_here 15 = .ok (.getfield 3, 3) := dk_180 0 3 (dk_at dksX5_here_0 15 rfl rfl)
theorem dX5_here_18 : decode cX5_here 18 = .ok (.getfield 22, 3) := dk_180 0 22 (dk_at dksX5_here_0 18 rfl rfl)
theorem dX5_here_21 : decode cX5_here 21 = .ok (.aload_n 0, 1) := dk_42 (dk_at dksX5_here_0 21 rfl rfl)
theorem dX5_here_22 : decode cX5_here 22 = .ok (.getfield 15, 3) := dk_180 0 15 (dk_at dksX5_here_1 0 rfl rfl)
theorem dX5_here_25 : decode cX5_here 25 = .ok (.baload, 1) := dk_51 (dk_at dksX5_here_1 3 rfl rfl)
theorem dX5_here_26 : decode cX5_here 26 = .ok (.goto 4, 3) := dk_167 0 4 (dk_at dksX5_here_1 4 rfl rfl)
theorem dX5_here_29 : decode cX5_here 29 = .ok (.iconst (-1), 1) := dk_2 (dk_at dksX5_here_1 7 rfl rfl)
theorem dX5_here_30 : decode cX5_here 30 = .ok (.ireturn, 1) := dk_172 (dk_at dksX5_here_1 8 rfl rfl)
abbrev cX5_must : ByteArray := prog_11_method_3_code
def yX5_must : MethodName := ⟨RX5, "must", "(Z)V"⟩
def dkwX5_must_0 : List UInt8 := [27, 154, 0, 15, 187, 0, 26, 89, 42, 180, 0, 15, 183, 0, 28, 191, 177]
abbrev dktX5_must_0 : List UInt8 := dkwX5_must_0 ++ []
theorem dksX5_must_0 : cX5_must.data.toList.drop 0 = dktX5_must_0 := by decide +kernel
theorem dX5_must_0 : decode cX5_must 0 = .ok (.iload_n 1, 1) := dk_27 (dk_at dksX5_must_0 0 rfl rfl)
theorem dX5_must_1 : decode cX5_must 1 = .ok (.ifCond .ne 15, 3) := dk_154 0 15 (dk_at dksX5_must_0 1 rfl rfl)
theorem dX5_must_4 : decode cX5_must 4 = .ok (.new 26, 3) := dk_187 0 26 (dk_at dksX5_must_0 4 rfl rfl)
theorem dX5_must_7 : decode cX5_must 7 = .ok (.dup, 1) := dk_89 (dk_at dksX5_must_0 7 rfl rfl)
theorem dX5_must_8 : decode cX5_must 8 = .ok (.aload_n 0, 1) := dk_42 (dk_at dksX5_must_0 8 rfl rfl)
theorem dX5_must_9 : decode cX5_must 9 = .ok (.getfield 15, 3) := dk_180 0 15 (dk_at dksX5_must_0 9 rfl rfl)
theorem dX5_must_12 : decode cX5_must 12 = .ok (.invokespecial 28, 3) := dk_183 0 28 (dk_at dksX5_must_0 12 rfl rfl)
theorem dX5_must_15 : decode cX5_must 15 = .ok (.athrow, 1) := dk_191 (dk_at dksX5_must_0 15 rfl rfl)
theorem dX5_must_16 : decode cX5_must 16 = .ok (.return_, 1) := dk_177 (dk_at dksX5_must_0 16 rfl rfl)
abbrev cX5_power : ByteArray := prog_11_method_5_code
def yX5_power : MethodName := ⟨RX5, "power", "(I)I"⟩
def dkwX5_power_1 : List UInt8 := [96, 181, 0, 15, 167, 255, 230, 28, 172]
abbrev dktX5_power_1 : List UInt8 := dkwX5_power_1 ++ []
def dkwX5_power_0 : List UInt8 := [3, 61, 28, 5, 162, 0, 27, 42, 182, 0, 31, 27, 160, 0, 19, 132, 2, 1, 42, 89, 180, 0, 15, 4]
abbrev dktX5_power_0 : List UInt8 := dkwX5_power_0 ++ dktX5_power_1
theorem dksX5_power_0 : cX5_power.data.toList.drop 0 = dktX5_power_0 := by decide +kernel
theorem dksX5_power_1 : cX5_power.data.toList.drop 24 = dktX5_power_1 := dk_seg dksX5_power_0 24 rfl rfl
theorem dX5_power_0 : decode cX5_power 0 = .ok (.iconst 0, 1) := dk_3 (dk_at dksX5_power_0 0 rfl rfl)
theorem dX5_power_1 : decode cX5_power 1 = .ok (.istore_n 2, 1) := dk_61 (dk_at dksX5_power_0 1 rfl rfl)
theorem dX5_power_2 : decode cX5_power 2 = .ok (.iload_n 2, 1) := dk_28 (dk_at dksX5_power_0 2 rfl rfl)
theorem dX5_power_3 : decode cX5_power 3 = .ok (.iconst 2, 1) := dk_5 (dk_at dksX5_power_0 3 rfl rfl)
theorem dX5_power_4 : decode cX5_power 4 = .ok (.if_icmp .ge 27, 3) := dk_162 0 27 (dk_at dksX5_power_0 4 rfl rfl)
theorem dX5_power_7 : decode cX5_power 7 = .ok (.aload_n 0, 1) := dk_42 (dk_at dksX5_power_0 7 rfl rfl)
theorem dX5_power_8 : decode cX5_power 8 = .ok (.invokevirtual 31, 3) := dk_182 0 31 (dk_at dksX5_power_0 8 rfl rfl)
theorem dX5_power_11 : decode cX5_power 11 = .ok (.iload_n 1, 1) := dk_27 (dk_at dksX5_power_0 11 rfl rfl)
theorem dX5_power_12 : decode cX5_power 12 = .ok (.if_icmp .ne 19, 3) := dk_160 0 19 (dk_at dksX5_power_0 12 rfl rfl)
theorem dX5_power_15 : decode cX5_power 15 = .ok (.iinc 2 1, 3) := dk_132 2 1 (dk_at dksX5_power_0 15 rfl rfl)
theorem dX5_power_18 : decode cX5_power 18 = .ok (.aload_n 0, 1) := dk_42 (dk_at dksX5_power_0 18 rfl rfl)
theorem dX5_power_19 : decode cX5_power 19 = .ok (.dup, 1) := dk_89 (dk_at dksX5_power_0 19 rfl rfl)
theorem dX5_power_20 : decode cX5_power 20 = .ok (.getfield 15, 3) := dk_180 0 15 (dk_at dksX5_power_0 20 rfl rfl)
theorem dX5_power_23 : decode cX5_power 23 = .ok (.iconst 1, 1) := dk_4 (dk_at dksX5_power_0 23 rfl rfl)
theorem dX5_power_24 : decode cX5_power 24 = .ok (.iadd, 1) := dk_96 (dk_at dksX5_power_1 0 rfl rfl)
theorem dX5_power_25 : decode cX5_power 25 = .ok (.putfield 15, 3) := dk_181 0 15 (dk_at dksX5_power_1 1 rfl rfl)
theorem dX5_power_28 : decode cX5_power 28 = .ok (.goto (-26), 3) := dk_167 255 230 (dk_at dksX5_power_1 4 rfl rfl)
theorem dX5_power_31 : decode cX5_power 31 = .ok (.iload_n 2, 1) := dk_28 (dk_at dksX5_power_1 7 rfl rfl)
theorem dX5_power_32 : decode cX5_power 32 = .ok (.ireturn, 1) := dk_172 (dk_at dksX5_power_1 8 rfl rfl)
theorem q87 : (Jvm.Cond.initialized "KeptCurves$Reader") ∈ lw_all := lw_g (lw_at lw_m1 19 rfl) rfl
theorem q425 : (Jvm.Cond.fieldLinkNest "KeptCurves$Reader" (22 : Nat) "KeptCurves" "tape" "[B" "KeptCurves") ∈ lw_tbl := lw_at lw_m2 117 rfl
theorem q427 : (Jvm.Cond.fieldLinkNest "KeptCurves$Reader" (19 : Nat) "KeptCurves" "length" "I" "KeptCurves") ∈ lw_tbl := lw_at lw_m2 119 rfl
theorem q429 : (Jvm.Cond.fieldLinkNest "KeptCurves$Reader" (56 : Nat) "KeptCurves" "read" "[I" "KeptCurves") ∈ lw_tbl := lw_at lw_m2 121 rfl
theorem q520 : (Jvm.Cond.instantiable "KeptCurves$Reader" (2 : Nat)) ∈ lw_all := lw_g (lw_at lw_m2 212 rfl) rfl
theorem q522 : (Jvm.Cond.instanceMethod ({ cls := "KeptCurves$Reader", name := "<init>", desc := "(LKeptCurves;)V" } : Jvm.MethodName)) ∈ lw_all := lw_g (lw_at lw_m2 214 rfl) rfl
theorem q523 : (Jvm.Cond.code ({ cls := "KeptCurves$Reader", name := "<init>", desc := "(LKeptCurves;)V" } : Jvm.MethodName) prog_11_method_1_code (2 : Nat) (Option.none : Option Jvm.ClassFile.FieldType)) ∈ lw_all := lw_g (lw_at lw_m2 215 rfl) rfl
theorem q524 : (Jvm.Cond.methodLink "KeptCurves$Reader" (9 : Nat) ({ cls := "java/lang/Object", name := "<init>", desc := "()V" } : Jvm.MethodName)) ∈ lw_all := lw_g (lw_at lw_m2 216 rfl) rfl
theorem q525 : (Jvm.Cond.fieldLink "KeptCurves$Reader" (15 : Nat) "KeptCurves$Reader" "at" "I") ∈ lw_all := lw_g (lw_at lw_m2 217 rfl) rfl
theorem q526 : (Jvm.Cond.fieldLink "KeptCurves$Reader" (3 : Nat) "KeptCurves$Reader" "this$0" "LKeptCurves;") ∈ lw_all := lw_g (lw_at lw_m2 218 rfl) rfl
theorem q527 : (Jvm.Cond.lays "KeptCurves$Reader" "KeptCurves$Reader" "at" "I") ∈ lw_all := lw_g (lw_at lw_m2 219 rfl) rfl
theorem q528 : (Jvm.Cond.soleField "KeptCurves$Reader" "at") ∈ lw_all := lw_g (lw_at lw_m2 220 rfl) rfl
theorem q529 : (Jvm.Cond.laysFinal "KeptCurves$Reader" "KeptCurves$Reader" "this$0" "LKeptCurves;") ∈ lw_all := lw_g (lw_at lw_m2 221 rfl) rfl
theorem q530 : (Jvm.Cond.soleField "KeptCurves$Reader" "this$0") ∈ lw_all := lw_g (lw_at lw_m2 222 rfl) rfl
theorem q531 : (Jvm.Cond.superclass "KeptCurves$Reader" "java/lang/Object") ∈ lw_all := lw_g (lw_at lw_m2 223 rfl) rfl
theorem q533 : (Jvm.Cond.instanceMethod ({ cls := "KeptCurves$Reader", name := "all", desc := "()I" } : Jvm.MethodName)) ∈ lw_all := lw_g (lw_at lw_m2 225 rfl) rfl
theorem q534 : (Jvm.Cond.selects "KeptCurves$Reader" ({ cls := "KeptCurves$Reader", name := "all", desc := "()I" } : Jvm.MethodName) ({ cls := "KeptCurves$Reader", name := "all", desc := "()I" } : Jvm.MethodName)) ∈ lw_all := lw_g (lw_at lw_m2 226 rfl) rfl
theorem q535 : (Jvm.Cond.code ({ cls := "KeptCurves$Reader", name := "all", desc := "()I" } : Jvm.MethodName) prog_11_method_7_code (2 : Nat) (Option.some Jvm.ClassFile.FieldType.int)) ∈ lw_all := lw_g (lw_at lw_m2 227 rfl) rfl
theorem q536 : (Jvm.Cond.methodLink "KeptCurves$Reader" (60 : Nat) ({ cls := "KeptCurves$Reader", name := "term", desc := "()V" } : Jvm.MethodName)) ∈ lw_all := lw_g (lw_at lw_m2 228 rfl) rfl
theorem q537 : (Jvm.Cond.privateMethod ({ cls := "KeptCurves$Reader", name := "term", desc := "()V" } : Jvm.MethodName)) ∈ lw_tbl := lw_at lw_m2 229 rfl
theorem q538 : (Jvm.Cond.instanceMethod ({ cls := "KeptCurves$Reader", name := "term", desc := "()V" } : Jvm.MethodName)) ∈ lw_all := lw_g (lw_at lw_m2 230 rfl) rfl
theorem q539 : (Jvm.Cond.code ({ cls := "KeptCurves$Reader", name := "term", desc := "()V" } : Jvm.MethodName) prog_11_method_6_code (4 : Nat) (Option.none : Option Jvm.ClassFile.FieldType)) ∈ lw_all := lw_g (lw_at lw_m2 231 rfl) rfl
theorem q540 : (Jvm.Cond.methodLink "KeptCurves$Reader" (49 : Nat) ({ cls := "KeptCurves$Reader", name := "number", desc := "()I" } : Jvm.MethodName)) ∈ lw_all := lw_g (lw_at lw_m2 232 rfl) rfl
theorem q541 : (Jvm.Cond.privateMethod ({ cls := "KeptCurves$Reader", name := "number", desc := "()I" } : Jvm.MethodName)) ∈ lw_tbl := lw_at lw_m2 233 rfl
theorem q542 : (Jvm.Cond.instanceMethod ({ cls := "KeptCurves$Reader", name := "number", desc := "()I" } : Jvm.MethodName)) ∈ lw_all := lw_g (lw_at lw_m2 234 rfl) rfl
theorem q543 : (Jvm.Cond.code ({ cls := "KeptCurves$Reader", name := "number", desc := "()I" } : Jvm.MethodName) prog_11_method_4_code (2 : Nat) (Option.some Jvm.ClassFile.FieldType.int)) ∈ lw_all := lw_g (lw_at lw_m2 235 rfl) rfl
theorem q544 : (Jvm.Cond.methodLink "KeptCurves$Reader" (31 : Nat) ({ cls := "KeptCurves$Reader", name := "here", desc := "()I" } : Jvm.MethodName)) ∈ lw_all := lw_g (lw_at lw_m2 236 rfl) rfl
theorem q545 : (Jvm.Cond.privateMethod ({ cls := "KeptCurves$Reader", name := "here", desc := "()I" } : Jvm.MethodName)) ∈ lw_tbl := lw_at lw_m2 237 rfl
theorem q546 : (Jvm.Cond.instanceMethod ({ cls := "KeptCurves$Reader", name := "here", desc := "()I" } : Jvm.MethodName)) ∈ lw_all := lw_g (lw_at lw_m2 238 rfl) rfl
theorem q547 : (Jvm.Cond.code ({ cls := "KeptCurves$Reader", name := "here", desc := "()I" } : Jvm.MethodName) prog_11_method_2_code (1 : Nat) (Option.some Jvm.ClassFile.FieldType.int)) ∈ lw_all := lw_g (lw_at lw_m2 239 rfl) rfl
theorem q548 : (Jvm.Cond.constantLong "KeptCurves$Reader" (35 : Nat) (49 : Int64)) ∈ lw_all := lw_g (lw_at lw_m3 0 rfl) rfl
theorem q549 : (Jvm.Cond.constantLong "KeptCurves$Reader" (37 : Nat) (57 : Int64)) ∈ lw_all := lw_g (lw_at lw_m3 1 rfl) rfl
theorem q550 : (Jvm.Cond.methodLinkNest "KeptCurves$Reader" (39 : Nat) ({ cls := "KeptCurves", name := "isIn", desc := "(JJJ)Z" } : Jvm.MethodName) "KeptCurves") ∈ lw_tbl := lw_at lw_m3 2 rfl
theorem q551 : (Jvm.Cond.methodLink "KeptCurves$Reader" (43 : Nat) ({ cls := "KeptCurves$Reader", name := "must", desc := "(Z)V" } : Jvm.MethodName)) ∈ lw_all := lw_g (lw_at lw_m3 3 rfl) rfl
theorem q552 : (Jvm.Cond.privateMethod ({ cls := "KeptCurves$Reader", name := "must", desc := "(Z)V" } : Jvm.MethodName)) ∈ lw_tbl := lw_at lw_m3 4 rfl
theorem q553 : (Jvm.Cond.instanceMethod ({ cls := "KeptCurves$Reader", name := "must", desc := "(Z)V" } : Jvm.MethodName)) ∈ lw_all := lw_g (lw_at lw_m3 5 rfl) rfl
theorem q554 : (Jvm.Cond.code ({ cls := "KeptCurves$Reader", name := "must", desc := "(Z)V" } : Jvm.MethodName) prog_11_method_3_code (2 : Nat) (Option.none : Option Jvm.ClassFile.FieldType)) ∈ lw_all := lw_g (lw_at lw_m3 6 rfl) rfl
theorem q555 : (Jvm.Cond.classLink "KeptCurves$Reader" (26 : Nat) "KeptCurves$Fault") ∈ lw_all := lw_g (lw_at lw_m3 7 rfl) rfl
theorem q564 : (Jvm.Cond.methodLink "KeptCurves$Reader" (28 : Nat) ({ cls := "KeptCurves$Fault", name := "<init>", desc := "(I)V" } : Jvm.MethodName)) ∈ lw_all := lw_g (lw_at lw_m3 16 rfl) rfl
theorem q579 : (Jvm.Cond.constantLong "KeptCurves$Reader" (47 : Nat) (48 : Int64)) ∈ lw_all := lw_g (lw_at lw_m3 31 rfl) rfl
theorem q580 : (Jvm.Cond.methodLink "KeptCurves$Reader" (52 : Nat) ({ cls := "KeptCurves$Reader", name := "power", desc := "(I)I" } : Jvm.MethodName)) ∈ lw_all := lw_g (lw_at lw_m3 32 rfl) rfl
theorem q581 : (Jvm.Cond.privateMethod ({ cls := "KeptCurves$Reader", name := "power", desc := "(I)I" } : Jvm.MethodName)) ∈ lw_tbl := lw_at lw_m3 33 rfl
theorem q582 : (Jvm.Cond.instanceMethod ({ cls := "KeptCurves$Reader", name := "power", desc := "(I)I" } : Jvm.MethodName)) ∈ lw_all := lw_g (lw_at lw_m3 34 rfl) rfl
theorem q583 : (Jvm.Cond.code ({ cls := "KeptCurves$Reader", name := "power", desc := "(I)I" } : Jvm.MethodName) prog_11_method_5_code (3 : Nat) (Option.some Jvm.ClassFile.FieldType.int)) ∈ lw_all := lw_g (lw_at lw_m3 35 rfl) rfl
theorem q784 : (Jvm.Cond.selects "KeptCurves$Reader" ({ cls := "java/lang/Object", name := "getClass", desc := "()Ljava/lang/Class;" } : Jvm.MethodName) ({ cls := "java/lang/Object", name := "getClass", desc := "()Ljava/lang/Class;" } : Jvm.MethodName)) ∈ lw_all := lw_g (lw_at lw_m3 236 rfl) rfl
theorem q2372 : (Jvm.Cond.castable "KeptCurves$Reader" "java/lang/Object") ∈ lw_tbl := lw_at lw_m10 144 rfl
theorem in_X5 : ∀ w ∈ wsX50, w ∈ lw_all := lw_in wsX50 [527, 529] (by decide +kernel) (by decide +kernel)
/-! KeptCurves$Fault -/
set_option maxRecDepth 100000
def RX6 : String := "KeptCurves$Fault"
def TX6 : u_T := fun k => match k with
  | 0 => ("java/lang/Throwable", "cause", "Ljava/lang/Throwable;", false)
  | 1 => ("java/lang/Throwable", "stackTrace", "[Ljava/lang/StackTraceElement;", false)
  | 2 => ("java/lang/Throwable", "suppressedExceptions", "Ljava/util/List;", false)
  | 3 => ("java/lang/Throwable", "detailMessage", "Ljava/lang/String;", false)
  | 4 => ("java/lang/Throwable", "backtrace", "Ljava/lang/Object;", false)
  | 5 => ("java/lang/Throwable", "depth", "I", false)
  | _ => ("KeptCurves$Fault", "place", "I", true)
def tyX6 : Nat → FieldType := fun k => match k with
  | 0 => .object "java/lang/Throwable"
  | 1 => .array (.object "java/lang/StackTraceElement")
  | 2 => .object "java/util/List"
  | 3 => .object "java/lang/String"
  | 4 => .object "java/lang/Object"
  | 5 => .int
  | _ => .int
abbrev wsX60 : List Cond := u_ws RX6 TX6 7
theorem nmX6 : ∀ a, a < 7 → ∀ b, b < 7 → a ≠ b → (TX6 a).2.1 ≠ (TX6 b).2.1 := by decide +kernel
theorem tyX6_ok : ∀ k, k < 7 → parseFieldDescriptor (TX6 k).2.2.1 = some (tyX6 k) := by decide +kernel
abbrev cX6_init : ByteArray := prog_4_method_1_code
def yX6_init : MethodName := ⟨RX6, "<init>", "(I)V"⟩
def dkwX6_init_0 : List UInt8 := [42, 1, 1, 3, 3, 183, 0, 1, 42, 27, 181, 0, 7, 177]
abbrev dktX6_init_0 : List UInt8 := dkwX6_init_0 ++ []
theorem dksX6_init_0 : cX6_init.data.toList.drop 0 = dktX6_init_0 := by decide +kernel
theorem dX6_init_0 : decode cX6_init 0 = .ok (.aload_n 0, 1) := dk_42 (dk_at dksX6_init_0 0 rfl rfl)
theorem dX6_init_1 : decode cX6_init 1 = .ok (.aconst_null, 1) := dk_1 (dk_at dksX6_init_0 1 rfl rfl)
theorem dX6_init_2 : decode cX6_init 2 = .ok (.aconst_null, 1) := dk_1 (dk_at dksX6_init_0 2 rfl rfl)
theorem dX6_init_3 : decode cX6_init 3 = .ok (.iconst 0, 1) := dk_3 (dk_at dksX6_init_0 3 rfl rfl)
theorem dX6_init_4 : decode cX6_init 4 = .ok (.iconst 0, 1) := dk_3 (dk_at dksX6_init_0 4 rfl rfl)
theorem dX6_init_5 : decode cX6_init 5 = .ok (.invokespecial 1, 3) := dk_183 0 1 (dk_at dksX6_init_0 5 rfl rfl)
theorem dX6_init_8 : decode cX6_init 8 = .ok (.aload_n 0, 1) := dk_42 (dk_at dksX6_init_0 8 rfl rfl)
theorem dX6_init_9 : decode cX6_init 9 = .ok (.iload_n 1, 1) := dk_27 (dk_at dksX6_init_0 9 rfl rfl)
theorem dX6_init_10 : decode cX6_init 10 = .ok (.putfield 7, 3) := dk_181 0 7 (dk_at dksX6_init_0 10 rfl rfl)
theorem dX6_init_13 : decode cX6_init 13 = .ok (.return_, 1) := dk_177 (dk_at dksX6_init_0 13 rfl rfl)
theorem q88 : (Jvm.Cond.initialized "KeptCurves$Fault") ∈ lw_all := lw_g (lw_at lw_m1 20 rfl) rfl
theorem q293 : (Jvm.Cond.selects "KeptCurves$Fault" ({ cls := "java/lang/Throwable", name := "fillInStackTrace", desc := "()Ljava/lang/Throwable;" } : Jvm.MethodName) ({ cls := "java/lang/Throwable", name := "fillInStackTrace", desc := "()Ljava/lang/Throwable;" } : Jvm.MethodName)) ∈ lw_all := lw_g (lw_at lw_m1 225 rfl) rfl
theorem q556 : (Jvm.Cond.instantiable "KeptCurves$Fault" (7 : Nat)) ∈ lw_all := lw_g (lw_at lw_m3 8 rfl) rfl
theorem q557 : (Jvm.Cond.castable "KeptCurves$Fault" "KeptCurves$Fault") ∈ lw_tbl := lw_at lw_m3 9 rfl
theorem q558 : (Jvm.Cond.selects "KeptCurves$Fault" ({ cls := "java/lang/Throwable", name := "fillInStackTrace", desc := "(I)Ljava/lang/Throwable;" } : Jvm.MethodName) ({ cls := "java/lang/Throwable", name := "fillInStackTrace", desc := "(I)Ljava/lang/Throwable;" } : Jvm.MethodName)) ∈ lw_all := lw_g (lw_at lw_m3 10 rfl) rfl
theorem q559 : (Jvm.Cond.lays "KeptCurves$Fault" "java/lang/Throwable" "cause" "Ljava/lang/Throwable;") ∈ lw_all := lw_g (lw_at lw_m3 11 rfl) rfl
theorem q560 : (Jvm.Cond.lays "KeptCurves$Fault" "java/lang/Throwable" "stackTrace" "[Ljava/lang/StackTraceElement;") ∈ lw_all := lw_g (lw_at lw_m3 12 rfl) rfl
theorem q561 : (Jvm.Cond.lays "KeptCurves$Fault" "java/lang/Throwable" "suppressedExceptions" "Ljava/util/List;") ∈ lw_all := lw_g (lw_at lw_m3 13 rfl) rfl
theorem q562 : (Jvm.Cond.lays "KeptCurves$Fault" "java/lang/Throwable" "detailMessage" "Ljava/lang/String;") ∈ lw_all := lw_g (lw_at lw_m3 14 rfl) rfl
theorem q563 : (Jvm.Cond.lays "KeptCurves$Fault" "java/lang/Throwable" "backtrace" "Ljava/lang/Object;") ∈ lw_all := lw_g (lw_at lw_m3 15 rfl) rfl
theorem q565 : (Jvm.Cond.instanceMethod ({ cls := "KeptCurves$Fault", name := "<init>", desc := "(I)V" } : Jvm.MethodName)) ∈ lw_all := lw_g (lw_at lw_m3 17 rfl) rfl
theorem q566 : (Jvm.Cond.code ({ cls := "KeptCurves$Fault", name := "<init>", desc := "(I)V" } : Jvm.MethodName) prog_4_method_1_code (2 : Nat) (Option.none : Option Jvm.ClassFile.FieldType)) ∈ lw_all := lw_g (lw_at lw_m3 18 rfl) rfl
theorem q567 : (Jvm.Cond.methodLink "KeptCurves$Fault" (1 : Nat) ({ cls := "java/lang/Exception", name := "<init>", desc := "(Ljava/lang/String;Ljava/lang/Throwable;ZZ)V" } : Jvm.MethodName)) ∈ lw_all := lw_g (lw_at lw_m3 19 rfl) rfl
theorem q573 : (Jvm.Cond.fieldLink "KeptCurves$Fault" (7 : Nat) "KeptCurves$Fault" "place" "I") ∈ lw_all := lw_g (lw_at lw_m3 25 rfl) rfl
theorem q575 : (Jvm.Cond.laysFinal "KeptCurves$Fault" "KeptCurves$Fault" "place" "I") ∈ lw_all := lw_g (lw_at lw_m3 27 rfl) rfl
theorem q576 : (Jvm.Cond.soleField "KeptCurves$Fault" "place") ∈ lw_all := lw_g (lw_at lw_m3 28 rfl) rfl
theorem q577 : (Jvm.Cond.lays "KeptCurves$Fault" "java/lang/Throwable" "depth" "I") ∈ lw_all := lw_g (lw_at lw_m3 29 rfl) rfl
theorem q578 : (Jvm.Cond.superclass "KeptCurves$Fault" "java/lang/Exception") ∈ lw_all := lw_g (lw_at lw_m3 30 rfl) rfl
theorem q778 : (Jvm.Cond.selects "KeptCurves$Fault" ({ cls := "java/lang/Object", name := "getClass", desc := "()Ljava/lang/Class;" } : Jvm.MethodName) ({ cls := "java/lang/Object", name := "getClass", desc := "()Ljava/lang/Class;" } : Jvm.MethodName)) ∈ lw_all := lw_g (lw_at lw_m3 230 rfl) rfl
theorem q2373 : (Jvm.Cond.castable "KeptCurves$Fault" "java/lang/Object") ∈ lw_tbl := lw_at lw_m10 145 rfl
theorem in_X6 : ∀ w ∈ wsX60, w ∈ lw_all := lw_in wsX60 [559, 560, 561, 562, 563, 577, 575] (by decide +kernel) (by decide +kernel)
/-! KeptCurves$Fibre -/
set_option maxRecDepth 100000
def RX7 : String := "KeptCurves$Fibre"
def TX7 : u_T := fun k => match k with
  | 0 => ("KeptCurves$Fibre", "k", "I", true)
  | _ => ("KeptCurves$Fibre", "many", "I", false)
def tyX7 : Nat → FieldType := fun k => match k with
  | 0 => .int
  | _ => .int
abbrev wsX70 : List Cond := u_ws RX7 TX7 2
theorem nmX7 : ∀ a, a < 2 → ∀ b, b < 2 → a ≠ b → (TX7 a).2.1 ≠ (TX7 b).2.1 := by decide +kernel
theorem tyX7_ok : ∀ k, k < 2 → parseFieldDescriptor (TX7 k).2.2.1 = some (tyX7 k) := by decide +kernel
abbrev cX7_init : ByteArray := prog_5_method_1_code
def yX7_init : MethodName := ⟨RX7, "<init>", "(I)V"⟩
def dkwX7_init_0 : List UInt8 := [42, 183, 0, 1, 42, 27, 181, 0, 7, 177]
abbrev dktX7_init_0 : List UInt8 := dkwX7_init_0 ++ []
theorem dksX7_init_0 : cX7_init.data.toList.drop 0 = dktX7_init_0 := by decide +kernel
theorem dX7_init_0 : decode cX7_init 0 = .ok (.aload_n 0, 1) := dk_42 (dk_at dksX7_init_0 0 rfl rfl)
theorem dX7_init_1 : decode cX7_init 1 = .ok (.invokespecial 1, 3) := dk_183 0 1 (dk_at dksX7_init_0 1 rfl rfl)
theorem dX7_init_4 : decode cX7_init 4 = .ok (.aload_n 0, 1) := dk_42 (dk_at dksX7_init_0 4 rfl rfl)
theorem dX7_init_5 : decode cX7_init 5 = .ok (.iload_n 1, 1) := dk_27 (dk_at dksX7_init_0 5 rfl rfl)
theorem dX7_init_6 : decode cX7_init 6 = .ok (.putfield 7, 3) := dk_181 0 7 (dk_at dksX7_init_0 6 rfl rfl)
theorem dX7_init_9 : decode cX7_init 9 = .ok (.return_, 1) := dk_177 (dk_at dksX7_init_0 9 rfl rfl)
theorem q90 : (Jvm.Cond.initialized "KeptCurves$Fibre") ∈ lw_all := lw_g (lw_at lw_m1 22 rfl) rfl
theorem q681 : (Jvm.Cond.instantiable "KeptCurves$Fibre" (2 : Nat)) ∈ lw_all := lw_g (lw_at lw_m3 133 rfl) rfl
theorem q683 : (Jvm.Cond.instanceMethod ({ cls := "KeptCurves$Fibre", name := "<init>", desc := "(I)V" } : Jvm.MethodName)) ∈ lw_all := lw_g (lw_at lw_m3 135 rfl) rfl
theorem q684 : (Jvm.Cond.code ({ cls := "KeptCurves$Fibre", name := "<init>", desc := "(I)V" } : Jvm.MethodName) prog_5_method_1_code (2 : Nat) (Option.none : Option Jvm.ClassFile.FieldType)) ∈ lw_all := lw_g (lw_at lw_m3 136 rfl) rfl
theorem q685 : (Jvm.Cond.methodLink "KeptCurves$Fibre" (1 : Nat) ({ cls := "java/lang/Object", name := "<init>", desc := "()V" } : Jvm.MethodName)) ∈ lw_all := lw_g (lw_at lw_m3 137 rfl) rfl
theorem q686 : (Jvm.Cond.fieldLink "KeptCurves$Fibre" (7 : Nat) "KeptCurves$Fibre" "k" "I") ∈ lw_all := lw_g (lw_at lw_m3 138 rfl) rfl
theorem q691 : (Jvm.Cond.laysFinal "KeptCurves$Fibre" "KeptCurves$Fibre" "k" "I") ∈ lw_all := lw_g (lw_at lw_m3 143 rfl) rfl
theorem q692 : (Jvm.Cond.soleField "KeptCurves$Fibre" "k") ∈ lw_all := lw_g (lw_at lw_m3 144 rfl) rfl
theorem q693 : (Jvm.Cond.lays "KeptCurves$Fibre" "KeptCurves$Fibre" "many" "I") ∈ lw_all := lw_g (lw_at lw_m3 145 rfl) rfl
theorem q694 : (Jvm.Cond.soleField "KeptCurves$Fibre" "many") ∈ lw_all := lw_g (lw_at lw_m3 146 rfl) rfl
theorem q695 : (Jvm.Cond.superclass "KeptCurves$Fibre" "java/lang/Object") ∈ lw_all := lw_g (lw_at lw_m3 147 rfl) rfl
theorem q779 : (Jvm.Cond.selects "KeptCurves$Fibre" ({ cls := "java/lang/Object", name := "getClass", desc := "()Ljava/lang/Class;" } : Jvm.MethodName) ({ cls := "java/lang/Object", name := "getClass", desc := "()Ljava/lang/Class;" } : Jvm.MethodName)) ∈ lw_all := lw_g (lw_at lw_m3 231 rfl) rfl
theorem q2364 : (Jvm.Cond.castable "KeptCurves$Fibre" "java/lang/Object") ∈ lw_tbl := lw_at lw_m10 136 rfl
theorem in_X7 : ∀ w ∈ wsX70, w ∈ lw_all := lw_in wsX70 [691, 693] (by decide +kernel) (by decide +kernel)
/-! KeptCurves$Fuller -/
set_option maxRecDepth 100000
def RX8 : String := "KeptCurves$Fuller"
abbrev cX8_init : ByteArray := prog_7_method_1_code
def yX8_init : MethodName := ⟨RX8, "<init>", "()V"⟩
theorem dX8_init_0 : decode cX8_init 0 = .ok (.aload_n 0, 1) := by decide +kernel
theorem dX8_init_1 : decode cX8_init 1 = .ok (.invokespecial 1, 3) := by decide +kernel
theorem dX8_init_4 : decode cX8_init 4 = .ok (.return_, 1) := by decide +kernel
abbrev cX8_compare : ByteArray := prog_7_method_3_code
def yX8_compare : MethodName := ⟨RX8, "compare", "(Ljava/lang/Object;Ljava/lang/Object;)I"⟩
def dkwX8_compare_0 : List UInt8 := [42, 43, 192, 0, 8, 44, 192, 0, 8, 182, 0, 22, 172]
abbrev dktX8_compare_0 : List UInt8 := dkwX8_compare_0 ++ []
theorem dksX8_compare_0 : cX8_compare.data.toList.drop 0 = dktX8_compare_0 := by decide +kernel
theorem dX8_compare_0 : decode cX8_compare 0 = .ok (.aload_n 0, 1) := dk_42 (dk_at dksX8_compare_0 0 rfl rfl)
theorem dX8_compare_1 : decode cX8_compare 1 = .ok (.aload_n 1, 1) := dk_43 (dk_at dksX8_compare_0 1 rfl rfl)
theorem dX8_compare_2 : decode cX8_compare 2 = .ok (.checkcast 8, 3) := dk_192 0 8 (dk_at dksX8_compare_0 2 rfl rfl)
theorem dX8_compare_5 : decode cX8_compare 5 = .ok (.aload_n 2, 1) := dk_44 (dk_at dksX8_compare_0 5 rfl rfl)
theorem dX8_compare_6 : decode cX8_compare 6 = .ok (.checkcast 8, 3) := dk_192 0 8 (dk_at dksX8_compare_0 6 rfl rfl)
theorem dX8_compare_9 : decode cX8_compare 9 = .ok (.invokevirtual 22, 3) := dk_182 0 22 (dk_at dksX8_compare_0 9 rfl rfl)
theorem dX8_compare_12 : decode cX8_compare 12 = .ok (.ireturn, 1) := dk_172 (dk_at dksX8_compare_0 12 rfl rfl)
abbrev cX8_compare_2 : ByteArray := prog_7_method_2_code
def yX8_compare_2 : MethodName := ⟨RX8, "compare", "(LKeptCurves$Fibre;LKeptCurves$Fibre;)I"⟩
def dkwX8_compare_2_1 : List UInt8 := [167, 0, 14, 43, 180, 0, 19, 44, 180, 0, 19, 184, 0, 13, 172]
abbrev dktX8_compare_2_1 : List UInt8 := dkwX8_compare_2_1 ++ []
def dkwX8_compare_2_0 : List UInt8 := [43, 180, 0, 7, 44, 180, 0, 7, 159, 0, 17, 44, 180, 0, 7, 43, 180, 0, 7, 184, 0, 13]
abbrev dktX8_compare_2_0 : List UInt8 := dkwX8_compare_2_0 ++ dktX8_compare_2_1
theorem dksX8_compare_2_0 : cX8_compare_2.data.toList.drop 0 = dktX8_compare_2_0 := by decide +kernel
theorem dksX8_compare_2_1 : cX8_compare_2.data.toList.drop 22 = dktX8_compare_2_1 := dk_seg dksX8_compare_2_0 22 rfl rfl
theorem dX8_compare_2_0 : decode cX8_compare_2 0 = .ok (.aload_n 1, 1) := dk_43 (dk_at dksX8_compare_2_0 0 rfl rfl)
theorem dX8_compare_2_1 : decode cX8_compare_2 1 = .ok (.getfield 7, 3) := dk_180 0 7 (dk_at dksX8_compare_2_0 1 rfl rfl)
theorem dX8_compare_2_4 : decode cX8_compare_2 4 = .ok (.aload_n 2, 1) := dk_44 (dk_at dksX8_compare_2_0 4 rfl rfl)
theorem dX8_compare_2_5 : decode cX8_compare_2 5 = .ok (.getfield 7, 3) := dk_180 0 7 (dk_at dksX8_compare_2_0 5 rfl rfl)
theorem dX8_compare_2_8 : decode cX8_compare_2 8 = .ok (.if_icmp .eq 17, 3) := dk_159 0 17 (dk_at dksX8_compare_2_0 8 rfl rfl)
theorem dX8_compare_2_11 : decode cX8_compare_2 11 = .ok (.aload_n 2, 1) := dk_44 (dk_at dksX8_compare_2_0 11 rfl rfl)
theorem dX8_compare_2_12 : decode cX8_compare_2 12 = .ok (.getfield 7, 3) := dk_180 0 7 (dk_at dksX8_compare_2_0 12 rfl rfl)
theorem dX8_compare_2_15 : decode cX8_compare_2 15 = .ok (.aload_n 1, 1) := dk_43 (dk_at dksX8_compare_2_0 15 rfl rfl)
theorem dX8_compare_2_16 : decode cX8_compare_2 16 = .ok (.getfield 7, 3) := dk_180 0 7 (dk_at dksX8_compare_2_0 16 rfl rfl)
theorem dX8_compare_2_19 : decode cX8_compare_2 19 = .ok (.invokestatic 13, 3) := dk_184 0 13 (dk_at dksX8_compare_2_0 19 rfl rfl)
theorem dX8_compare_2_22 : decode cX8_compare_2 22 = .ok (.goto 14, 3) := dk_167 0 14 (dk_at dksX8_compare_2_1 0 rfl rfl)
theorem dX8_compare_2_25 : decode cX8_compare_2 25 = .ok (.aload_n 1, 1) := dk_43 (dk_at dksX8_compare_2_1 3 rfl rfl)
theorem dX8_compare_2_26 : decode cX8_compare_2 26 = .ok (.getfield 19, 3) := dk_180 0 19 (dk_at dksX8_compare_2_1 4 rfl rfl)
theorem dX8_compare_2_29 : decode cX8_compare_2 29 = .ok (.aload_n 2, 1) := dk_44 (dk_at dksX8_compare_2_1 7 rfl rfl)
theorem dX8_compare_2_30 : decode cX8_compare_2 30 = .ok (.getfield 19, 3) := dk_180 0 19 (dk_at dksX8_compare_2_1 8 rfl rfl)
theorem dX8_compare_2_33 : decode cX8_compare_2 33 = .ok (.invokestatic 13, 3) := dk_184 0 13 (dk_at dksX8_compare_2_1 11 rfl rfl)
theorem dX8_compare_2_36 : decode cX8_compare_2 36 = .ok (.ireturn, 1) := dk_172 (dk_at dksX8_compare_2_1 14 rfl rfl)
theorem q93 : (Jvm.Cond.initialized "KeptCurves$Fuller") ∈ lw_all := lw_g (lw_at lw_m1 25 rfl) rfl
theorem q687 : (Jvm.Cond.fieldLinkNest "KeptCurves$Fuller" (19 : Nat) "KeptCurves$Fibre" "k" "I" "KeptCurves") ∈ lw_tbl := lw_at lw_m3 139 rfl
theorem q689 : (Jvm.Cond.fieldLinkNest "KeptCurves$Fuller" (7 : Nat) "KeptCurves$Fibre" "many" "I" "KeptCurves") ∈ lw_tbl := lw_at lw_m3 141 rfl
theorem q701 : (Jvm.Cond.instantiable "KeptCurves$Fuller" (0 : Nat)) ∈ lw_all := lw_g (lw_at lw_m3 153 rfl) rfl
theorem q703 : (Jvm.Cond.instanceMethod ({ cls := "KeptCurves$Fuller", name := "<init>", desc := "()V" } : Jvm.MethodName)) ∈ lw_all := lw_g (lw_at lw_m3 155 rfl) rfl
theorem q704 : (Jvm.Cond.code ({ cls := "KeptCurves$Fuller", name := "<init>", desc := "()V" } : Jvm.MethodName) prog_7_method_1_code (1 : Nat) (Option.none : Option Jvm.ClassFile.FieldType)) ∈ lw_all := lw_g (lw_at lw_m3 156 rfl) rfl
theorem q705 : (Jvm.Cond.methodLink "KeptCurves$Fuller" (1 : Nat) ({ cls := "java/lang/Object", name := "<init>", desc := "()V" } : Jvm.MethodName)) ∈ lw_all := lw_g (lw_at lw_m3 157 rfl) rfl
theorem q706 : (Jvm.Cond.superclass "KeptCurves$Fuller" "java/lang/Object") ∈ lw_all := lw_g (lw_at lw_m3 158 rfl) rfl
theorem q781 : (Jvm.Cond.selects "KeptCurves$Fuller" ({ cls := "java/lang/Object", name := "getClass", desc := "()Ljava/lang/Class;" } : Jvm.MethodName) ({ cls := "java/lang/Object", name := "getClass", desc := "()Ljava/lang/Class;" } : Jvm.MethodName)) ∈ lw_all := lw_g (lw_at lw_m3 233 rfl) rfl
theorem q823 : (Jvm.Cond.castable "KeptCurves$Fuller" "java/util/Comparator") ∈ lw_tbl := lw_at lw_m4 35 rfl
theorem q824 : (Jvm.Cond.selects "KeptCurves$Fuller" ({ cls := "java/util/Comparator", name := "compare", desc := "(Ljava/lang/Object;Ljava/lang/Object;)I" } : Jvm.MethodName) ({ cls := "KeptCurves$Fuller", name := "compare", desc := "(Ljava/lang/Object;Ljava/lang/Object;)I" } : Jvm.MethodName)) ∈ lw_all := lw_g (lw_at lw_m4 36 rfl) rfl
theorem q825 : (Jvm.Cond.unhidden "KeptCurves$Fuller" "compare" "(Ljava/lang/Object;Ljava/lang/Object;)I") ∈ lw_tbl := lw_at lw_m4 37 rfl
theorem q826 : (Jvm.Cond.instanceMethod ({ cls := "KeptCurves$Fuller", name := "compare", desc := "(Ljava/lang/Object;Ljava/lang/Object;)I" } : Jvm.MethodName)) ∈ lw_all := lw_g (lw_at lw_m4 38 rfl) rfl
theorem q827 : (Jvm.Cond.publicMethod ({ cls := "KeptCurves$Fuller", name := "compare", desc := "(Ljava/lang/Object;Ljava/lang/Object;)I" } : Jvm.MethodName)) ∈ lw_tbl := lw_at lw_m4 39 rfl
theorem q828 : (Jvm.Cond.code ({ cls := "KeptCurves$Fuller", name := "compare", desc := "(Ljava/lang/Object;Ljava/lang/Object;)I" } : Jvm.MethodName) prog_7_method_3_code (3 : Nat) (Option.some Jvm.ClassFile.FieldType.int)) ∈ lw_all := lw_g (lw_at lw_m4 40 rfl) rfl
theorem q829 : (Jvm.Cond.classLink "KeptCurves$Fuller" (8 : Nat) "KeptCurves$Fibre") ∈ lw_all := lw_g (lw_at lw_m4 41 rfl) rfl
theorem q830 : (Jvm.Cond.methodLink "KeptCurves$Fuller" (22 : Nat) ({ cls := "KeptCurves$Fuller", name := "compare", desc := "(LKeptCurves$Fibre;LKeptCurves$Fibre;)I" } : Jvm.MethodName)) ∈ lw_all := lw_g (lw_at lw_m4 42 rfl) rfl
theorem q831 : (Jvm.Cond.instanceMethod ({ cls := "KeptCurves$Fuller", name := "compare", desc := "(LKeptCurves$Fibre;LKeptCurves$Fibre;)I" } : Jvm.MethodName)) ∈ lw_all := lw_g (lw_at lw_m4 43 rfl) rfl
theorem q832 : (Jvm.Cond.selects "KeptCurves$Fuller" ({ cls := "KeptCurves$Fuller", name := "compare", desc := "(LKeptCurves$Fibre;LKeptCurves$Fibre;)I" } : Jvm.MethodName) ({ cls := "KeptCurves$Fuller", name := "compare", desc := "(LKeptCurves$Fibre;LKeptCurves$Fibre;)I" } : Jvm.MethodName)) ∈ lw_all := lw_g (lw_at lw_m4 44 rfl) rfl
theorem q833 : (Jvm.Cond.code ({ cls := "KeptCurves$Fuller", name := "compare", desc := "(LKeptCurves$Fibre;LKeptCurves$Fibre;)I" } : Jvm.MethodName) prog_7_method_2_code (3 : Nat) (Option.some Jvm.ClassFile.FieldType.int)) ∈ lw_all := lw_g (lw_at lw_m4 45 rfl) rfl
theorem q834 : (Jvm.Cond.methodLink "KeptCurves$Fuller" (13 : Nat) ({ cls := "java/lang/Integer", name := "compare", desc := "(II)I" } : Jvm.MethodName)) ∈ lw_all := lw_g (lw_at lw_m4 46 rfl) rfl
theorem q2375 : (Jvm.Cond.castable "KeptCurves$Fuller" "java/lang/Object") ∈ lw_tbl := lw_at lw_m10 147 rfl
/-! KeptCurves$Length -/
set_option maxRecDepth 100000
def RX9 : String := "KeptCurves$Length"
def TX9 : u_T := fun k => match k with
  | _ => ("KeptCurves$Length", "steps", "I", true)
def tyX9 : Nat → FieldType := fun k => match k with
  | _ => .int
abbrev wsX90 : List Cond := u_ws RX9 TX9 1
theorem nmX9 : ∀ a, a < 1 → ∀ b, b < 1 → a ≠ b → (TX9 a).2.1 ≠ (TX9 b).2.1 := by decide +kernel
theorem tyX9_ok : ∀ k, k < 1 → parseFieldDescriptor (TX9 k).2.2.1 = some (tyX9 k) := by decide +kernel
abbrev cX9_compareTo : ByteArray := prog_8_method_3_code
def yX9_compareTo : MethodName := ⟨RX9, "compareTo", "(Ljava/lang/Object;)I"⟩
def dkwX9_compareTo_0 : List UInt8 := [42, 43, 192, 0, 8, 182, 0, 19, 172]
abbrev dktX9_compareTo_0 : List UInt8 := dkwX9_compareTo_0 ++ []
theorem dksX9_compareTo_0 : cX9_compareTo.data.toList.drop 0 = dktX9_compareTo_0 := by decide +kernel
theorem dX9_compareTo_0 : decode cX9_compareTo 0 = .ok (.aload_n 0, 1) := dk_42 (dk_at dksX9_compareTo_0 0 rfl rfl)
theorem dX9_compareTo_1 : decode cX9_compareTo 1 = .ok (.aload_n 1, 1) := dk_43 (dk_at dksX9_compareTo_0 1 rfl rfl)
theorem dX9_compareTo_2 : decode cX9_compareTo 2 = .ok (.checkcast 8, 3) := dk_192 0 8 (dk_at dksX9_compareTo_0 2 rfl rfl)
theorem dX9_compareTo_5 : decode cX9_compareTo 5 = .ok (.invokevirtual 19, 3) := dk_182 0 19 (dk_at dksX9_compareTo_0 5 rfl rfl)
theorem dX9_compareTo_8 : decode cX9_compareTo 8 = .ok (.ireturn, 1) := dk_172 (dk_at dksX9_compareTo_0 8 rfl rfl)
abbrev cX9_compareTo_2 : ByteArray := prog_8_method_2_code
def yX9_compareTo_2 : MethodName := ⟨RX9, "compareTo", "(LKeptCurves$Length;)I"⟩
def dkwX9_compareTo_2_0 : List UInt8 := [42, 180, 0, 7, 43, 180, 0, 7, 184, 0, 13, 172]
abbrev dktX9_compareTo_2_0 : List UInt8 := dkwX9_compareTo_2_0 ++ []
theorem dksX9_compareTo_2_0 : cX9_compareTo_2.data.toList.drop 0 = dktX9_compareTo_2_0 := by decide +kernel
theorem dX9_compareTo_2_0 : decode cX9_compareTo_2 0 = .ok (.aload_n 0, 1) := dk_42 (dk_at dksX9_compareTo_2_0 0 rfl rfl)
theorem dX9_compareTo_2_1 : decode cX9_compareTo_2 1 = .ok (.getfield 7, 3) := dk_180 0 7 (dk_at dksX9_compareTo_2_0 1 rfl rfl)
theorem dX9_compareTo_2_4 : decode cX9_compareTo_2 4 = .ok (.aload_n 1, 1) := dk_43 (dk_at dksX9_compareTo_2_0 4 rfl rfl)
theorem dX9_compareTo_2_5 : decode cX9_compareTo_2 5 = .ok (.getfield 7, 3) := dk_180 0 7 (dk_at dksX9_compareTo_2_0 5 rfl rfl)
theorem dX9_compareTo_2_8 : decode cX9_compareTo_2 8 = .ok (.invokestatic 13, 3) := dk_184 0 13 (dk_at dksX9_compareTo_2_0 8 rfl rfl)
theorem dX9_compareTo_2_11 : decode cX9_compareTo_2 11 = .ok (.ireturn, 1) := dk_172 (dk_at dksX9_compareTo_2_0 11 rfl rfl)
abbrev cX9_init : ByteArray := prog_8_method_1_code
def yX9_init : MethodName := ⟨RX9, "<init>", "(I)V"⟩
def dkwX9_init_0 : List UInt8 := [42, 183, 0, 1, 42, 27, 181, 0, 7, 177]
abbrev dktX9_init_0 : List UInt8 := dkwX9_init_0 ++ []
theorem dksX9_init_0 : cX9_init.data.toList.drop 0 = dktX9_init_0 := by decide +kernel
theorem dX9_init_0 : decode cX9_init 0 = .ok (.aload_n 0, 1) := dk_42 (dk_at dksX9_init_0 0 rfl rfl)
theorem dX9_init_1 : decode cX9_init 1 = .ok (.invokespecial 1, 3) := dk_183 0 1 (dk_at dksX9_init_0 1 rfl rfl)
theorem dX9_init_4 : decode cX9_init 4 = .ok (.aload_n 0, 1) := dk_42 (dk_at dksX9_init_0 4 rfl rfl)
theorem dX9_init_5 : decode cX9_init 5 = .ok (.iload_n 1, 1) := dk_27 (dk_at dksX9_init_0 5 rfl rfl)
theorem dX9_init_6 : decode cX9_init 6 = .ok (.putfield 7, 3) := dk_181 0 7 (dk_at dksX9_init_0 6 rfl rfl)
theorem dX9_init_9 : decode cX9_init 9 = .ok (.return_, 1) := dk_177 (dk_at dksX9_init_0 9 rfl rfl)
theorem q105 : (Jvm.Cond.initialized "KeptCurves$Length") ∈ lw_all := lw_g (lw_at lw_m1 37 rfl) rfl
theorem q782 : (Jvm.Cond.selects "KeptCurves$Length" ({ cls := "java/lang/Object", name := "getClass", desc := "()Ljava/lang/Class;" } : Jvm.MethodName) ({ cls := "java/lang/Object", name := "getClass", desc := "()Ljava/lang/Class;" } : Jvm.MethodName)) ∈ lw_all := lw_g (lw_at lw_m3 234 rfl) rfl
theorem q845 : (Jvm.Cond.castable "KeptCurves$Length" "java/lang/Comparable") ∈ lw_tbl := lw_at lw_m4 57 rfl
theorem q846 : (Jvm.Cond.selects "KeptCurves$Length" ({ cls := "java/lang/Comparable", name := "compareTo", desc := "(Ljava/lang/Object;)I" } : Jvm.MethodName) ({ cls := "KeptCurves$Length", name := "compareTo", desc := "(Ljava/lang/Object;)I" } : Jvm.MethodName)) ∈ lw_all := lw_g (lw_at lw_m4 58 rfl) rfl
theorem q847 : (Jvm.Cond.unhidden "KeptCurves$Length" "compareTo" "(Ljava/lang/Object;)I") ∈ lw_tbl := lw_at lw_m4 59 rfl
theorem q848 : (Jvm.Cond.instanceMethod ({ cls := "KeptCurves$Length", name := "compareTo", desc := "(Ljava/lang/Object;)I" } : Jvm.MethodName)) ∈ lw_all := lw_g (lw_at lw_m4 60 rfl) rfl
theorem q849 : (Jvm.Cond.publicMethod ({ cls := "KeptCurves$Length", name := "compareTo", desc := "(Ljava/lang/Object;)I" } : Jvm.MethodName)) ∈ lw_tbl := lw_at lw_m4 61 rfl
theorem q850 : (Jvm.Cond.code ({ cls := "KeptCurves$Length", name := "compareTo", desc := "(Ljava/lang/Object;)I" } : Jvm.MethodName) prog_8_method_3_code (2 : Nat) (Option.some Jvm.ClassFile.FieldType.int)) ∈ lw_all := lw_g (lw_at lw_m4 62 rfl) rfl
theorem q851 : (Jvm.Cond.classLink "KeptCurves$Length" (8 : Nat) "KeptCurves$Length") ∈ lw_all := lw_g (lw_at lw_m4 63 rfl) rfl
theorem q852 : (Jvm.Cond.methodLink "KeptCurves$Length" (19 : Nat) ({ cls := "KeptCurves$Length", name := "compareTo", desc := "(LKeptCurves$Length;)I" } : Jvm.MethodName)) ∈ lw_all := lw_g (lw_at lw_m4 64 rfl) rfl
theorem q853 : (Jvm.Cond.instanceMethod ({ cls := "KeptCurves$Length", name := "compareTo", desc := "(LKeptCurves$Length;)I" } : Jvm.MethodName)) ∈ lw_all := lw_g (lw_at lw_m4 65 rfl) rfl
theorem q854 : (Jvm.Cond.selects "KeptCurves$Length" ({ cls := "KeptCurves$Length", name := "compareTo", desc := "(LKeptCurves$Length;)I" } : Jvm.MethodName) ({ cls := "KeptCurves$Length", name := "compareTo", desc := "(LKeptCurves$Length;)I" } : Jvm.MethodName)) ∈ lw_all := lw_g (lw_at lw_m4 66 rfl) rfl
theorem q855 : (Jvm.Cond.code ({ cls := "KeptCurves$Length", name := "compareTo", desc := "(LKeptCurves$Length;)I" } : Jvm.MethodName) prog_8_method_2_code (2 : Nat) (Option.some Jvm.ClassFile.FieldType.int)) ∈ lw_all := lw_g (lw_at lw_m4 67 rfl) rfl
theorem q856 : (Jvm.Cond.methodLink "KeptCurves$Length" (13 : Nat) ({ cls := "java/lang/Integer", name := "compare", desc := "(II)I" } : Jvm.MethodName)) ∈ lw_all := lw_g (lw_at lw_m4 68 rfl) rfl
theorem q1111 : (Jvm.Cond.instantiable "KeptCurves$Length" (1 : Nat)) ∈ lw_all := lw_g (lw_at lw_m5 83 rfl) rfl
theorem q1113 : (Jvm.Cond.instanceMethod ({ cls := "KeptCurves$Length", name := "<init>", desc := "(I)V" } : Jvm.MethodName)) ∈ lw_all := lw_g (lw_at lw_m5 85 rfl) rfl
theorem q1114 : (Jvm.Cond.code ({ cls := "KeptCurves$Length", name := "<init>", desc := "(I)V" } : Jvm.MethodName) prog_8_method_1_code (2 : Nat) (Option.none : Option Jvm.ClassFile.FieldType)) ∈ lw_all := lw_g (lw_at lw_m5 86 rfl) rfl
theorem q1115 : (Jvm.Cond.methodLink "KeptCurves$Length" (1 : Nat) ({ cls := "java/lang/Object", name := "<init>", desc := "()V" } : Jvm.MethodName)) ∈ lw_all := lw_g (lw_at lw_m5 87 rfl) rfl
theorem q1116 : (Jvm.Cond.fieldLink "KeptCurves$Length" (7 : Nat) "KeptCurves$Length" "steps" "I") ∈ lw_all := lw_g (lw_at lw_m5 88 rfl) rfl
theorem q1118 : (Jvm.Cond.laysFinal "KeptCurves$Length" "KeptCurves$Length" "steps" "I") ∈ lw_all := lw_g (lw_at lw_m5 90 rfl) rfl
theorem q1119 : (Jvm.Cond.soleField "KeptCurves$Length" "steps") ∈ lw_all := lw_g (lw_at lw_m5 91 rfl) rfl
theorem q1120 : (Jvm.Cond.superclass "KeptCurves$Length" "java/lang/Object") ∈ lw_all := lw_g (lw_at lw_m5 92 rfl) rfl
theorem q2378 : (Jvm.Cond.castable "KeptCurves$Length" "java/lang/Object") ∈ lw_tbl := lw_at lw_m10 150 rfl
theorem in_X9 : ∀ w ∈ wsX90, w ∈ lw_all := lw_in wsX90 [1118] (by decide +kernel) (by decide +kernel)
theorem q68 : (Jvm.Cond.initialized "KeptCurvesLaw") ∈ lw_all := lw_g (lw_at lw_m1 0 rfl) rfl
set_option maxRecDepth 100000
theorem q117 : (Jvm.Cond.classLink "KeptCurvesLaw" (7 : Nat) "KeptCurves") ∈ lw_all := lw_g (lw_at lw_m1 49 rfl) rfl
theorem q119 : (Jvm.Cond.methodLink "KeptCurvesLaw" (9 : Nat) ({ cls := "KeptCurves", name := "<init>", desc := "()V" } : Jvm.MethodName)) ∈ lw_all := lw_g (lw_at lw_m1 51 rfl) rfl
theorem q484 : (Jvm.Cond.methodLink "KeptCurvesLaw" (13 : Nat) ({ cls := "KeptCurves", name := "set", desc := "(IIII)I" } : Jvm.MethodName)) ∈ lw_all := lw_g (lw_at lw_m2 176 rfl) rfl
theorem q505 : (Jvm.Cond.methodLink "KeptCurvesLaw" (18 : Nat) ({ cls := "KeptCurves", name := "of", desc := "(III)I" } : Jvm.MethodName)) ∈ lw_all := lw_g (lw_at lw_m2 197 rfl) rfl
theorem q509 : (Jvm.Cond.methodLink "KeptCurvesLaw" (23 : Nat) ({ cls := "KeptCurves", name := "feed", desc := "(I)I" } : Jvm.MethodName)) ∈ lw_all := lw_g (lw_at lw_m2 201 rfl) rfl
theorem q514 : (Jvm.Cond.methodLink "KeptCurvesLaw" (28 : Nat) ({ cls := "KeptCurves", name := "table", desc := "(I)I" } : Jvm.MethodName)) ∈ lw_all := lw_g (lw_at lw_m2 206 rfl) rfl
theorem q587 : (Jvm.Cond.methodLink "KeptCurvesLaw" (32 : Nat) ({ cls := "KeptCurves", name := "value", desc := "(III)I" } : Jvm.MethodName)) ∈ lw_all := lw_g (lw_at lw_m3 39 rfl) rfl
theorem q602 : (Jvm.Cond.methodLink "KeptCurvesLaw" (36 : Nat) ({ cls := "KeptCurves", name := "kept", desc := "(II)I" } : Jvm.MethodName)) ∈ lw_all := lw_g (lw_at lw_m3 54 rfl) rfl
theorem q610 : (Jvm.Cond.methodLink "KeptCurvesLaw" (41 : Nat) ({ cls := "KeptCurves", name := "swap", desc := "(III)I" } : Jvm.MethodName)) ∈ lw_all := lw_g (lw_at lw_m3 62 rfl) rfl
theorem q617 : (Jvm.Cond.methodLink "KeptCurvesLaw" (45 : Nat) ({ cls := "KeptCurves", name := "row", desc := "(III)I" } : Jvm.MethodName)) ∈ lw_all := lw_g (lw_at lw_m3 69 rfl) rfl
theorem q621 : (Jvm.Cond.methodLink "KeptCurvesLaw" (49 : Nat) ({ cls := "KeptCurves", name := "pinched", desc := "(I)J" } : Jvm.MethodName)) ∈ lw_all := lw_g (lw_at lw_m3 73 rfl) rfl
theorem q626 : (Jvm.Cond.methodLink "KeptCurvesLaw" (54 : Nat) ({ cls := "KeptCurves", name := "behind", desc := "(III)I" } : Jvm.MethodName)) ∈ lw_all := lw_g (lw_at lw_m3 78 rfl) rfl
theorem q635 : (Jvm.Cond.methodLink "KeptCurvesLaw" (58 : Nat) ({ cls := "KeptCurves", name := "period", desc := "(II)I" } : Jvm.MethodName)) ∈ lw_all := lw_g (lw_at lw_m3 87 rfl) rfl
theorem q644 : (Jvm.Cond.methodLink "KeptCurvesLaw" (62 : Nat) ({ cls := "KeptCurves", name := "fibre", desc := "(II)I" } : Jvm.MethodName)) ∈ lw_all := lw_g (lw_at lw_m3 96 rfl) rfl
theorem q671 : (Jvm.Cond.methodLink "KeptCurvesLaw" (66 : Nat) ({ cls := "KeptCurves", name := "base", desc := "(I)I" } : Jvm.MethodName)) ∈ lw_all := lw_g (lw_at lw_m3 123 rfl) rfl
theorem q675 : (Jvm.Cond.methodLink "KeptCurvesLaw" (70 : Nat) ({ cls := "KeptCurves", name := "rank", desc := "(I)I" } : Jvm.MethodName)) ∈ lw_all := lw_g (lw_at lw_m3 127 rfl) rfl
theorem q1092 : (Jvm.Cond.methodLink "KeptCurvesLaw" (74 : Nat) ({ cls := "KeptCurves", name := "cycles", desc := "(II)I" } : Jvm.MethodName)) ∈ lw_all := lw_g (lw_at lw_m5 64 rfl) rfl
theorem q1414 : (Jvm.Cond.methodLink "KeptCurvesLaw" (78 : Nat) ({ cls := "KeptCurves", name := "degree", desc := "(III)I" } : Jvm.MethodName)) ∈ lw_all := lw_g (lw_at lw_m6 146 rfl) rfl
theorem q1481 : (Jvm.Cond.methodLink "KeptCurvesLaw" (82 : Nat) ({ cls := "KeptCurves", name := "tell", desc := "(II)I" } : Jvm.MethodName)) ∈ lw_all := lw_g (lw_at lw_m6 213 rfl) rfl
theorem q1530 : (Jvm.Cond.methodLink "KeptCurvesLaw" (86 : Nat) ({ cls := "KeptCurves", name := "forget", desc := "(II)I" } : Jvm.MethodName)) ∈ lw_all := lw_g (lw_at lw_m7 22 rfl) rfl
theorem q1555 : (Jvm.Cond.methodLink "KeptCurvesLaw" (90 : Nat) ({ cls := "KeptCurves", name := "told", desc := "(I)I" } : Jvm.MethodName)) ∈ lw_all := lw_g (lw_at lw_m7 47 rfl) rfl
theorem q1563 : (Jvm.Cond.methodLink "KeptCurvesLaw" (94 : Nat) ({ cls := "KeptCurves", name := "moved", desc := "(I)I" } : Jvm.MethodName)) ∈ lw_all := lw_g (lw_at lw_m7 55 rfl) rfl
theorem q1573 : (Jvm.Cond.methodLink "KeptCurvesLaw" (98 : Nat) ({ cls := "KeptCurves", name := "move", desc := "()I" } : Jvm.MethodName)) ∈ lw_all := lw_g (lw_at lw_m7 65 rfl) rfl
theorem q1600 : (Jvm.Cond.methodLink "KeptCurvesLaw" (103 : Nat) ({ cls := "KeptCurves", name := "grows", desc := "(I)I" } : Jvm.MethodName)) ∈ lw_all := lw_g (lw_at lw_m7 92 rfl) rfl
theorem q1609 : (Jvm.Cond.methodLink "KeptCurvesLaw" (107 : Nat) ({ cls := "KeptCurves", name := "were", desc := "(IIIIII)J" } : Jvm.MethodName)) ∈ lw_all := lw_g (lw_at lw_m7 101 rfl) rfl
theorem q1613 : (Jvm.Cond.methodLink "KeptCurvesLaw" (112 : Nat) ({ cls := "KeptCurves", name := "odds", desc := "(IIII)J" } : Jvm.MethodName)) ∈ lw_all := lw_g (lw_at lw_m7 105 rfl) rfl
theorem q1621 : (Jvm.Cond.methodLink "KeptCurvesLaw" (117 : Nat) ({ cls := "KeptCurves", name := "plan", desc := "(II)I" } : Jvm.MethodName)) ∈ lw_all := lw_g (lw_at lw_m7 113 rfl) rfl
theorem q1629 : (Jvm.Cond.methodLink "KeptCurvesLaw" (121 : Nat) ({ cls := "KeptCurves", name := "ends", desc := "(II)I" } : Jvm.MethodName)) ∈ lw_all := lw_g (lw_at lw_m7 121 rfl) rfl
theorem q1637 : (Jvm.Cond.methodLink "KeptCurvesLaw" (125 : Nat) ({ cls := "KeptCurves", name := "write", desc := "(I)I" } : Jvm.MethodName)) ∈ lw_all := lw_g (lw_at lw_m7 129 rfl) rfl
theorem q1884 : (Jvm.Cond.methodLink "KeptCurvesLaw" (129 : Nat) ({ cls := "KeptCurves", name := "paper", desc := "(I)I" } : Jvm.MethodName)) ∈ lw_all := lw_g (lw_at lw_m8 136 rfl) rfl
theorem q1898 : (Jvm.Cond.methodLink "KeptCurvesLaw" (133 : Nat) ({ cls := "KeptCurves", name := "judge", desc := "(III)I" } : Jvm.MethodName)) ∈ lw_all := lw_g (lw_at lw_m8 150 rfl) rfl
theorem q1910 : (Jvm.Cond.methodLink "KeptCurvesLaw" (137 : Nat) ({ cls := "KeptCurves", name := "list", desc := "(II)I" } : Jvm.MethodName)) ∈ lw_all := lw_g (lw_at lw_m8 162 rfl) rfl
theorem q1918 : (Jvm.Cond.methodLink "KeptCurvesLaw" (141 : Nat) ({ cls := "KeptCurves", name := "put", desc := "(III)I" } : Jvm.MethodName)) ∈ lw_all := lw_g (lw_at lw_m8 170 rfl) rfl
theorem q1925 : (Jvm.Cond.methodLink "KeptCurvesLaw" (145 : Nat) ({ cls := "KeptCurves", name := "get", desc := "(II)J" } : Jvm.MethodName)) ∈ lw_all := lw_g (lw_at lw_m8 177 rfl) rfl
theorem q1929 : (Jvm.Cond.methodLink "KeptCurvesLaw" (150 : Nat) ({ cls := "KeptCurves", name := "image", desc := "()I" } : Jvm.MethodName)) ∈ lw_all := lw_g (lw_at lw_m8 181 rfl) rfl
theorem q1939 : (Jvm.Cond.methodLink "KeptCurvesLaw" (154 : Nat) ({ cls := "KeptCurves", name := "undo", desc := "()I" } : Jvm.MethodName)) ∈ lw_all := lw_g (lw_at lw_m8 191 rfl) rfl
theorem q1943 : (Jvm.Cond.methodLink "KeptCurvesLaw" (158 : Nat) ({ cls := "KeptCurves", name := "count", desc := "(I)I" } : Jvm.MethodName)) ∈ lw_all := lw_g (lw_at lw_m8 195 rfl) rfl
theorem q1951 : (Jvm.Cond.classLink "KeptCurvesLaw" (10 : Nat) "KeptCurvesModel") ∈ lw_all := lw_g (lw_at lw_m8 203 rfl) rfl
theorem q1953 : (Jvm.Cond.methodLink "KeptCurvesLaw" (12 : Nat) ({ cls := "KeptCurvesModel", name := "<init>", desc := "()V" } : Jvm.MethodName)) ∈ lw_all := lw_g (lw_at lw_m8 205 rfl) rfl
theorem q2049 : (Jvm.Cond.methodLink "KeptCurvesLaw" (17 : Nat) ({ cls := "KeptCurvesModel", name := "set", desc := "(IIII)I" } : Jvm.MethodName)) ∈ lw_all := lw_g (lw_at lw_m9 61 rfl) rfl
theorem q2064 : (Jvm.Cond.methodLink "KeptCurvesLaw" (22 : Nat) ({ cls := "KeptCurvesModel", name := "of", desc := "(III)I" } : Jvm.MethodName)) ∈ lw_all := lw_g (lw_at lw_m9 76 rfl) rfl
theorem q2068 : (Jvm.Cond.methodLink "KeptCurvesLaw" (35 : Nat) ({ cls := "KeptCurvesModel", name := "value", desc := "(III)I" } : Jvm.MethodName)) ∈ lw_all := lw_g (lw_at lw_m9 80 rfl) rfl
theorem q2086 : (Jvm.Cond.methodLink "KeptCurvesLaw" (40 : Nat) ({ cls := "KeptCurvesModel", name := "kept", desc := "(II)I" } : Jvm.MethodName)) ∈ lw_all := lw_g (lw_at lw_m9 98 rfl) rfl
theorem q2100 : (Jvm.Cond.methodLink "KeptCurvesLaw" (48 : Nat) ({ cls := "KeptCurvesModel", name := "row", desc := "(III)I" } : Jvm.MethodName)) ∈ lw_all := lw_g (lw_at lw_m9 112 rfl) rfl
theorem q2115 : (Jvm.Cond.methodLink "KeptCurvesLaw" (44 : Nat) ({ cls := "KeptCurvesModel", name := "swap", desc := "(III)I" } : Jvm.MethodName)) ∈ lw_all := lw_g (lw_at lw_m9 127 rfl) rfl
theorem q2123 : (Jvm.Cond.methodLink "KeptCurvesLaw" (53 : Nat) ({ cls := "KeptCurvesModel", name := "pinched", desc := "(I)J" } : Jvm.MethodName)) ∈ lw_all := lw_g (lw_at lw_m9 135 rfl) rfl
theorem q2128 : (Jvm.Cond.methodLink "KeptCurvesLaw" (57 : Nat) ({ cls := "KeptCurvesModel", name := "behind", desc := "(III)I" } : Jvm.MethodName)) ∈ lw_all := lw_g (lw_at lw_m9 140 rfl) rfl
theorem q2142 : (Jvm.Cond.methodLink "KeptCurvesLaw" (61 : Nat) ({ cls := "KeptCurvesModel", name := "period", desc := "(II)I" } : Jvm.MethodName)) ∈ lw_all := lw_g (lw_at lw_m9 154 rfl) rfl
theorem q2146 : (Jvm.Cond.methodLink "KeptCurvesLaw" (65 : Nat) ({ cls := "KeptCurvesModel", name := "fibre", desc := "(II)I" } : Jvm.MethodName)) ∈ lw_all := lw_g (lw_at lw_m9 158 rfl) rfl
theorem q2158 : (Jvm.Cond.methodLink "KeptCurvesLaw" (69 : Nat) ({ cls := "KeptCurvesModel", name := "base", desc := "(I)I" } : Jvm.MethodName)) ∈ lw_all := lw_g (lw_at lw_m9 170 rfl) rfl
theorem q2162 : (Jvm.Cond.methodLink "KeptCurvesLaw" (73 : Nat) ({ cls := "KeptCurvesModel", name := "rank", desc := "(I)I" } : Jvm.MethodName)) ∈ lw_all := lw_g (lw_at lw_m9 174 rfl) rfl
theorem q2166 : (Jvm.Cond.methodLink "KeptCurvesLaw" (77 : Nat) ({ cls := "KeptCurvesModel", name := "cycles", desc := "(II)I" } : Jvm.MethodName)) ∈ lw_all := lw_g (lw_at lw_m9 178 rfl) rfl
theorem q2180 : (Jvm.Cond.methodLink "KeptCurvesLaw" (81 : Nat) ({ cls := "KeptCurvesModel", name := "degree", desc := "(III)I" } : Jvm.MethodName)) ∈ lw_all := lw_g (lw_at lw_m9 192 rfl) rfl
theorem q2219 : (Jvm.Cond.methodLink "KeptCurvesLaw" (85 : Nat) ({ cls := "KeptCurvesModel", name := "tell", desc := "(II)I" } : Jvm.MethodName)) ∈ lw_all := lw_g (lw_at lw_m9 231 rfl) rfl
theorem q2231 : (Jvm.Cond.methodLink "KeptCurvesLaw" (89 : Nat) ({ cls := "KeptCurvesModel", name := "forget", desc := "(II)I" } : Jvm.MethodName)) ∈ lw_all := lw_g (lw_at lw_m10 3 rfl) rfl
theorem q2235 : (Jvm.Cond.methodLink "KeptCurvesLaw" (93 : Nat) ({ cls := "KeptCurvesModel", name := "told", desc := "(I)I" } : Jvm.MethodName)) ∈ lw_all := lw_g (lw_at lw_m10 7 rfl) rfl
theorem q2239 : (Jvm.Cond.methodLink "KeptCurvesLaw" (97 : Nat) ({ cls := "KeptCurvesModel", name := "moved", desc := "(I)I" } : Jvm.MethodName)) ∈ lw_all := lw_g (lw_at lw_m10 11 rfl) rfl
theorem q2247 : (Jvm.Cond.methodLink "KeptCurvesLaw" (102 : Nat) ({ cls := "KeptCurvesModel", name := "move", desc := "()I" } : Jvm.MethodName)) ∈ lw_all := lw_g (lw_at lw_m10 19 rfl) rfl
theorem q2251 : (Jvm.Cond.methodLink "KeptCurvesLaw" (106 : Nat) ({ cls := "KeptCurvesModel", name := "grows", desc := "(I)I" } : Jvm.MethodName)) ∈ lw_all := lw_g (lw_at lw_m10 23 rfl) rfl
theorem q2256 : (Jvm.Cond.methodLink "KeptCurvesLaw" (111 : Nat) ({ cls := "KeptCurvesModel", name := "were", desc := "(IIIIII)J" } : Jvm.MethodName)) ∈ lw_all := lw_g (lw_at lw_m10 28 rfl) rfl
theorem q2260 : (Jvm.Cond.methodLink "KeptCurvesLaw" (116 : Nat) ({ cls := "KeptCurvesModel", name := "odds", desc := "(IIII)J" } : Jvm.MethodName)) ∈ lw_all := lw_g (lw_at lw_m10 32 rfl) rfl
theorem q2268 : (Jvm.Cond.methodLink "KeptCurvesLaw" (120 : Nat) ({ cls := "KeptCurvesModel", name := "plan", desc := "(II)I" } : Jvm.MethodName)) ∈ lw_all := lw_g (lw_at lw_m10 40 rfl) rfl
theorem q2273 : (Jvm.Cond.methodLink "KeptCurvesLaw" (124 : Nat) ({ cls := "KeptCurvesModel", name := "ends", desc := "(II)I" } : Jvm.MethodName)) ∈ lw_all := lw_g (lw_at lw_m10 45 rfl) rfl
theorem q2277 : (Jvm.Cond.methodLink "KeptCurvesLaw" (27 : Nat) ({ cls := "KeptCurvesModel", name := "feed", desc := "(I)I" } : Jvm.MethodName)) ∈ lw_all := lw_g (lw_at lw_m10 49 rfl) rfl
theorem q2282 : (Jvm.Cond.methodLink "KeptCurvesLaw" (31 : Nat) ({ cls := "KeptCurvesModel", name := "table", desc := "(I)I" } : Jvm.MethodName)) ∈ lw_all := lw_g (lw_at lw_m10 54 rfl) rfl
theorem q2301 : (Jvm.Cond.methodLink "KeptCurvesLaw" (128 : Nat) ({ cls := "KeptCurvesModel", name := "write", desc := "(I)I" } : Jvm.MethodName)) ∈ lw_all := lw_g (lw_at lw_m10 73 rfl) rfl
theorem q2309 : (Jvm.Cond.methodLink "KeptCurvesLaw" (132 : Nat) ({ cls := "KeptCurvesModel", name := "paper", desc := "(I)I" } : Jvm.MethodName)) ∈ lw_all := lw_g (lw_at lw_m10 81 rfl) rfl
theorem q2313 : (Jvm.Cond.methodLink "KeptCurvesLaw" (136 : Nat) ({ cls := "KeptCurvesModel", name := "judge", desc := "(III)I" } : Jvm.MethodName)) ∈ lw_all := lw_g (lw_at lw_m10 85 rfl) rfl
theorem q2320 : (Jvm.Cond.methodLink "KeptCurvesLaw" (140 : Nat) ({ cls := "KeptCurvesModel", name := "list", desc := "(II)I" } : Jvm.MethodName)) ∈ lw_all := lw_g (lw_at lw_m10 92 rfl) rfl
theorem q2324 : (Jvm.Cond.methodLink "KeptCurvesLaw" (144 : Nat) ({ cls := "KeptCurvesModel", name := "put", desc := "(III)I" } : Jvm.MethodName)) ∈ lw_all := lw_g (lw_at lw_m10 96 rfl) rfl
theorem q2328 : (Jvm.Cond.methodLink "KeptCurvesLaw" (149 : Nat) ({ cls := "KeptCurvesModel", name := "get", desc := "(II)J" } : Jvm.MethodName)) ∈ lw_all := lw_g (lw_at lw_m10 100 rfl) rfl
theorem q2332 : (Jvm.Cond.methodLink "KeptCurvesLaw" (153 : Nat) ({ cls := "KeptCurvesModel", name := "image", desc := "()I" } : Jvm.MethodName)) ∈ lw_all := lw_g (lw_at lw_m10 104 rfl) rfl
theorem q2336 : (Jvm.Cond.methodLink "KeptCurvesLaw" (157 : Nat) ({ cls := "KeptCurvesModel", name := "undo", desc := "()I" } : Jvm.MethodName)) ∈ lw_all := lw_g (lw_at lw_m10 108 rfl) rfl
theorem q2340 : (Jvm.Cond.methodLink "KeptCurvesLaw" (161 : Nat) ({ cls := "KeptCurvesModel", name := "count", desc := "(I)I" } : Jvm.MethodName)) ∈ lw_all := lw_g (lw_at lw_m10 112 rfl) rfl
theorem q1635 : (Jvm.Cond.interfaceMethod "KeptCurves$Act" "KeptCurves$Act" "does" "(II)I") ∈ lw_tbl := lw_at lw_m7 127 rfl
set_option maxRecDepth 100000
theorem q1636 : (Jvm.Cond.declares ({ cls := "KeptCurves$Act", name := "does", desc := "(II)I" } : Jvm.MethodName)) ∈ lw_tbl := lw_at lw_m7 128 rfl
theorem q2360 : (Jvm.Cond.castable "KeptCurves$Act" "java/lang/Object") ∈ lw_tbl := lw_at lw_m10 132 rfl
theorem q665 : (Jvm.Cond.interfaceMethod "KeptCurves$Looks" "KeptCurves$Looks" "looks" "(II)V") ∈ lw_tbl := lw_at lw_m3 117 rfl
set_option maxRecDepth 100000
theorem q666 : (Jvm.Cond.declares ({ cls := "KeptCurves$Looks", name := "looks", desc := "(II)V" } : Jvm.MethodName)) ∈ lw_tbl := lw_at lw_m3 118 rfl
theorem q401 : (Jvm.Cond.interfaceMethod "KeptCurves$Turn" "KeptCurves$Turn" "turns" "(I)I") ∈ lw_tbl := lw_at lw_m2 93 rfl
set_option maxRecDepth 100000
theorem q402 : (Jvm.Cond.declares ({ cls := "KeptCurves$Turn", name := "turns", desc := "(I)I" } : Jvm.MethodName)) ∈ lw_tbl := lw_at lw_m2 94 rfl
theorem q2361 : (Jvm.Cond.castable "KeptCurves$Turn" "java/lang/Object") ∈ lw_tbl := lw_at lw_m10 133 rfl
theorem q1662 : (Jvm.Cond.sameMethod "[B" "java/lang/Object" "clone" "()Ljava/lang/Object;") ∈ lw_all := lw_g (lw_at lw_m7 154 rfl) rfl
set_option maxRecDepth 100000
theorem q1665 : (Jvm.Cond.selects "[B" ({ cls := "[B", name := "clone", desc := "()Ljava/lang/Object;" } : Jvm.MethodName) ({ cls := "java/lang/Object", name := "clone", desc := "()Ljava/lang/Object;" } : Jvm.MethodName)) ∈ lw_all := lw_g (lw_at lw_m7 157 rfl) rfl
theorem q1666 : (Jvm.Cond.castable "[B" "java/lang/Cloneable") ∈ lw_tbl := lw_at lw_m7 158 rfl
theorem q2396 : (Jvm.Cond.castable "[B" "java/lang/Object") ∈ lw_tbl := lw_at lw_m10 168 rfl
theorem q2392 : (Jvm.Cond.castable "[I" "java/lang/Object") ∈ lw_tbl := lw_at lw_m10 164 rfl
set_option maxRecDepth 100000
theorem q2393 : (Jvm.Cond.castable "[LKeptCurves$Act;" "java/lang/Object") ∈ lw_tbl := lw_at lw_m10 165 rfl
set_option maxRecDepth 100000
theorem q2400 : (Jvm.Cond.castable "[LKeptCurves$Fibre;" "java/lang/Object") ∈ lw_tbl := lw_at lw_m10 172 rfl
set_option maxRecDepth 100000
theorem q2395 : (Jvm.Cond.castable "[LKeptCurves$Fraction;" "java/lang/Object") ∈ lw_tbl := lw_at lw_m10 167 rfl
set_option maxRecDepth 100000
theorem q2398 : (Jvm.Cond.castable "[LKeptCurves$Poly;" "java/lang/Object") ∈ lw_tbl := lw_at lw_m10 170 rfl
set_option maxRecDepth 100000
theorem q2394 : (Jvm.Cond.castable "[LKeptCurves$Turn;" "java/lang/Object") ∈ lw_tbl := lw_at lw_m10 166 rfl
set_option maxRecDepth 100000
theorem q2389 : (Jvm.Cond.sameMethod "[Ljava/lang/Object;" "java/lang/Object" "getClass" "()Ljava/lang/Class;") ∈ lw_all := lw_g (lw_at lw_m10 161 rfl) rfl
set_option maxRecDepth 100000
theorem q2390 : (Jvm.Cond.selects "[Ljava/lang/Object;" ({ cls := "java/lang/Object", name := "getClass", desc := "()Ljava/lang/Class;" } : Jvm.MethodName) ({ cls := "java/lang/Object", name := "getClass", desc := "()Ljava/lang/Class;" } : Jvm.MethodName)) ∈ lw_all := lw_g (lw_at lw_m10 162 rfl) rfl
theorem q2401 : (Jvm.Cond.castable "[Ljava/lang/Object;" "java/lang/Object") ∈ lw_tbl := lw_at lw_m10 173 rfl
theorem q2397 : (Jvm.Cond.castable "[Z" "java/lang/Object") ∈ lw_tbl := lw_at lw_m10 169 rfl
set_option maxRecDepth 100000
theorem q2399 : (Jvm.Cond.castable "[[I" "java/lang/Object") ∈ lw_tbl := lw_at lw_m10 171 rfl
set_option maxRecDepth 100000
theorem q843 : (Jvm.Cond.interfaceMethod "java/lang/Comparable" "java/lang/Comparable" "compareTo" "(Ljava/lang/Object;)I") ∈ lw_tbl := lw_at lw_m4 55 rfl
set_option maxRecDepth 100000
theorem q844 : (Jvm.Cond.declares ({ cls := "java/lang/Comparable", name := "compareTo", desc := "(Ljava/lang/Object;)I" } : Jvm.MethodName)) ∈ lw_tbl := lw_at lw_m4 56 rfl
theorem q98 : (Jvm.Cond.initialized "java/lang/Number") ∈ lw_all := lw_g (lw_at lw_m1 30 rfl) rfl
set_option maxRecDepth 100000
theorem q89 : (Jvm.Cond.initialized "java/lang/System") ∈ lw_all := lw_g (lw_at lw_m1 21 rfl) rfl
set_option maxRecDepth 100000
theorem q585 : (Jvm.Cond.static ({ cls := "java/lang/System", name := "arraycopy", desc := "(Ljava/lang/Object;ILjava/lang/Object;II)V" } : Jvm.MethodName)) ∈ lw_all := lw_g (lw_at lw_m3 37 rfl) rfl
theorem q586 : (Jvm.Cond.native ({ cls := "java/lang/System", name := "arraycopy", desc := "(Ljava/lang/Object;ILjava/lang/Object;II)V" } : Jvm.MethodName)) ∈ lw_all := lw_g (lw_at lw_m3 38 rfl) rfl
theorem q821 : (Jvm.Cond.interfaceMethod "java/util/Comparator" "java/util/Comparator" "compare" "(Ljava/lang/Object;Ljava/lang/Object;)I") ∈ lw_tbl := lw_at lw_m4 33 rfl
set_option maxRecDepth 100000
theorem q822 : (Jvm.Cond.declares ({ cls := "java/util/Comparator", name := "compare", desc := "(Ljava/lang/Object;Ljava/lang/Object;)I" } : Jvm.MethodName)) ∈ lw_tbl := lw_at lw_m4 34 rfl
theorem q1350 : (Jvm.Cond.interfaceMethod "java/util/Iterator" "java/util/Iterator" "hasNext" "()Z") ∈ lw_tbl := lw_at lw_m6 82 rfl
set_option maxRecDepth 100000
theorem q1351 : (Jvm.Cond.declares ({ cls := "java/util/Iterator", name := "hasNext", desc := "()Z" } : Jvm.MethodName)) ∈ lw_tbl := lw_at lw_m6 83 rfl
theorem q1363 : (Jvm.Cond.interfaceMethod "java/util/Iterator" "java/util/Iterator" "next" "()Ljava/lang/Object;") ∈ lw_tbl := lw_at lw_m6 95 rfl
theorem q1364 : (Jvm.Cond.declares ({ cls := "java/util/Iterator", name := "next", desc := "()Ljava/lang/Object;" } : Jvm.MethodName)) ∈ lw_tbl := lw_at lw_m6 96 rfl
theorem q1501 : (Jvm.Cond.publicMethod ({ cls := "java/util/Map", name := "containsKey", desc := "(Ljava/lang/Object;)Z" } : Jvm.MethodName)) ∈ lw_tbl := lw_at lw_m6 233 rfl
set_option maxRecDepth 100000
theorem q1502 : (Jvm.Cond.declares ({ cls := "java/util/Map", name := "containsKey", desc := "(Ljava/lang/Object;)Z" } : Jvm.MethodName)) ∈ lw_tbl := lw_at lw_m6 234 rfl
theorem q1513 : (Jvm.Cond.publicMethod ({ cls := "java/util/Map", name := "size", desc := "()I" } : Jvm.MethodName)) ∈ lw_tbl := lw_at lw_m7 5 rfl
theorem q1514 : (Jvm.Cond.declares ({ cls := "java/util/Map", name := "size", desc := "()I" } : Jvm.MethodName)) ∈ lw_tbl := lw_at lw_m7 6 rfl
theorem q1525 : (Jvm.Cond.publicMethod ({ cls := "java/util/Map", name := "put", desc := "(Ljava/lang/Object;Ljava/lang/Object;)Ljava/lang/Object;" } : Jvm.MethodName)) ∈ lw_tbl := lw_at lw_m7 17 rfl
theorem q1526 : (Jvm.Cond.declares ({ cls := "java/util/Map", name := "put", desc := "(Ljava/lang/Object;Ljava/lang/Object;)Ljava/lang/Object;" } : Jvm.MethodName)) ∈ lw_tbl := lw_at lw_m7 18 rfl
theorem q1539 : (Jvm.Cond.publicMethod ({ cls := "java/util/Map", name := "remove", desc := "(Ljava/lang/Object;)Ljava/lang/Object;" } : Jvm.MethodName)) ∈ lw_tbl := lw_at lw_m7 31 rfl
theorem q1540 : (Jvm.Cond.declares ({ cls := "java/util/Map", name := "remove", desc := "(Ljava/lang/Object;)Ljava/lang/Object;" } : Jvm.MethodName)) ∈ lw_tbl := lw_at lw_m7 32 rfl
theorem q1586 : (Jvm.Cond.publicMethod ({ cls := "java/util/Map", name := "clear", desc := "()V" } : Jvm.MethodName)) ∈ lw_tbl := lw_at lw_m7 78 rfl
theorem q1587 : (Jvm.Cond.declares ({ cls := "java/util/Map", name := "clear", desc := "()V" } : Jvm.MethodName)) ∈ lw_tbl := lw_at lw_m7 79 rfl
theorem q1394 : (Jvm.Cond.interfaceMethod "java/util/Map$Entry" "java/util/Map$Entry" "getKey" "()Ljava/lang/Object;") ∈ lw_tbl := lw_at lw_m6 126 rfl
set_option maxRecDepth 100000
theorem q1395 : (Jvm.Cond.declares ({ cls := "java/util/Map$Entry", name := "getKey", desc := "()Ljava/lang/Object;" } : Jvm.MethodName)) ∈ lw_tbl := lw_at lw_m6 127 rfl
theorem q1404 : (Jvm.Cond.interfaceMethod "java/util/Map$Entry" "java/util/Map$Entry" "getValue" "()Ljava/lang/Object;") ∈ lw_tbl := lw_at lw_m6 136 rfl
theorem q1405 : (Jvm.Cond.declares ({ cls := "java/util/Map$Entry", name := "getValue", desc := "()Ljava/lang/Object;" } : Jvm.MethodName)) ∈ lw_tbl := lw_at lw_m6 137 rfl
theorem q1322 : (Jvm.Cond.interfaceMethod "java/util/NavigableMap" "java/util/NavigableMap" "navigableKeySet" "()Ljava/util/NavigableSet;") ∈ lw_tbl := lw_at lw_m6 54 rfl
set_option maxRecDepth 100000
theorem q1323 : (Jvm.Cond.declares ({ cls := "java/util/NavigableMap", name := "navigableKeySet", desc := "()Ljava/util/NavigableSet;" } : Jvm.MethodName)) ∈ lw_tbl := lw_at lw_m6 55 rfl
theorem q1342 : (Jvm.Cond.interfaceMethod "java/util/NavigableSet" "java/util/NavigableSet" "iterator" "()Ljava/util/Iterator;") ∈ lw_tbl := lw_at lw_m6 74 rfl
set_option maxRecDepth 100000
theorem q1343 : (Jvm.Cond.declares ({ cls := "java/util/NavigableSet", name := "iterator", desc := "()Ljava/util/Iterator;" } : Jvm.MethodName)) ∈ lw_tbl := lw_at lw_m6 75 rfl
theorem q1082 : (Jvm.Cond.declares ({ cls := "java/util/Queue", name := "poll", desc := "()Ljava/lang/Object;" } : Jvm.MethodName)) ∈ lw_tbl := lw_at lw_m5 54 rfl
set_option maxRecDepth 100000
theorem q1253 : (Jvm.Cond.interfaceMethod "java/util/Set" "java/util/Set" "iterator" "()Ljava/util/Iterator;") ∈ lw_tbl := lw_at lw_m5 225 rfl
set_option maxRecDepth 100000
theorem q1254 : (Jvm.Cond.declares ({ cls := "java/util/Set", name := "iterator", desc := "()Ljava/util/Iterator;" } : Jvm.MethodName)) ∈ lw_tbl := lw_at lw_m5 226 rfl
theorem q1312 : (Jvm.Cond.declares ({ cls := "java/util/TreeMap$NavigableSubMap", name := "keyIterator", desc := "()Ljava/util/Iterator;" } : Jvm.MethodName)) ∈ lw_tbl := lw_at lw_m6 44 rfl
set_option maxRecDepth 100000
theorem q1313 : (Jvm.Cond.selects "java/util/TreeMap$NavigableSubMap" ({ cls := "java/util/TreeMap$NavigableSubMap", name := "keyIterator", desc := "()Ljava/util/Iterator;" } : Jvm.MethodName) ({ cls := "java/util/TreeMap$NavigableSubMap", name := "keyIterator", desc := "()Ljava/util/Iterator;" } : Jvm.MethodName)) ∈ lw_all := lw_g (lw_at lw_m6 45 rfl) rfl
theorem q102 : (Jvm.Cond.initialized "jdk/internal/misc/UnsafeConstants") ∈ lw_all := lw_g (lw_at lw_m1 34 rfl) rfl
set_option maxRecDepth 100000
theorem q932 : (Jvm.Cond.laysStatic "jdk/internal/misc/UnsafeConstants" "BIG_ENDIAN" "Z") ∈ lw_tbl := lw_at lw_m4 144 rfl
theorem q171 : (Jvm.Cond.arrayClass Jvm.ClassFile.FieldType.int) ∈ lw_all := lw_g (lw_at lw_m1 103 rfl) rfl
set_option maxRecDepth 100000
theorem q204 : (Jvm.Cond.arrayOver (Jvm.ClassFile.FieldType.object "KeptCurves$Act")) ∈ lw_tbl := lw_at lw_m1 136 rfl
theorem q206 : (Jvm.Cond.arrayOver (Jvm.ClassFile.FieldType.object "KeptCurves$Turn")) ∈ lw_tbl := lw_at lw_m1 138 rfl
theorem q208 : (Jvm.Cond.arrayOver (Jvm.ClassFile.FieldType.object "KeptCurves$Fraction")) ∈ lw_tbl := lw_at lw_m1 140 rfl
theorem q229 : (Jvm.Cond.arrayClass Jvm.ClassFile.FieldType.byte) ∈ lw_all := lw_g (lw_at lw_m1 161 rfl) rfl
theorem q230 : (Jvm.Cond.arrayClass Jvm.ClassFile.FieldType.boolean) ∈ lw_all := lw_g (lw_at lw_m1 162 rfl) rfl
theorem q241 : (Jvm.Cond.arrayOver (Jvm.ClassFile.FieldType.object "KeptCurves$Poly")) ∈ lw_tbl := lw_at lw_m1 173 rfl
theorem q354 : (Jvm.Cond.arrayOver (Jvm.ClassFile.FieldType.array Jvm.ClassFile.FieldType.int)) ∈ lw_tbl := lw_at lw_m2 46 rfl
theorem q680 : (Jvm.Cond.arrayOver (Jvm.ClassFile.FieldType.object "KeptCurves$Fibre")) ∈ lw_tbl := lw_at lw_m3 132 rfl
theorem q715 : (Jvm.Cond.arrayOver (Jvm.ClassFile.FieldType.object "java/lang/Object")) ∈ lw_tbl := lw_at lw_m3 167 rfl
