/-! java/util/AbstractCollection -/
set_option maxRecDepth 100000
def RJ0 : String := "java/util/AbstractCollection"
abbrev cJ0_init : ByteArray := prog_42_method_1_code
def yJ0_init : MethodName := ⟨RJ0, "<init>", "()V"⟩
theorem dJ0_init_0 : decode cJ0_init 0 = .ok (.aload_n 0, 1) := by decide +kernel
theorem dJ0_init_1 : decode cJ0_init 1 = .ok (.invokespecial 1, 3) := by decide +kernel
theorem dJ0_init_4 : decode cJ0_init 4 = .ok (.return_, 1) := by decide +kernel
theorem q71 : (Jvm.Cond.initialized "java/util/AbstractCollection") ∈ lw_all := lw_g (lw_at lw_m1 3 rfl) rfl
theorem q179 : (Jvm.Cond.instanceMethod ({ cls := "java/util/AbstractCollection", name := "<init>", desc := "()V" } : Jvm.MethodName)) ∈ lw_all := lw_g (lw_at lw_m1 111 rfl) rfl
theorem q180 : (Jvm.Cond.code ({ cls := "java/util/AbstractCollection", name := "<init>", desc := "()V" } : Jvm.MethodName) prog_42_method_1_code (1 : Nat) (Option.none : Option Jvm.ClassFile.FieldType)) ∈ lw_all := lw_g (lw_at lw_m1 112 rfl) rfl
theorem q181 : (Jvm.Cond.methodLink "java/util/AbstractCollection" (1 : Nat) ({ cls := "java/lang/Object", name := "<init>", desc := "()V" } : Jvm.MethodName)) ∈ lw_all := lw_g (lw_at lw_m1 113 rfl) rfl
/-! java/util/AbstractSet -/
set_option maxRecDepth 100000
def RJ1 : String := "java/util/AbstractSet"
abbrev cJ1_init : ByteArray := prog_46_method_1_code
def yJ1_init : MethodName := ⟨RJ1, "<init>", "()V"⟩
theorem dJ1_init_0 : decode cJ1_init 0 = .ok (.aload_n 0, 1) := by decide +kernel
theorem dJ1_init_1 : decode cJ1_init 1 = .ok (.invokespecial 1, 3) := by decide +kernel
theorem dJ1_init_4 : decode cJ1_init 4 = .ok (.return_, 1) := by decide +kernel
theorem q72 : (Jvm.Cond.initialized "java/util/AbstractSet") ∈ lw_all := lw_g (lw_at lw_m1 4 rfl) rfl
theorem q176 : (Jvm.Cond.instanceMethod ({ cls := "java/util/AbstractSet", name := "<init>", desc := "()V" } : Jvm.MethodName)) ∈ lw_all := lw_g (lw_at lw_m1 108 rfl) rfl
theorem q177 : (Jvm.Cond.code ({ cls := "java/util/AbstractSet", name := "<init>", desc := "()V" } : Jvm.MethodName) prog_46_method_1_code (1 : Nat) (Option.none : Option Jvm.ClassFile.FieldType)) ∈ lw_all := lw_g (lw_at lw_m1 109 rfl) rfl
theorem q178 : (Jvm.Cond.methodLink "java/util/AbstractSet" (1 : Nat) ({ cls := "java/util/AbstractCollection", name := "<init>", desc := "()V" } : Jvm.MethodName)) ∈ lw_all := lw_g (lw_at lw_m1 110 rfl) rfl
/-! java/lang/Exception -/
set_option maxRecDepth 100000
def RJ10 : String := "java/lang/Exception"
abbrev cJ10_init : ByteArray := prog_24_method_1_code
def yJ10_init : MethodName := ⟨RJ10, "<init>", "()V"⟩
theorem dJ10_init_0 : decode cJ10_init 0 = .ok (.aload_n 0, 1) := by decide +kernel
theorem dJ10_init_1 : decode cJ10_init 1 = .ok (.invokespecial 1, 3) := by decide +kernel
theorem dJ10_init_4 : decode cJ10_init 4 = .ok (.return_, 1) := by decide +kernel
abbrev cJ10_init_2 : ByteArray := prog_24_method_5_code
def yJ10_init_2 : MethodName := ⟨RJ10, "<init>", "(Ljava/lang/String;Ljava/lang/Throwable;ZZ)V"⟩
def dkwJ10_init_2_0 : List UInt8 := [42, 43, 44, 29, 21, 4, 183, 0, 16, 177]
abbrev dktJ10_init_2_0 : List UInt8 := dkwJ10_init_2_0 ++ []
theorem dksJ10_init_2_0 : cJ10_init_2.data.toList.drop 0 = dktJ10_init_2_0 := by decide +kernel
theorem dJ10_init_2_0 : decode cJ10_init_2 0 = .ok (.aload_n 0, 1) := dk_42 (dk_at dksJ10_init_2_0 0 rfl rfl)
theorem dJ10_init_2_1 : decode cJ10_init_2 1 = .ok (.aload_n 1, 1) := dk_43 (dk_at dksJ10_init_2_0 1 rfl rfl)
theorem dJ10_init_2_2 : decode cJ10_init_2 2 = .ok (.aload_n 2, 1) := dk_44 (dk_at dksJ10_init_2_0 2 rfl rfl)
theorem dJ10_init_2_3 : decode cJ10_init_2 3 = .ok (.iload_n 3, 1) := dk_29 (dk_at dksJ10_init_2_0 3 rfl rfl)
theorem dJ10_init_2_4 : decode cJ10_init_2 4 = .ok (.iload 4, 2) := dk_21 4 (dk_at dksJ10_init_2_0 4 rfl rfl)
theorem dJ10_init_2_6 : decode cJ10_init_2 6 = .ok (.invokespecial 16, 3) := dk_183 0 16 (dk_at dksJ10_init_2_0 6 rfl rfl)
theorem dJ10_init_2_9 : decode cJ10_init_2 9 = .ok (.return_, 1) := dk_177 (dk_at dksJ10_init_2_0 9 rfl rfl)
abbrev cJ10_init_3 : ByteArray := prog_24_method_2_code
def yJ10_init_3 : MethodName := ⟨RJ10, "<init>", "(Ljava/lang/String;)V"⟩
def dkwJ10_init_3_0 : List UInt8 := [42, 43, 183, 0, 7, 177]
abbrev dktJ10_init_3_0 : List UInt8 := dkwJ10_init_3_0 ++ []
theorem dksJ10_init_3_0 : cJ10_init_3.data.toList.drop 0 = dktJ10_init_3_0 := by decide +kernel
theorem dJ10_init_3_0 : decode cJ10_init_3 0 = .ok (.aload_n 0, 1) := dk_42 (dk_at dksJ10_init_3_0 0 rfl rfl)
theorem dJ10_init_3_1 : decode cJ10_init_3 1 = .ok (.aload_n 1, 1) := dk_43 (dk_at dksJ10_init_3_0 1 rfl rfl)
theorem dJ10_init_3_2 : decode cJ10_init_3 2 = .ok (.invokespecial 7, 3) := dk_183 0 7 (dk_at dksJ10_init_3_0 2 rfl rfl)
theorem dJ10_init_3_5 : decode cJ10_init_3 5 = .ok (.return_, 1) := dk_177 (dk_at dksJ10_init_3_0 5 rfl rfl)
theorem q83 : (Jvm.Cond.initialized "java/lang/Exception") ∈ lw_all := lw_g (lw_at lw_m1 15 rfl) rfl
theorem q265 : (Jvm.Cond.declares ({ cls := "java/lang/Exception", name := "<init>", desc := "()V" } : Jvm.MethodName)) ∈ lw_tbl := lw_at lw_m1 197 rfl
theorem q266 : (Jvm.Cond.declares ({ cls := "java/lang/Exception", name := "<init>", desc := "(Ljava/lang/String;)V" } : Jvm.MethodName)) ∈ lw_tbl := lw_at lw_m1 198 rfl
theorem q308 : (Jvm.Cond.superclass "java/lang/Exception" "java/lang/Throwable") ∈ lw_all := lw_g (lw_at lw_m2 0 rfl) rfl
theorem q322 : (Jvm.Cond.instanceMethod ({ cls := "java/lang/Exception", name := "<init>", desc := "()V" } : Jvm.MethodName)) ∈ lw_all := lw_g (lw_at lw_m2 14 rfl) rfl
theorem q323 : (Jvm.Cond.code ({ cls := "java/lang/Exception", name := "<init>", desc := "()V" } : Jvm.MethodName) prog_24_method_1_code (1 : Nat) (Option.none : Option Jvm.ClassFile.FieldType)) ∈ lw_all := lw_g (lw_at lw_m2 15 rfl) rfl
theorem q324 : (Jvm.Cond.methodLink "java/lang/Exception" (1 : Nat) ({ cls := "java/lang/Throwable", name := "<init>", desc := "()V" } : Jvm.MethodName)) ∈ lw_all := lw_g (lw_at lw_m2 16 rfl) rfl
theorem q568 : (Jvm.Cond.instanceMethod ({ cls := "java/lang/Exception", name := "<init>", desc := "(Ljava/lang/String;Ljava/lang/Throwable;ZZ)V" } : Jvm.MethodName)) ∈ lw_all := lw_g (lw_at lw_m3 20 rfl) rfl
theorem q569 : (Jvm.Cond.code ({ cls := "java/lang/Exception", name := "<init>", desc := "(Ljava/lang/String;Ljava/lang/Throwable;ZZ)V" } : Jvm.MethodName) prog_24_method_5_code (5 : Nat) (Option.none : Option Jvm.ClassFile.FieldType)) ∈ lw_all := lw_g (lw_at lw_m3 21 rfl) rfl
theorem q570 : (Jvm.Cond.methodLink "java/lang/Exception" (16 : Nat) ({ cls := "java/lang/Throwable", name := "<init>", desc := "(Ljava/lang/String;Ljava/lang/Throwable;ZZ)V" } : Jvm.MethodName)) ∈ lw_all := lw_g (lw_at lw_m3 22 rfl) rfl
theorem q1844 : (Jvm.Cond.instanceMethod ({ cls := "java/lang/Exception", name := "<init>", desc := "(Ljava/lang/String;)V" } : Jvm.MethodName)) ∈ lw_all := lw_g (lw_at lw_m8 96 rfl) rfl
theorem q1845 : (Jvm.Cond.code ({ cls := "java/lang/Exception", name := "<init>", desc := "(Ljava/lang/String;)V" } : Jvm.MethodName) prog_24_method_2_code (2 : Nat) (Option.none : Option Jvm.ClassFile.FieldType)) ∈ lw_all := lw_g (lw_at lw_m8 97 rfl) rfl
theorem q1846 : (Jvm.Cond.methodLink "java/lang/Exception" (7 : Nat) ({ cls := "java/lang/Throwable", name := "<init>", desc := "(Ljava/lang/String;)V" } : Jvm.MethodName)) ∈ lw_all := lw_g (lw_at lw_m8 98 rfl) rfl
/-! java/lang/RuntimeException -/
set_option maxRecDepth 100000
def RJ11 : String := "java/lang/RuntimeException"
abbrev cJ11_init : ByteArray := prog_33_method_1_code
def yJ11_init : MethodName := ⟨RJ11, "<init>", "()V"⟩
theorem dJ11_init_0 : decode cJ11_init 0 = .ok (.aload_n 0, 1) := by decide +kernel
theorem dJ11_init_1 : decode cJ11_init 1 = .ok (.invokespecial 1, 3) := by decide +kernel
theorem dJ11_init_4 : decode cJ11_init 4 = .ok (.return_, 1) := by decide +kernel
abbrev cJ11_init_2 : ByteArray := prog_33_method_2_code
def yJ11_init_2 : MethodName := ⟨RJ11, "<init>", "(Ljava/lang/String;)V"⟩
def dkwJ11_init_2_0 : List UInt8 := [42, 43, 183, 0, 7, 177]
abbrev dktJ11_init_2_0 : List UInt8 := dkwJ11_init_2_0 ++ []
theorem dksJ11_init_2_0 : cJ11_init_2.data.toList.drop 0 = dktJ11_init_2_0 := by decide +kernel
theorem dJ11_init_2_0 : decode cJ11_init_2 0 = .ok (.aload_n 0, 1) := dk_42 (dk_at dksJ11_init_2_0 0 rfl rfl)
theorem dJ11_init_2_1 : decode cJ11_init_2 1 = .ok (.aload_n 1, 1) := dk_43 (dk_at dksJ11_init_2_0 1 rfl rfl)
theorem dJ11_init_2_2 : decode cJ11_init_2 2 = .ok (.invokespecial 7, 3) := dk_183 0 7 (dk_at dksJ11_init_2_0 2 rfl rfl)
theorem dJ11_init_2_5 : decode cJ11_init_2 5 = .ok (.return_, 1) := dk_177 (dk_at dksJ11_init_2_0 5 rfl rfl)
theorem q84 : (Jvm.Cond.initialized "java/lang/RuntimeException") ∈ lw_all := lw_g (lw_at lw_m1 16 rfl) rfl
theorem q263 : (Jvm.Cond.declares ({ cls := "java/lang/RuntimeException", name := "<init>", desc := "()V" } : Jvm.MethodName)) ∈ lw_tbl := lw_at lw_m1 195 rfl
theorem q264 : (Jvm.Cond.declares ({ cls := "java/lang/RuntimeException", name := "<init>", desc := "(Ljava/lang/String;)V" } : Jvm.MethodName)) ∈ lw_tbl := lw_at lw_m1 196 rfl
theorem q304 : (Jvm.Cond.sameMethod "java/lang/RuntimeException" "java/lang/Throwable" "fillInStackTrace" "()Ljava/lang/Throwable;") ∈ lw_all := lw_g (lw_at lw_m1 236 rfl) rfl
theorem q307 : (Jvm.Cond.superclass "java/lang/RuntimeException" "java/lang/Exception") ∈ lw_all := lw_g (lw_at lw_m1 239 rfl) rfl
theorem q319 : (Jvm.Cond.instanceMethod ({ cls := "java/lang/RuntimeException", name := "<init>", desc := "()V" } : Jvm.MethodName)) ∈ lw_all := lw_g (lw_at lw_m2 11 rfl) rfl
theorem q320 : (Jvm.Cond.code ({ cls := "java/lang/RuntimeException", name := "<init>", desc := "()V" } : Jvm.MethodName) prog_33_method_1_code (1 : Nat) (Option.none : Option Jvm.ClassFile.FieldType)) ∈ lw_all := lw_g (lw_at lw_m2 12 rfl) rfl
theorem q321 : (Jvm.Cond.methodLink "java/lang/RuntimeException" (1 : Nat) ({ cls := "java/lang/Exception", name := "<init>", desc := "()V" } : Jvm.MethodName)) ∈ lw_all := lw_g (lw_at lw_m2 13 rfl) rfl
theorem q1841 : (Jvm.Cond.instanceMethod ({ cls := "java/lang/RuntimeException", name := "<init>", desc := "(Ljava/lang/String;)V" } : Jvm.MethodName)) ∈ lw_all := lw_g (lw_at lw_m8 93 rfl) rfl
theorem q1842 : (Jvm.Cond.code ({ cls := "java/lang/RuntimeException", name := "<init>", desc := "(Ljava/lang/String;)V" } : Jvm.MethodName) prog_33_method_2_code (2 : Nat) (Option.none : Option Jvm.ClassFile.FieldType)) ∈ lw_all := lw_g (lw_at lw_m8 94 rfl) rfl
theorem q1843 : (Jvm.Cond.methodLink "java/lang/RuntimeException" (7 : Nat) ({ cls := "java/lang/Exception", name := "<init>", desc := "(Ljava/lang/String;)V" } : Jvm.MethodName)) ∈ lw_all := lw_g (lw_at lw_m8 95 rfl) rfl
theorem q1903 : (Jvm.Cond.castable "java/lang/RuntimeException" "java/lang/Throwable") ∈ lw_tbl := lw_at lw_m8 155 rfl
/-! java/lang/NegativeArraySizeException -/
set_option maxRecDepth 100000
def RJ12 : String := "java/lang/NegativeArraySizeException"
def TJ12 : u_T := fun k => match k with
  | 0 => ("java/lang/Throwable", "cause", "Ljava/lang/Throwable;", false)
  | 1 => ("java/lang/Throwable", "stackTrace", "[Ljava/lang/StackTraceElement;", false)
  | 2 => ("java/lang/Throwable", "suppressedExceptions", "Ljava/util/List;", false)
  | 3 => ("java/lang/Throwable", "detailMessage", "Ljava/lang/String;", false)
  | 4 => ("java/lang/Throwable", "backtrace", "Ljava/lang/Object;", false)
  | _ => ("java/lang/Throwable", "depth", "I", false)
def tyJ12 : Nat → FieldType := fun k => match k with
  | 0 => .object "java/lang/Throwable"
  | 1 => .array (.object "java/lang/StackTraceElement")
  | 2 => .object "java/util/List"
  | 3 => .object "java/lang/String"
  | 4 => .object "java/lang/Object"
  | _ => .int
abbrev wsJ120 : List Cond := u_ws RJ12 TJ12 6
theorem nmJ12 : ∀ a, a < 6 → ∀ b, b < 6 → a ≠ b → (TJ12 a).2.1 ≠ (TJ12 b).2.1 := by decide +kernel
theorem tyJ12_ok : ∀ k, k < 6 → parseFieldDescriptor (TJ12 k).2.2.1 = some (tyJ12 k) := by decide +kernel
abbrev cJ12_init : ByteArray := prog_30_method_1_code
def yJ12_init : MethodName := ⟨RJ12, "<init>", "()V"⟩
theorem dJ12_init_0 : decode cJ12_init 0 = .ok (.aload_n 0, 1) := by decide +kernel
theorem dJ12_init_1 : decode cJ12_init 1 = .ok (.invokespecial 1, 3) := by decide +kernel
theorem dJ12_init_4 : decode cJ12_init 4 = .ok (.return_, 1) := by decide +kernel
abbrev cJ12_init_2 : ByteArray := prog_30_method_2_code
def yJ12_init_2 : MethodName := ⟨RJ12, "<init>", "(Ljava/lang/String;)V"⟩
def dkwJ12_init_2_0 : List UInt8 := [42, 43, 183, 0, 7, 177]
abbrev dktJ12_init_2_0 : List UInt8 := dkwJ12_init_2_0 ++ []
theorem dksJ12_init_2_0 : cJ12_init_2.data.toList.drop 0 = dktJ12_init_2_0 := by decide +kernel
theorem dJ12_init_2_0 : decode cJ12_init_2 0 = .ok (.aload_n 0, 1) := dk_42 (dk_at dksJ12_init_2_0 0 rfl rfl)
theorem dJ12_init_2_1 : decode cJ12_init_2 1 = .ok (.aload_n 1, 1) := dk_43 (dk_at dksJ12_init_2_0 1 rfl rfl)
theorem dJ12_init_2_2 : decode cJ12_init_2 2 = .ok (.invokespecial 7, 3) := dk_183 0 7 (dk_at dksJ12_init_2_0 2 rfl rfl)
theorem dJ12_init_2_5 : decode cJ12_init_2 5 = .ok (.return_, 1) := dk_177 (dk_at dksJ12_init_2_0 5 rfl rfl)
theorem q85 : (Jvm.Cond.initialized "java/lang/NegativeArraySizeException") ∈ lw_all := lw_g (lw_at lw_m1 17 rfl) rfl
theorem q261 : (Jvm.Cond.instantiable "java/lang/NegativeArraySizeException" (6 : Nat)) ∈ lw_all := lw_g (lw_at lw_m1 193 rfl) rfl
theorem q262 : (Jvm.Cond.castable "java/lang/NegativeArraySizeException" "java/lang/NegativeArraySizeException") ∈ lw_tbl := lw_at lw_m1 194 rfl
theorem q269 : (Jvm.Cond.selects "java/lang/NegativeArraySizeException" ({ cls := "java/lang/Throwable", name := "fillInStackTrace", desc := "(I)Ljava/lang/Throwable;" } : Jvm.MethodName) ({ cls := "java/lang/Throwable", name := "fillInStackTrace", desc := "(I)Ljava/lang/Throwable;" } : Jvm.MethodName)) ∈ lw_all := lw_g (lw_at lw_m1 201 rfl) rfl
theorem q270 : (Jvm.Cond.selects "java/lang/NegativeArraySizeException" ({ cls := "java/lang/Throwable", name := "fillInStackTrace", desc := "()Ljava/lang/Throwable;" } : Jvm.MethodName) ({ cls := "java/lang/Throwable", name := "fillInStackTrace", desc := "()Ljava/lang/Throwable;" } : Jvm.MethodName)) ∈ lw_all := lw_g (lw_at lw_m1 202 rfl) rfl
theorem q271 : (Jvm.Cond.lays "java/lang/NegativeArraySizeException" "java/lang/Throwable" "cause" "Ljava/lang/Throwable;") ∈ lw_all := lw_g (lw_at lw_m1 203 rfl) rfl
theorem q273 : (Jvm.Cond.lays "java/lang/NegativeArraySizeException" "java/lang/Throwable" "stackTrace" "[Ljava/lang/StackTraceElement;") ∈ lw_all := lw_g (lw_at lw_m1 205 rfl) rfl
theorem q275 : (Jvm.Cond.lays "java/lang/NegativeArraySizeException" "java/lang/Throwable" "suppressedExceptions" "Ljava/util/List;") ∈ lw_all := lw_g (lw_at lw_m1 207 rfl) rfl
theorem q277 : (Jvm.Cond.lays "java/lang/NegativeArraySizeException" "java/lang/Throwable" "detailMessage" "Ljava/lang/String;") ∈ lw_all := lw_g (lw_at lw_m1 209 rfl) rfl
theorem q279 : (Jvm.Cond.lays "java/lang/NegativeArraySizeException" "java/lang/Throwable" "backtrace" "Ljava/lang/Object;") ∈ lw_all := lw_g (lw_at lw_m1 211 rfl) rfl
theorem q316 : (Jvm.Cond.instanceMethod ({ cls := "java/lang/NegativeArraySizeException", name := "<init>", desc := "()V" } : Jvm.MethodName)) ∈ lw_all := lw_g (lw_at lw_m2 8 rfl) rfl
theorem q317 : (Jvm.Cond.code ({ cls := "java/lang/NegativeArraySizeException", name := "<init>", desc := "()V" } : Jvm.MethodName) prog_30_method_1_code (1 : Nat) (Option.none : Option Jvm.ClassFile.FieldType)) ∈ lw_all := lw_g (lw_at lw_m2 9 rfl) rfl
theorem q318 : (Jvm.Cond.methodLink "java/lang/NegativeArraySizeException" (1 : Nat) ({ cls := "java/lang/RuntimeException", name := "<init>", desc := "()V" } : Jvm.MethodName)) ∈ lw_all := lw_g (lw_at lw_m2 10 rfl) rfl
theorem q334 : (Jvm.Cond.lays "java/lang/NegativeArraySizeException" "java/lang/Throwable" "depth" "I") ∈ lw_all := lw_g (lw_at lw_m2 26 rfl) rfl
theorem q337 : (Jvm.Cond.superclass "java/lang/NegativeArraySizeException" "java/lang/RuntimeException") ∈ lw_all := lw_g (lw_at lw_m2 29 rfl) rfl
theorem q789 : (Jvm.Cond.selects "java/lang/NegativeArraySizeException" ({ cls := "java/lang/Object", name := "getClass", desc := "()Ljava/lang/Class;" } : Jvm.MethodName) ({ cls := "java/lang/Object", name := "getClass", desc := "()Ljava/lang/Class;" } : Jvm.MethodName)) ∈ lw_all := lw_g (lw_at lw_m4 1 rfl) rfl
theorem q1915 : (Jvm.Cond.instanceMethod ({ cls := "java/lang/NegativeArraySizeException", name := "<init>", desc := "(Ljava/lang/String;)V" } : Jvm.MethodName)) ∈ lw_all := lw_g (lw_at lw_m8 167 rfl) rfl
theorem q1916 : (Jvm.Cond.code ({ cls := "java/lang/NegativeArraySizeException", name := "<init>", desc := "(Ljava/lang/String;)V" } : Jvm.MethodName) prog_30_method_2_code (2 : Nat) (Option.none : Option Jvm.ClassFile.FieldType)) ∈ lw_all := lw_g (lw_at lw_m8 168 rfl) rfl
theorem q1917 : (Jvm.Cond.methodLink "java/lang/NegativeArraySizeException" (7 : Nat) ({ cls := "java/lang/RuntimeException", name := "<init>", desc := "(Ljava/lang/String;)V" } : Jvm.MethodName)) ∈ lw_all := lw_g (lw_at lw_m8 169 rfl) rfl
theorem q2370 : (Jvm.Cond.castable "java/lang/NegativeArraySizeException" "java/lang/Object") ∈ lw_tbl := lw_at lw_m10 142 rfl
theorem in_J12 : ∀ w ∈ wsJ120, w ∈ lw_all := lw_in wsJ120 [271, 273, 275, 277, 279, 334] (by decide +kernel) (by decide +kernel)
/-! java/util/AbstractQueue -/
set_option maxRecDepth 100000
def RJ13 : String := "java/util/AbstractQueue"
abbrev cJ13_init : ByteArray := prog_45_method_1_code
def yJ13_init : MethodName := ⟨RJ13, "<init>", "()V"⟩
theorem dJ13_init_0 : decode cJ13_init 0 = .ok (.aload_n 0, 1) := by decide +kernel
theorem dJ13_init_1 : decode cJ13_init 1 = .ok (.invokespecial 1, 3) := by decide +kernel
theorem dJ13_init_4 : decode cJ13_init 4 = .ok (.return_, 1) := by decide +kernel
abbrev cJ13_remove : ByteArray := prog_45_method_3_code
def yJ13_remove : MethodName := ⟨RJ13, "remove", "()Ljava/lang/Object;"⟩
def dkwJ13_remove_0 : List UInt8 := [42, 182, 0, 20, 76, 43, 198, 0, 5, 43, 176, 187, 0, 24, 89, 183, 0, 26, 191]
abbrev dktJ13_remove_0 : List UInt8 := dkwJ13_remove_0 ++ []
theorem dksJ13_remove_0 : cJ13_remove.data.toList.drop 0 = dktJ13_remove_0 := by decide +kernel
theorem dJ13_remove_0 : decode cJ13_remove 0 = .ok (.aload_n 0, 1) := dk_42 (dk_at dksJ13_remove_0 0 rfl rfl)
theorem dJ13_remove_1 : decode cJ13_remove 1 = .ok (.invokevirtual 20, 3) := dk_182 0 20 (dk_at dksJ13_remove_0 1 rfl rfl)
theorem dJ13_remove_4 : decode cJ13_remove 4 = .ok (.astore_n 1, 1) := dk_76 (dk_at dksJ13_remove_0 4 rfl rfl)
theorem dJ13_remove_5 : decode cJ13_remove 5 = .ok (.aload_n 1, 1) := dk_43 (dk_at dksJ13_remove_0 5 rfl rfl)
theorem dJ13_remove_6 : decode cJ13_remove 6 = .ok (.ifnull 5, 3) := dk_198 0 5 (dk_at dksJ13_remove_0 6 rfl rfl)
theorem dJ13_remove_9 : decode cJ13_remove 9 = .ok (.aload_n 1, 1) := dk_43 (dk_at dksJ13_remove_0 9 rfl rfl)
theorem dJ13_remove_10 : decode cJ13_remove 10 = .ok (.areturn, 1) := dk_176 (dk_at dksJ13_remove_0 10 rfl rfl)
theorem dJ13_remove_11 : decode cJ13_remove 11 = .ok (.new 24, 3) := dk_187 0 24 (dk_at dksJ13_remove_0 11 rfl rfl)
theorem dJ13_remove_14 : decode cJ13_remove 14 = .ok (.dup, 1) := dk_89 (dk_at dksJ13_remove_0 14 rfl rfl)
theorem dJ13_remove_15 : decode cJ13_remove 15 = .ok (.invokespecial 26, 3) := dk_183 0 26 (dk_at dksJ13_remove_0 15 rfl rfl)
theorem dJ13_remove_18 : decode cJ13_remove 18 = .ok (.athrow, 1) := dk_191 (dk_at dksJ13_remove_0 18 rfl rfl)
theorem q91 : (Jvm.Cond.initialized "java/util/AbstractQueue") ∈ lw_all := lw_g (lw_at lw_m1 23 rfl) rfl
theorem q711 : (Jvm.Cond.instanceMethod ({ cls := "java/util/AbstractQueue", name := "<init>", desc := "()V" } : Jvm.MethodName)) ∈ lw_all := lw_g (lw_at lw_m3 163 rfl) rfl
theorem q712 : (Jvm.Cond.code ({ cls := "java/util/AbstractQueue", name := "<init>", desc := "()V" } : Jvm.MethodName) prog_45_method_1_code (1 : Nat) (Option.none : Option Jvm.ClassFile.FieldType)) ∈ lw_all := lw_g (lw_at lw_m3 164 rfl) rfl
theorem q713 : (Jvm.Cond.methodLink "java/util/AbstractQueue" (1 : Nat) ({ cls := "java/util/AbstractCollection", name := "<init>", desc := "()V" } : Jvm.MethodName)) ∈ lw_all := lw_g (lw_at lw_m3 165 rfl) rfl
theorem q1077 : (Jvm.Cond.declares ({ cls := "java/util/AbstractQueue", name := "remove", desc := "()Ljava/lang/Object;" } : Jvm.MethodName)) ∈ lw_tbl := lw_at lw_m5 49 rfl
theorem q1079 : (Jvm.Cond.instanceMethod ({ cls := "java/util/AbstractQueue", name := "remove", desc := "()Ljava/lang/Object;" } : Jvm.MethodName)) ∈ lw_all := lw_g (lw_at lw_m5 51 rfl) rfl
theorem q1080 : (Jvm.Cond.code ({ cls := "java/util/AbstractQueue", name := "remove", desc := "()Ljava/lang/Object;" } : Jvm.MethodName) prog_45_method_3_code (2 : Nat) (Option.some (Jvm.ClassFile.FieldType.object "java/lang/Object"))) ∈ lw_all := lw_g (lw_at lw_m5 52 rfl) rfl
theorem q1081 : (Jvm.Cond.superclass "java/util/AbstractQueue" "java/util/AbstractCollection") ∈ lw_all := lw_g (lw_at lw_m5 53 rfl) rfl
/-! java/util/PriorityQueue -/
set_option maxRecDepth 100000
def RJ14 : String := "java/util/PriorityQueue"
def TJ14 : u_T := fun k => match k with
  | 0 => ("java/util/PriorityQueue", "queue", "[Ljava/lang/Object;", false)
  | 1 => ("java/util/PriorityQueue", "size", "I", false)
  | 2 => ("java/util/PriorityQueue", "comparator", "Ljava/util/Comparator;", true)
  | _ => ("java/util/PriorityQueue", "modCount", "I", false)
def tyJ14 : Nat → FieldType := fun k => match k with
  | 0 => .array (.object "java/lang/Object")
  | 1 => .int
  | 2 => .object "java/util/Comparator"
  | _ => .int
abbrev wsJ140 : List Cond := u_ws RJ14 TJ14 4
theorem nmJ14 : ∀ a, a < 4 → ∀ b, b < 4 → a ≠ b → (TJ14 a).2.1 ≠ (TJ14 b).2.1 := by decide +kernel
theorem tyJ14_ok : ∀ k, k < 4 → parseFieldDescriptor (TJ14 k).2.2.1 = some (tyJ14 k) := by decide +kernel
abbrev cJ14_init : ByteArray := prog_58_method_4_code
def yJ14_init : MethodName := ⟨RJ14, "<init>", "(ILjava/util/Comparator;)V"⟩
def dkwJ14_init_1 : List UInt8 := [181, 0, 17, 42, 44, 181, 0, 21, 177]
abbrev dktJ14_init_1 : List UInt8 := dkwJ14_init_1 ++ []
def dkwJ14_init_0 : List UInt8 := [42, 183, 0, 7, 27, 4, 162, 0, 11, 187, 0, 12, 89, 183, 0, 14, 191, 42, 27, 189, 0, 15]
abbrev dktJ14_init_0 : List UInt8 := dkwJ14_init_0 ++ dktJ14_init_1
theorem dksJ14_init_0 : cJ14_init.data.toList.drop 0 = dktJ14_init_0 := by decide +kernel
theorem dksJ14_init_1 : cJ14_init.data.toList.drop 22 = dktJ14_init_1 := dk_seg dksJ14_init_0 22 rfl rfl
theorem dJ14_init_0 : decode cJ14_init 0 = .ok (.aload_n 0, 1) := dk_42 (dk_at dksJ14_init_0 0 rfl rfl)
theorem dJ14_init_1 : decode cJ14_init 1 = .ok (.invokespecial 7, 3) := dk_183 0 7 (dk_at dksJ14_init_0 1 rfl rfl)
theorem dJ14_init_4 : decode cJ14_init 4 = .ok (.iload_n 1, 1) := dk_27 (dk_at dksJ14_init_0 4 rfl rfl)
theorem dJ14_init_5 : decode cJ14_init 5 = .ok (.iconst 1, 1) := dk_4 (dk_at dksJ14_init_0 5 rfl rfl)
theorem dJ14_init_6 : decode cJ14_init 6 = .ok (.if_icmp .ge 11, 3) := dk_162 0 11 (dk_at dksJ14_init_0 6 rfl rfl)
theorem dJ14_init_9 : decode cJ14_init 9 = .ok (.new 12, 3) := dk_187 0 12 (dk_at dksJ14_init_0 9 rfl rfl)
theorem dJ14_init_12 : decode cJ14_init 12 = .ok (.dup, 1) := dk_89 (dk_at dksJ14_init_0 12 rfl rfl)
theorem dJ14_init_13 : decode cJ14_init 13 = .ok (.invokespecial 14, 3) := dk_183 0 14 (dk_at dksJ14_init_0 13 rfl rfl)
theorem dJ14_init_16 : decode cJ14_init 16 = .ok (.athrow, 1) := dk_191 (dk_at dksJ14_init_0 16 rfl rfl)
theorem dJ14_init_17 : decode cJ14_init 17 = .ok (.aload_n 0, 1) := dk_42 (dk_at dksJ14_init_0 17 rfl rfl)
theorem dJ14_init_18 : decode cJ14_init 18 = .ok (.iload_n 1, 1) := dk_27 (dk_at dksJ14_init_0 18 rfl rfl)
theorem dJ14_init_19 : decode cJ14_init 19 = .ok (.anewarray 15, 3) := dk_189 0 15 (dk_at dksJ14_init_0 19 rfl rfl)
theorem dJ14_init_22 : decode cJ14_init 22 = .ok (.putfield 17, 3) := dk_181 0 17 (dk_at dksJ14_init_1 0 rfl rfl)
theorem dJ14_init_25 : decode cJ14_init 25 = .ok (.aload_n 0, 1) := dk_42 (dk_at dksJ14_init_1 3 rfl rfl)
theorem dJ14_init_26 : decode cJ14_init 26 = .ok (.aload_n 2, 1) := dk_44 (dk_at dksJ14_init_1 4 rfl rfl)
theorem dJ14_init_27 : decode cJ14_init 27 = .ok (.putfield 21, 3) := dk_181 0 21 (dk_at dksJ14_init_1 5 rfl rfl)
theorem dJ14_init_30 : decode cJ14_init 30 = .ok (.return_, 1) := dk_177 (dk_at dksJ14_init_1 8 rfl rfl)
abbrev cJ14_add : ByteArray := prog_58_method_13_code
def yJ14_add : MethodName := ⟨RJ14, "add", "(Ljava/lang/Object;)Z"⟩
def dkwJ14_add_0 : List UInt8 := [42, 43, 182, 0, 89, 172]
abbrev dktJ14_add_0 : List UInt8 := dkwJ14_add_0 ++ []
theorem dksJ14_add_0 : cJ14_add.data.toList.drop 0 = dktJ14_add_0 := by decide +kernel
theorem dJ14_add_0 : decode cJ14_add 0 = .ok (.aload_n 0, 1) := dk_42 (dk_at dksJ14_add_0 0 rfl rfl)
theorem dJ14_add_1 : decode cJ14_add 1 = .ok (.aload_n 1, 1) := dk_43 (dk_at dksJ14_add_0 1 rfl rfl)
theorem dJ14_add_2 : decode cJ14_add 2 = .ok (.invokevirtual 89, 3) := dk_182 0 89 (dk_at dksJ14_add_0 2 rfl rfl)
theorem dJ14_add_5 : decode cJ14_add 5 = .ok (.ireturn, 1) := dk_172 (dk_at dksJ14_add_0 5 rfl rfl)
abbrev cJ14_offer : ByteArray := prog_58_method_14_code
def yJ14_offer : MethodName := ⟨RJ14, "offer", "(Ljava/lang/Object;)Z"⟩
def dkwJ14_offer_2 : List UInt8 := [182, 0, 100, 42, 28, 4, 96, 181, 0, 58, 4, 172]
abbrev dktJ14_offer_2 : List UInt8 := dkwJ14_offer_2 ++ []
def dkwJ14_offer_1 : List UInt8 := [180, 0, 58, 61, 28, 42, 180, 0, 17, 190, 161, 0, 10, 42, 28, 4, 96, 182, 0, 96, 42, 28, 43]
abbrev dktJ14_offer_1 : List UInt8 := dkwJ14_offer_1 ++ dktJ14_offer_2
def dkwJ14_offer_0 : List UInt8 := [43, 199, 0, 11, 187, 0, 74, 89, 183, 0, 76, 191, 42, 89, 180, 0, 93, 4, 96, 181, 0, 93, 42]
abbrev dktJ14_offer_0 : List UInt8 := dkwJ14_offer_0 ++ dktJ14_offer_1
theorem dksJ14_offer_0 : cJ14_offer.data.toList.drop 0 = dktJ14_offer_0 := by decide +kernel
theorem dksJ14_offer_1 : cJ14_offer.data.toList.drop 23 = dktJ14_offer_1 := dk_seg dksJ14_offer_0 23 rfl rfl
theorem dksJ14_offer_2 : cJ14_offer.data.toList.drop 46 = dktJ14_offer_2 := dk_seg dksJ14_offer_1 23 rfl rfl
theorem dJ14_offer_0 : decode cJ14_offer 0 = .ok (.aload_n 1, 1) := dk_43 (dk_at dksJ14_offer_0 0 rfl rfl)
theorem dJ14_offer_1 : decode cJ14_offer 1 = .ok (.ifnonnull 11, 3) := dk_199 0 11 (dk_at dksJ14_offer_0 1 rfl rfl)
theorem dJ14_offer_4 : decode cJ14_offer 4 = .ok (.new 74, 3) := dk_187 0 74 (dk_at dksJ14_offer_0 4 rfl rfl)
theorem dJ14_offer_7 : decode cJ14_offer 7 = .ok (.dup, 1) := dk_89 (dk_at dksJ14_offer_0 7 rfl rfl)
theorem dJ14_offer_8 : decode cJ14_offer 8 = .ok (.invokespecial 76, 3) := dk_183 0 76 (dk_at dksJ14_offer_0 8 rfl rfl)
theorem dJ14_offer_11 : decode cJ14_offer 11 = .ok (.athrow, 1) := dk_191 (dk_at dksJ14_offer_0 11 rfl rfl)
theorem dJ14_offer_12 : decode cJ14_offer 12 = .ok (.aload_n 0, 1) := dk_42 (dk_at dksJ14_offer_0 12 rfl rfl)
theorem dJ14_offer_13 : decode cJ14_offer 13 = .ok (.dup, 1) := dk_89 (dk_at dksJ14_offer_0 13 rfl rfl)
theorem dJ14_offer_14 : decode cJ14_offer 14 = .ok (.getfield 93, 3) := dk_180 0 93 (dk_at dksJ14_offer_0 14 rfl rfl)
theorem dJ14_offer_17 : decode cJ14_offer 17 = .ok (.iconst 1, 1) := dk_4 (dk_at dksJ14_offer_0 17 rfl rfl)
theorem dJ14_offer_18 : decode cJ14_offer 18 = .ok (.iadd, 1) := dk_96 (dk_at dksJ14_offer_0 18 rfl rfl)
theorem dJ14_offer_19 : decode cJ14_offer 19 = .ok (.putfield 93, 3) := dk_181 0 93 (dk_at dksJ14_offer_0 19 rfl rfl)
theorem dJ14_offer_22 : decode cJ14_offer 22 = .ok (.aload_n 0, 1) := dk_42 (dk_at dksJ14_offer_0 22 rfl rfl)
theorem dJ14_offer_23 : decode cJ14_offer 23 = .ok (.getfield 58, 3) := dk_180 0 58 (dk_at dksJ14_offer_1 0 rfl rfl)
theorem dJ14_offer_26 : decode cJ14_offer 26 = .ok (.istore_n 2, 1) := dk_61 (dk_at dksJ14_offer_1 3 rfl rfl)
theorem dJ14_offer_27 : decode cJ14_offer 27 = .ok (.iload_n 2, 1) := dk_28 (dk_at dksJ14_offer_1 4 rfl rfl)
theorem dJ14_offer_28 : decode cJ14_offer 28 = .ok (.aload_n 0, 1) := dk_42 (dk_at dksJ14_offer_1 5 rfl rfl)
theorem dJ14_offer_29 : decode cJ14_offer 29 = .ok (.getfield 17, 3) := dk_180 0 17 (dk_at dksJ14_offer_1 6 rfl rfl)
theorem dJ14_offer_32 : decode cJ14_offer 32 = .ok (.arraylength, 1) := dk_190 (dk_at dksJ14_offer_1 9 rfl rfl)
theorem dJ14_offer_33 : decode cJ14_offer 33 = .ok (.if_icmp .lt 10, 3) := dk_161 0 10 (dk_at dksJ14_offer_1 10 rfl rfl)
theorem dJ14_offer_36 : decode cJ14_offer 36 = .ok (.aload_n 0, 1) := dk_42 (dk_at dksJ14_offer_1 13 rfl rfl)
theorem dJ14_offer_37 : decode cJ14_offer 37 = .ok (.iload_n 2, 1) := dk_28 (dk_at dksJ14_offer_1 14 rfl rfl)
theorem dJ14_offer_38 : decode cJ14_offer 38 = .ok (.iconst 1, 1) := dk_4 (dk_at dksJ14_offer_1 15 rfl rfl)
theorem dJ14_offer_39 : decode cJ14_offer 39 = .ok (.iadd, 1) := dk_96 (dk_at dksJ14_offer_1 16 rfl rfl)
theorem dJ14_offer_40 : decode cJ14_offer 40 = .ok (.invokevirtual 96, 3) := dk_182 0 96 (dk_at dksJ14_offer_1 17 rfl rfl)
theorem dJ14_offer_43 : decode cJ14_offer 43 = .ok (.aload_n 0, 1) := dk_42 (dk_at dksJ14_offer_1 20 rfl rfl)
theorem dJ14_offer_44 : decode cJ14_offer 44 = .ok (.iload_n 2, 1) := dk_28 (dk_at dksJ14_offer_1 21 rfl rfl)
theorem dJ14_offer_45 : decode cJ14_offer 45 = .ok (.aload_n 1, 1) := dk_43 (dk_at dksJ14_offer_1 22 rfl rfl)
theorem dJ14_offer_46 : decode cJ14_offer 46 = .ok (.invokevirtual 100, 3) := dk_182 0 100 (dk_at dksJ14_offer_2 0 rfl rfl)
theorem dJ14_offer_49 : decode cJ14_offer 49 = .ok (.aload_n 0, 1) := dk_42 (dk_at dksJ14_offer_2 3 rfl rfl)
theorem dJ14_offer_50 : decode cJ14_offer 50 = .ok (.iload_n 2, 1) := dk_28 (dk_at dksJ14_offer_2 4 rfl rfl)
theorem dJ14_offer_51 : decode cJ14_offer 51 = .ok (.iconst 1, 1) := dk_4 (dk_at dksJ14_offer_2 5 rfl rfl)
theorem dJ14_offer_52 : decode cJ14_offer 52 = .ok (.iadd, 1) := dk_96 (dk_at dksJ14_offer_2 6 rfl rfl)
theorem dJ14_offer_53 : decode cJ14_offer 53 = .ok (.putfield 58, 3) := dk_181 0 58 (dk_at dksJ14_offer_2 7 rfl rfl)
theorem dJ14_offer_56 : decode cJ14_offer 56 = .ok (.iconst 1, 1) := dk_4 (dk_at dksJ14_offer_2 10 rfl rfl)
theorem dJ14_offer_57 : decode cJ14_offer 57 = .ok (.ireturn, 1) := dk_172 (dk_at dksJ14_offer_2 11 rfl rfl)
abbrev cJ14_grow : ByteArray := prog_58_method_12_code
def yJ14_grow : MethodName := ⟨RJ14, "grow", "(I)V"⟩
def dkwJ14_grow_1 : List UInt8 := [122, 184, 0, 80, 62, 42, 42, 180, 0, 17, 29, 184, 0, 86, 181, 0, 17, 177]
abbrev dktJ14_grow_1 : List UInt8 := dkwJ14_grow_1 ++ []
def dkwJ14_grow_0 : List UInt8 := [42, 180, 0, 17, 190, 61, 28, 27, 28, 100, 28, 16, 64, 162, 0, 9, 28, 5, 96, 167, 0, 6, 28, 4]
abbrev dktJ14_grow_0 : List UInt8 := dkwJ14_grow_0 ++ dktJ14_grow_1
theorem dksJ14_grow_0 : cJ14_grow.data.toList.drop 0 = dktJ14_grow_0 := by decide +kernel
theorem dksJ14_grow_1 : cJ14_grow.data.toList.drop 24 = dktJ14_grow_1 := dk_seg dksJ14_grow_0 24 rfl rfl
theorem dJ14_grow_0 : decode cJ14_grow 0 = .ok (.aload_n 0, 1) := dk_42 (dk_at dksJ14_grow_0 0 rfl rfl)
theorem dJ14_grow_1 : decode cJ14_grow 1 = .ok (.getfield 17, 3) := dk_180 0 17 (dk_at dksJ14_grow_0 1 rfl rfl)
theorem dJ14_grow_4 : decode cJ14_grow 4 = .ok (.arraylength, 1) := dk_190 (dk_at dksJ14_grow_0 4 rfl rfl)
theorem dJ14_grow_5 : decode cJ14_grow 5 = .ok (.istore_n 2, 1) := dk_61 (dk_at dksJ14_grow_0 5 rfl rfl)
theorem dJ14_grow_6 : decode cJ14_grow 6 = .ok (.iload_n 2, 1) := dk_28 (dk_at dksJ14_grow_0 6 rfl rfl)
theorem dJ14_grow_7 : decode cJ14_grow 7 = .ok (.iload_n 1, 1) := dk_27 (dk_at dksJ14_grow_0 7 rfl rfl)
theorem dJ14_grow_8 : decode cJ14_grow 8 = .ok (.iload_n 2, 1) := dk_28 (dk_at dksJ14_grow_0 8 rfl rfl)
theorem dJ14_grow_9 : decode cJ14_grow 9 = .ok (.isub, 1) := dk_100 (dk_at dksJ14_grow_0 9 rfl rfl)
theorem dJ14_grow_10 : decode cJ14_grow 10 = .ok (.iload_n 2, 1) := dk_28 (dk_at dksJ14_grow_0 10 rfl rfl)
theorem dJ14_grow_11 : decode cJ14_grow 11 = .ok (.bipush 64, 2) := dk_16 64 (dk_at dksJ14_grow_0 11 rfl rfl)
theorem dJ14_grow_13 : decode cJ14_grow 13 = .ok (.if_icmp .ge 9, 3) := dk_162 0 9 (dk_at dksJ14_grow_0 13 rfl rfl)
theorem dJ14_grow_16 : decode cJ14_grow 16 = .ok (.iload_n 2, 1) := dk_28 (dk_at dksJ14_grow_0 16 rfl rfl)
theorem dJ14_grow_17 : decode cJ14_grow 17 = .ok (.iconst 2, 1) := dk_5 (dk_at dksJ14_grow_0 17 rfl rfl)
theorem dJ14_grow_18 : decode cJ14_grow 18 = .ok (.iadd, 1) := dk_96 (dk_at dksJ14_grow_0 18 rfl rfl)
theorem dJ14_grow_19 : decode cJ14_grow 19 = .ok (.goto 6, 3) := dk_167 0 6 (dk_at dksJ14_grow_0 19 rfl rfl)
theorem dJ14_grow_22 : decode cJ14_grow 22 = .ok (.iload_n 2, 1) := dk_28 (dk_at dksJ14_grow_0 22 rfl rfl)
theorem dJ14_grow_23 : decode cJ14_grow 23 = .ok (.iconst 1, 1) := dk_4 (dk_at dksJ14_grow_0 23 rfl rfl)
theorem dJ14_grow_24 : decode cJ14_grow 24 = .ok (.ishr, 1) := dk_122 (dk_at dksJ14_grow_1 0 rfl rfl)
theorem dJ14_grow_25 : decode cJ14_grow 25 = .ok (.invokestatic 80, 3) := dk_184 0 80 (dk_at dksJ14_grow_1 1 rfl rfl)
theorem dJ14_grow_28 : decode cJ14_grow 28 = .ok (.istore_n 3, 1) := dk_62 (dk_at dksJ14_grow_1 4 rfl rfl)
theorem dJ14_grow_29 : decode cJ14_grow 29 = .ok (.aload_n 0, 1) := dk_42 (dk_at dksJ14_grow_1 5 rfl rfl)
theorem dJ14_grow_30 : decode cJ14_grow 30 = .ok (.aload_n 0, 1) := dk_42 (dk_at dksJ14_grow_1 6 rfl rfl)
theorem dJ14_grow_31 : decode cJ14_grow 31 = .ok (.getfield 17, 3) := dk_180 0 17 (dk_at dksJ14_grow_1 7 rfl rfl)
theorem dJ14_grow_34 : decode cJ14_grow 34 = .ok (.iload_n 3, 1) := dk_29 (dk_at dksJ14_grow_1 10 rfl rfl)
theorem dJ14_grow_35 : decode cJ14_grow 35 = .ok (.invokestatic 86, 3) := dk_184 0 86 (dk_at dksJ14_grow_1 11 rfl rfl)
theorem dJ14_grow_38 : decode cJ14_grow 38 = .ok (.putfield 17, 3) := dk_181 0 17 (dk_at dksJ14_grow_1 14 rfl rfl)
theorem dJ14_grow_41 : decode cJ14_grow 41 = .ok (.return_, 1) := dk_177 (dk_at dksJ14_grow_1 17 rfl rfl)
abbrev cJ14_siftUp : ByteArray := prog_58_method_27_code
def yJ14_siftUp : MethodName := ⟨RJ14, "siftUp", "(ILjava/lang/Object;)V"⟩
def dkwJ14_siftUp_1 : List UInt8 := [44, 42, 180, 0, 17, 184, 0, 140, 177]
abbrev dktJ14_siftUp_1 : List UInt8 := dkwJ14_siftUp_1 ++ []
def dkwJ14_siftUp_0 : List UInt8 := [42, 180, 0, 21, 198, 0, 19, 27, 44, 42, 180, 0, 17, 42, 180, 0, 21, 184, 0, 136, 167, 0, 12, 27]
abbrev dktJ14_siftUp_0 : List UInt8 := dkwJ14_siftUp_0 ++ dktJ14_siftUp_1
theorem dksJ14_siftUp_0 : cJ14_siftUp.data.toList.drop 0 = dktJ14_siftUp_0 := by decide +kernel
theorem dksJ14_siftUp_1 : cJ14_siftUp.data.toList.drop 24 = dktJ14_siftUp_1 := dk_seg dksJ14_siftUp_0 24 rfl rfl
theorem dJ14_siftUp_0 : decode cJ14_siftUp 0 = .ok (.aload_n 0, 1) := dk_42 (dk_at dksJ14_siftUp_0 0 rfl rfl)
theorem dJ14_siftUp_1 : decode cJ14_siftUp 1 = .ok (.getfield 21, 3) := dk_180 0 21 (dk_at dksJ14_siftUp_0 1 rfl rfl)
theorem dJ14_siftUp_4 : decode cJ14_siftUp 4 = .ok (.ifnull 19, 3) := dk_198 0 19 (dk_at dksJ14_siftUp_0 4 rfl rfl)
theorem dJ14_siftUp_7 : decode cJ14_siftUp 7 = .ok (.iload_n 1, 1) := dk_27 (dk_at dksJ14_siftUp_0 7 rfl rfl)
theorem dJ14_siftUp_8 : decode cJ14_siftUp 8 = .ok (.aload_n 2, 1) := dk_44 (dk_at dksJ14_siftUp_0 8 rfl rfl)
theorem dJ14_siftUp_9 : decode cJ14_siftUp 9 = .ok (.aload_n 0, 1) := dk_42 (dk_at dksJ14_siftUp_0 9 rfl rfl)
theorem dJ14_siftUp_10 : decode cJ14_siftUp 10 = .ok (.getfield 17, 3) := dk_180 0 17 (dk_at dksJ14_siftUp_0 10 rfl rfl)
theorem dJ14_siftUp_13 : decode cJ14_siftUp 13 = .ok (.aload_n 0, 1) := dk_42 (dk_at dksJ14_siftUp_0 13 rfl rfl)
theorem dJ14_siftUp_14 : decode cJ14_siftUp 14 = .ok (.getfield 21, 3) := dk_180 0 21 (dk_at dksJ14_siftUp_0 14 rfl rfl)
theorem dJ14_siftUp_17 : decode cJ14_siftUp 17 = .ok (.invokestatic 136, 3) := dk_184 0 136 (dk_at dksJ14_siftUp_0 17 rfl rfl)
theorem dJ14_siftUp_20 : decode cJ14_siftUp 20 = .ok (.goto 12, 3) := dk_167 0 12 (dk_at dksJ14_siftUp_0 20 rfl rfl)
theorem dJ14_siftUp_23 : decode cJ14_siftUp 23 = .ok (.iload_n 1, 1) := dk_27 (dk_at dksJ14_siftUp_0 23 rfl rfl)
theorem dJ14_siftUp_24 : decode cJ14_siftUp 24 = .ok (.aload_n 2, 1) := dk_44 (dk_at dksJ14_siftUp_1 0 rfl rfl)
theorem dJ14_siftUp_25 : decode cJ14_siftUp 25 = .ok (.aload_n 0, 1) := dk_42 (dk_at dksJ14_siftUp_1 1 rfl rfl)
theorem dJ14_siftUp_26 : decode cJ14_siftUp 26 = .ok (.getfield 17, 3) := dk_180 0 17 (dk_at dksJ14_siftUp_1 2 rfl rfl)
theorem dJ14_siftUp_29 : decode cJ14_siftUp 29 = .ok (.invokestatic 140, 3) := dk_184 0 140 (dk_at dksJ14_siftUp_1 5 rfl rfl)
theorem dJ14_siftUp_32 : decode cJ14_siftUp 32 = .ok (.return_, 1) := dk_177 (dk_at dksJ14_siftUp_1 8 rfl rfl)
abbrev cJ14_siftUpUsingComparator : ByteArray := prog_58_method_29_code
def yJ14_siftUpUsingComparator : MethodName := ⟨RJ14, "siftUpUsingComparator", "(ILjava/lang/Object;[Ljava/lang/Object;Ljava/util/Comparator;)V"⟩
def dkwJ14_siftUpUsingComparator_2 : List UInt8 := [43, 83, 177]
abbrev dktJ14_siftUpUsingComparator_2 : List UInt8 := dkwJ14_siftUpUsingComparator_2 ++ []
def dkwJ14_siftUpUsingComparator_1 : List UInt8 := [185, 0, 149, 3, 0, 155, 0, 6, 167, 0, 14, 44, 26, 25, 5, 83, 21, 4, 59, 167, 255, 216, 44, 26]
abbrev dktJ14_siftUpUsingComparator_1 : List UInt8 := dkwJ14_siftUpUsingComparator_1 ++ dktJ14_siftUpUsingComparator_2
def dkwJ14_siftUpUsingComparator_0 : List UInt8 := [26, 158, 0, 42, 26, 4, 100, 4, 124, 54, 4, 44, 21, 4, 50, 58, 5, 45, 43, 25, 5]
abbrev dktJ14_siftUpUsingComparator_0 : List UInt8 := dkwJ14_siftUpUsingComparator_0 ++ dktJ14_siftUpUsingComparator_1
theorem dksJ14_siftUpUsingComparator_0 : cJ14_siftUpUsingComparator.data.toList.drop 0 = dktJ14_siftUpUsingComparator_0 := by decide +kernel
theorem dksJ14_siftUpUsingComparator_1 : cJ14_siftUpUsingComparator.data.toList.drop 21 = dktJ14_siftUpUsingComparator_1 := dk_seg dksJ14_siftUpUsingComparator_0 21 rfl rfl
theorem dksJ14_siftUpUsingComparator_2 : cJ14_siftUpUsingComparator.data.toList.drop 45 = dktJ14_siftUpUsingComparator_2 := dk_seg dksJ14_siftUpUsingComparator_1 24 rfl rfl
theorem dJ14_siftUpUsingComparator_0 : decode cJ14_siftUpUsingComparator 0 = .ok (.iload_n 0, 1) := dk_26 (dk_at dksJ14_siftUpUsingComparator_0 0 rfl rfl)
theorem dJ14_siftUpUsingComparator_1 : decode cJ14_siftUpUsingComparator 1 = .ok (.ifCond .le 42, 3) := dk_158 0 42 (dk_at dksJ14_siftUpUsingComparator_0 1 rfl rfl)
theorem dJ14_siftUpUsingComparator_4 : decode cJ14_siftUpUsingComparator 4 = .ok (.iload_n 0, 1) := dk_26 (dk_at dksJ14_siftUpUsingComparator_0 4 rfl rfl)
theorem dJ14_siftUpUsingComparator_5 : decode cJ14_siftUpUsingComparator 5 = .ok (.iconst 1, 1) := dk_4 (dk_at dksJ14_siftUpUsingComparator_0 5 rfl rfl)
theorem dJ14_siftUpUsingComparator_6 : decode cJ14_siftUpUsingComparator 6 = .ok (.isub, 1) := dk_100 (dk_at dksJ14_siftUpUsingComparator_0 6 rfl rfl)
theorem dJ14_siftUpUsingComparator_7 : decode cJ14_siftUpUsingComparator 7 = .ok (.iconst 1, 1) := dk_4 (dk_at dksJ14_siftUpUsingComparator_0 7 rfl rfl)
theorem dJ14_siftUpUsingComparator_8 : decode cJ14_siftUpUsingComparator 8 = .ok (.iushr, 1) := dk_124 (dk_at dksJ14_siftUpUsingComparator_0 8 rfl rfl)
theorem dJ14_siftUpUsingComparator_9 : decode cJ14_siftUpUsingComparator 9 = .ok (.istore 4, 2) := dk_54 4 (dk_at dksJ14_siftUpUsingComparator_0 9 rfl rfl)
theorem dJ14_siftUpUsingComparator_11 : decode cJ14_siftUpUsingComparator 11 = .ok (.aload_n 2, 1) := dk_44 (dk_at dksJ14_siftUpUsingComparator_0 11 rfl rfl)
theorem dJ14_siftUpUsingComparator_12 : decode cJ14_siftUpUsingComparator 12 = .ok (.iload 4, 2) := dk_21 4 (dk_at dksJ14_siftUpUsingComparator_0 12 rfl rfl)
theorem dJ14_siftUpUsingComparator_14 : decode cJ14_siftUpUsingComparator 14 = .ok (.aaload, 1) := dk_50 (dk_at dksJ14_siftUpUsingComparator_0 14 rfl rfl)
theorem dJ14_siftUpUsingComparator_15 : decode cJ14_siftUpUsingComparator 15 = .ok (.astore 5, 2) := dk_58 5 (dk_at dksJ14_siftUpUsingComparator_0 15 rfl rfl)
theorem dJ14_siftUpUsingComparator_17 : decode cJ14_siftUpUsingComparator 17 = .ok (.aload_n 3, 1) := dk_45 (dk_at dksJ14_siftUpUsingComparator_0 17 rfl rfl)
theorem dJ14_siftUpUsingComparator_18 : decode cJ14_siftUpUsingComparator 18 = .ok (.aload_n 1, 1) := dk_43 (dk_at dksJ14_siftUpUsingComparator_0 18 rfl rfl)
theorem dJ14_siftUpUsingComparator_19 : decode cJ14_siftUpUsingComparator 19 = .ok (.aload 5, 2) := dk_25 5 (dk_at dksJ14_siftUpUsingComparator_0 19 rfl rfl)
theorem dJ14_siftUpUsingComparator_21 : decode cJ14_siftUpUsingComparator 21 = .ok (.invokeinterface 149 3, 5) := by decide +kernel
theorem dJ14_siftUpUsingComparator_26 : decode cJ14_siftUpUsingComparator 26 = .ok (.ifCond .lt 6, 3) := dk_155 0 6 (dk_at dksJ14_siftUpUsingComparator_1 5 rfl rfl)
theorem dJ14_siftUpUsingComparator_29 : decode cJ14_siftUpUsingComparator 29 = .ok (.goto 14, 3) := dk_167 0 14 (dk_at dksJ14_siftUpUsingComparator_1 8 rfl rfl)
theorem dJ14_siftUpUsingComparator_32 : decode cJ14_siftUpUsingComparator 32 = .ok (.aload_n 2, 1) := dk_44 (dk_at dksJ14_siftUpUsingComparator_1 11 rfl rfl)
theorem dJ14_siftUpUsingComparator_33 : decode cJ14_siftUpUsingComparator 33 = .ok (.iload_n 0, 1) := dk_26 (dk_at dksJ14_siftUpUsingComparator_1 12 rfl rfl)
theorem dJ14_siftUpUsingComparator_34 : decode cJ14_siftUpUsingComparator 34 = .ok (.aload 5, 2) := dk_25 5 (dk_at dksJ14_siftUpUsingComparator_1 13 rfl rfl)
theorem dJ14_siftUpUsingComparator_36 : decode cJ14_siftUpUsingComparator 36 = .ok (.aastore, 1) := dk_83 (dk_at dksJ14_siftUpUsingComparator_1 15 rfl rfl)
theorem dJ14_siftUpUsingComparator_37 : decode cJ14_siftUpUsingComparator 37 = .ok (.iload 4, 2) := dk_21 4 (dk_at dksJ14_siftUpUsingComparator_1 16 rfl rfl)
theorem dJ14_siftUpUsingComparator_39 : decode cJ14_siftUpUsingComparator 39 = .ok (.istore_n 0, 1) := dk_59 (dk_at dksJ14_siftUpUsingComparator_1 18 rfl rfl)
theorem dJ14_siftUpUsingComparator_40 : decode cJ14_siftUpUsingComparator 40 = .ok (.goto (-40), 3) := dk_167 255 216 (dk_at dksJ14_siftUpUsingComparator_1 19 rfl rfl)
theorem dJ14_siftUpUsingComparator_43 : decode cJ14_siftUpUsingComparator 43 = .ok (.aload_n 2, 1) := dk_44 (dk_at dksJ14_siftUpUsingComparator_1 22 rfl rfl)
theorem dJ14_siftUpUsingComparator_44 : decode cJ14_siftUpUsingComparator 44 = .ok (.iload_n 0, 1) := dk_26 (dk_at dksJ14_siftUpUsingComparator_1 23 rfl rfl)
theorem dJ14_siftUpUsingComparator_45 : decode cJ14_siftUpUsingComparator 45 = .ok (.aload_n 1, 1) := dk_43 (dk_at dksJ14_siftUpUsingComparator_2 0 rfl rfl)
theorem dJ14_siftUpUsingComparator_46 : decode cJ14_siftUpUsingComparator 46 = .ok (.aastore, 1) := dk_83 (dk_at dksJ14_siftUpUsingComparator_2 1 rfl rfl)
theorem dJ14_siftUpUsingComparator_47 : decode cJ14_siftUpUsingComparator 47 = .ok (.return_, 1) := dk_177 (dk_at dksJ14_siftUpUsingComparator_2 2 rfl rfl)
abbrev cJ14_siftUpComparable : ByteArray := prog_58_method_28_code
def yJ14_siftUpComparable : MethodName := ⟨RJ14, "siftUpComparable", "(ILjava/lang/Object;[Ljava/lang/Object;)V"⟩
def dkwJ14_siftUpComparable_2 : List UInt8 := [44, 26, 45, 83, 177]
abbrev dktJ14_siftUpComparable_2 : List UInt8 := dkwJ14_siftUpComparable_2 ++ []
def dkwJ14_siftUpComparable_1 : List UInt8 := [25, 5, 185, 0, 146, 2, 0, 155, 0, 6, 167, 0, 14, 44, 26, 25, 5, 83, 21, 4, 59, 167, 255, 217]
abbrev dktJ14_siftUpComparable_1 : List UInt8 := dkwJ14_siftUpComparable_1 ++ dktJ14_siftUpComparable_2
def dkwJ14_siftUpComparable_0 : List UInt8 := [43, 192, 0, 144, 78, 26, 158, 0, 41, 26, 4, 100, 4, 124, 54, 4, 44, 21, 4, 50, 58, 5, 45]
abbrev dktJ14_siftUpComparable_0 : List UInt8 := dkwJ14_siftUpComparable_0 ++ dktJ14_siftUpComparable_1
theorem dksJ14_siftUpComparable_0 : cJ14_siftUpComparable.data.toList.drop 0 = dktJ14_siftUpComparable_0 := by decide +kernel
theorem dksJ14_siftUpComparable_1 : cJ14_siftUpComparable.data.toList.drop 23 = dktJ14_siftUpComparable_1 := dk_seg dksJ14_siftUpComparable_0 23 rfl rfl
theorem dksJ14_siftUpComparable_2 : cJ14_siftUpComparable.data.toList.drop 47 = dktJ14_siftUpComparable_2 := dk_seg dksJ14_siftUpComparable_1 24 rfl rfl
theorem dJ14_siftUpComparable_0 : decode cJ14_siftUpComparable 0 = .ok (.aload_n 1, 1) := dk_43 (dk_at dksJ14_siftUpComparable_0 0 rfl rfl)
theorem dJ14_siftUpComparable_1 : decode cJ14_siftUpComparable 1 = .ok (.checkcast 144, 3) := dk_192 0 144 (dk_at dksJ14_siftUpComparable_0 1 rfl rfl)
theorem dJ14_siftUpComparable_4 : decode cJ14_siftUpComparable 4 = .ok (.astore_n 3, 1) := dk_78 (dk_at dksJ14_siftUpComparable_0 4 rfl rfl)
theorem dJ14_siftUpComparable_5 : decode cJ14_siftUpComparable 5 = .ok (.iload_n 0, 1) := dk_26 (dk_at dksJ14_siftUpComparable_0 5 rfl rfl)
theorem dJ14_siftUpComparable_6 : decode cJ14_siftUpComparable 6 = .ok (.ifCond .le 41, 3) := dk_158 0 41 (dk_at dksJ14_siftUpComparable_0 6 rfl rfl)
theorem dJ14_siftUpComparable_9 : decode cJ14_siftUpComparable 9 = .ok (.iload_n 0, 1) := dk_26 (dk_at dksJ14_siftUpComparable_0 9 rfl rfl)
theorem dJ14_siftUpComparable_10 : decode cJ14_siftUpComparable 10 = .ok (.iconst 1, 1) := dk_4 (dk_at dksJ14_siftUpComparable_0 10 rfl rfl)
theorem dJ14_siftUpComparable_11 : decode cJ14_siftUpComparable 11 = .ok (.isub, 1) := dk_100 (dk_at dksJ14_siftUpComparable_0 11 rfl rfl)
theorem dJ14_siftUpComparable_12 : decode cJ14_siftUpComparable 12 = .ok (.iconst 1, 1) := dk_4 (dk_at dksJ14_siftUpComparable_0 12 rfl rfl)
theorem dJ14_siftUpComparable_13 : decode cJ14_siftUpComparable 13 = .ok (.iushr, 1) := dk_124 (dk_at dksJ14_siftUpComparable_0 13 rfl rfl)
theorem dJ14_siftUpComparable_14 : decode cJ14_siftUpComparable 14 = .ok (.istore 4, 2) := dk_54 4 (dk_at dksJ14_siftUpComparable_0 14 rfl rfl)
theorem dJ14_siftUpComparable_16 : decode cJ14_siftUpComparable 16 = .ok (.aload_n 2, 1) := dk_44 (dk_at dksJ14_siftUpComparable_0 16 rfl rfl)
theorem dJ14_siftUpComparable_17 : decode cJ14_siftUpComparable 17 = .ok (.iload 4, 2) := dk_21 4 (dk_at dksJ14_siftUpComparable_0 17 rfl rfl)
theorem dJ14_siftUpComparable_19 : decode cJ14_siftUpComparable 19 = .ok (.aaload, 1) := dk_50 (dk_at dksJ14_siftUpComparable_0 19 rfl rfl)
theorem dJ14_siftUpComparable_20 : decode cJ14_siftUpComparable 20 = .ok (.astore 5, 2) := dk_58 5 (dk_at dksJ14_siftUpComparable_0 20 rfl rfl)
theorem dJ14_siftUpComparable_22 : decode cJ14_siftUpComparable 22 = .ok (.aload_n 3, 1) := dk_45 (dk_at dksJ14_siftUpComparable_0 22 rfl rfl)
theorem dJ14_siftUpComparable_23 : decode cJ14_siftUpComparable 23 = .ok (.aload 5, 2) := dk_25 5 (dk_at dksJ14_siftUpComparable_1 0 rfl rfl)
theorem dJ14_siftUpComparable_25 : decode cJ14_siftUpComparable 25 = .ok (.invokeinterface 146 2, 5) := by decide +kernel
theorem dJ14_siftUpComparable_30 : decode cJ14_siftUpComparable 30 = .ok (.ifCond .lt 6, 3) := dk_155 0 6 (dk_at dksJ14_siftUpComparable_1 7 rfl rfl)
theorem dJ14_siftUpComparable_33 : decode cJ14_siftUpComparable 33 = .ok (.goto 14, 3) := dk_167 0 14 (dk_at dksJ14_siftUpComparable_1 10 rfl rfl)
theorem dJ14_siftUpComparable_36 : decode cJ14_siftUpComparable 36 = .ok (.aload_n 2, 1) := dk_44 (dk_at dksJ14_siftUpComparable_1 13 rfl rfl)
theorem dJ14_siftUpComparable_37 : decode cJ14_siftUpComparable 37 = .ok (.iload_n 0, 1) := dk_26 (dk_at dksJ14_siftUpComparable_1 14 rfl rfl)
theorem dJ14_siftUpComparable_38 : decode cJ14_siftUpComparable 38 = .ok (.aload 5, 2) := dk_25 5 (dk_at dksJ14_siftUpComparable_1 15 rfl rfl)
theorem dJ14_siftUpComparable_40 : decode cJ14_siftUpComparable 40 = .ok (.aastore, 1) := dk_83 (dk_at dksJ14_siftUpComparable_1 17 rfl rfl)
theorem dJ14_siftUpComparable_41 : decode cJ14_siftUpComparable 41 = .ok (.iload 4, 2) := dk_21 4 (dk_at dksJ14_siftUpComparable_1 18 rfl rfl)
theorem dJ14_siftUpComparable_43 : decode cJ14_siftUpComparable 43 = .ok (.istore_n 0, 1) := dk_59 (dk_at dksJ14_siftUpComparable_1 20 rfl rfl)
theorem dJ14_siftUpComparable_44 : decode cJ14_siftUpComparable 44 = .ok (.goto (-39), 3) := dk_167 255 217 (dk_at dksJ14_siftUpComparable_1 21 rfl rfl)
theorem dJ14_siftUpComparable_47 : decode cJ14_siftUpComparable 47 = .ok (.aload_n 2, 1) := dk_44 (dk_at dksJ14_siftUpComparable_2 0 rfl rfl)
theorem dJ14_siftUpComparable_48 : decode cJ14_siftUpComparable 48 = .ok (.iload_n 0, 1) := dk_26 (dk_at dksJ14_siftUpComparable_2 1 rfl rfl)
theorem dJ14_siftUpComparable_49 : decode cJ14_siftUpComparable 49 = .ok (.aload_n 3, 1) := dk_45 (dk_at dksJ14_siftUpComparable_2 2 rfl rfl)
theorem dJ14_siftUpComparable_50 : decode cJ14_siftUpComparable 50 = .ok (.aastore, 1) := dk_83 (dk_at dksJ14_siftUpComparable_2 3 rfl rfl)
theorem dJ14_siftUpComparable_51 : decode cJ14_siftUpComparable 51 = .ok (.return_, 1) := dk_177 (dk_at dksJ14_siftUpComparable_2 4 rfl rfl)
abbrev cJ14_poll : ByteArray := prog_58_method_25_code
def yJ14_poll : MethodName := ⟨RJ14, "poll", "()Ljava/lang/Object;"⟩
def dkwJ14_poll_3 : List UInt8 := [43, 29, 25, 5, 184, 0, 129, 44, 176]
abbrev dktJ14_poll_3 : List UInt8 := dkwJ14_poll_3 ++ []
def dkwJ14_poll_2 : List UInt8 := [42, 180, 0, 21, 89, 58, 5, 199, 0, 14, 3, 25, 4, 43, 29, 184, 0, 125, 167, 0, 13, 3, 25, 4]
abbrev dktJ14_poll_2 : List UInt8 := dkwJ14_poll_2 ++ dktJ14_poll_3
def dkwJ14_poll_1 : List UInt8 := [42, 89, 180, 0, 58, 4, 100, 90, 181, 0, 58, 89, 62, 50, 58, 4, 43, 29, 1, 83, 29, 158, 0, 34]
abbrev dktJ14_poll_1 : List UInt8 := dkwJ14_poll_1 ++ dktJ14_poll_2
def dkwJ14_poll_0 : List UInt8 := [42, 180, 0, 17, 89, 76, 3, 50, 89, 77, 198, 0, 69, 42, 89, 180, 0, 93, 4, 96, 181, 0, 93, 43]
abbrev dktJ14_poll_0 : List UInt8 := dkwJ14_poll_0 ++ dktJ14_poll_1
theorem dksJ14_poll_0 : cJ14_poll.data.toList.drop 0 = dktJ14_poll_0 := by decide +kernel
theorem dksJ14_poll_1 : cJ14_poll.data.toList.drop 24 = dktJ14_poll_1 := dk_seg dksJ14_poll_0 24 rfl rfl
theorem dksJ14_poll_2 : cJ14_poll.data.toList.drop 48 = dktJ14_poll_2 := dk_seg dksJ14_poll_1 24 rfl rfl
theorem dksJ14_poll_3 : cJ14_poll.data.toList.drop 72 = dktJ14_poll_3 := dk_seg dksJ14_poll_2 24 rfl rfl
theorem dJ14_poll_0 : decode cJ14_poll 0 = .ok (.aload_n 0, 1) := dk_42 (dk_at dksJ14_poll_0 0 rfl rfl)
theorem dJ14_poll_1 : decode cJ14_poll 1 = .ok (.getfield 17, 3) := dk_180 0 17 (dk_at dksJ14_poll_0 1 rfl rfl)
theorem dJ14_poll_4 : decode cJ14_poll 4 = .ok (.dup, 1) := dk_89 (dk_at dksJ14_poll_0 4 rfl rfl)
theorem dJ14_poll_5 : decode cJ14_poll 5 = .ok (.astore_n 1, 1) := dk_76 (dk_at dksJ14_poll_0 5 rfl rfl)
theorem dJ14_poll_6 : decode cJ14_poll 6 = .ok (.iconst 0, 1) := dk_3 (dk_at dksJ14_poll_0 6 rfl rfl)
theorem dJ14_poll_7 : decode cJ14_poll 7 = .ok (.aaload, 1) := dk_50 (dk_at dksJ14_poll_0 7 rfl rfl)
theorem dJ14_poll_8 : decode cJ14_poll 8 = .ok (.dup, 1) := dk_89 (dk_at dksJ14_poll_0 8 rfl rfl)
theorem dJ14_poll_9 : decode cJ14_poll 9 = .ok (.astore_n 2, 1) := dk_77 (dk_at dksJ14_poll_0 9 rfl rfl)
theorem dJ14_poll_10 : decode cJ14_poll 10 = .ok (.ifnull 69, 3) := dk_198 0 69 (dk_at dksJ14_poll_0 10 rfl rfl)
theorem dJ14_poll_13 : decode cJ14_poll 13 = .ok (.aload_n 0, 1) := dk_42 (dk_at dksJ14_poll_0 13 rfl rfl)
theorem dJ14_poll_14 : decode cJ14_poll 14 = .ok (.dup, 1) := dk_89 (dk_at dksJ14_poll_0 14 rfl rfl)
theorem dJ14_poll_15 : decode cJ14_poll 15 = .ok (.getfield 93, 3) := dk_180 0 93 (dk_at dksJ14_poll_0 15 rfl rfl)
theorem dJ14_poll_18 : decode cJ14_poll 18 = .ok (.iconst 1, 1) := dk_4 (dk_at dksJ14_poll_0 18 rfl rfl)
theorem dJ14_poll_19 : decode cJ14_poll 19 = .ok (.iadd, 1) := dk_96 (dk_at dksJ14_poll_0 19 rfl rfl)
theorem dJ14_poll_20 : decode cJ14_poll 20 = .ok (.putfield 93, 3) := dk_181 0 93 (dk_at dksJ14_poll_0 20 rfl rfl)
theorem dJ14_poll_23 : decode cJ14_poll 23 = .ok (.aload_n 1, 1) := dk_43 (dk_at dksJ14_poll_0 23 rfl rfl)
theorem dJ14_poll_24 : decode cJ14_poll 24 = .ok (.aload_n 0, 1) := dk_42 (dk_at dksJ14_poll_1 0 rfl rfl)
theorem dJ14_poll_25 : decode cJ14_poll 25 = .ok (.dup, 1) := dk_89 (dk_at dksJ14_poll_1 1 rfl rfl)
theorem dJ14_poll_26 : decode cJ14_poll 26 = .ok (.getfield 58, 3) := dk_180 0 58 (dk_at dksJ14_poll_1 2 rfl rfl)
theorem dJ14_poll_29 : decode cJ14_poll 29 = .ok (.iconst 1, 1) := dk_4 (dk_at dksJ14_poll_1 5 rfl rfl)
theorem dJ14_poll_30 : decode cJ14_poll 30 = .ok (.isub, 1) := dk_100 (dk_at dksJ14_poll_1 6 rfl rfl)
theorem dJ14_poll_31 : decode cJ14_poll 31 = .ok (.dup_x1, 1) := dk_90 (dk_at dksJ14_poll_1 7 rfl rfl)
theorem dJ14_poll_32 : decode cJ14_poll 32 = .ok (.putfield 58, 3) := dk_181 0 58 (dk_at dksJ14_poll_1 8 rfl rfl)
theorem dJ14_poll_35 : decode cJ14_poll 35 = .ok (.dup, 1) := dk_89 (dk_at dksJ14_poll_1 11 rfl rfl)
theorem dJ14_poll_36 : decode cJ14_poll 36 = .ok (.istore_n 3, 1) := dk_62 (dk_at dksJ14_poll_1 12 rfl rfl)
theorem dJ14_poll_37 : decode cJ14_poll 37 = .ok (.aaload, 1) := dk_50 (dk_at dksJ14_poll_1 13 rfl rfl)
theorem dJ14_poll_38 : decode cJ14_poll 38 = .ok (.astore 4, 2) := dk_58 4 (dk_at dksJ14_poll_1 14 rfl rfl)
theorem dJ14_poll_40 : decode cJ14_poll 40 = .ok (.aload_n 1, 1) := dk_43 (dk_at dksJ14_poll_1 16 rfl rfl)
theorem dJ14_poll_41 : decode cJ14_poll 41 = .ok (.iload_n 3, 1) := dk_29 (dk_at dksJ14_poll_1 17 rfl rfl)
theorem dJ14_poll_42 : decode cJ14_poll 42 = .ok (.aconst_null, 1) := dk_1 (dk_at dksJ14_poll_1 18 rfl rfl)
theorem dJ14_poll_43 : decode cJ14_poll 43 = .ok (.aastore, 1) := dk_83 (dk_at dksJ14_poll_1 19 rfl rfl)
theorem dJ14_poll_44 : decode cJ14_poll 44 = .ok (.iload_n 3, 1) := dk_29 (dk_at dksJ14_poll_1 20 rfl rfl)
theorem dJ14_poll_45 : decode cJ14_poll 45 = .ok (.ifCond .le 34, 3) := dk_158 0 34 (dk_at dksJ14_poll_1 21 rfl rfl)
theorem dJ14_poll_48 : decode cJ14_poll 48 = .ok (.aload_n 0, 1) := dk_42 (dk_at dksJ14_poll_2 0 rfl rfl)
theorem dJ14_poll_49 : decode cJ14_poll 49 = .ok (.getfield 21, 3) := dk_180 0 21 (dk_at dksJ14_poll_2 1 rfl rfl)
theorem dJ14_poll_52 : decode cJ14_poll 52 = .ok (.dup, 1) := dk_89 (dk_at dksJ14_poll_2 4 rfl rfl)
theorem dJ14_poll_53 : decode cJ14_poll 53 = .ok (.astore 5, 2) := dk_58 5 (dk_at dksJ14_poll_2 5 rfl rfl)
theorem dJ14_poll_55 : decode cJ14_poll 55 = .ok (.ifnonnull 14, 3) := dk_199 0 14 (dk_at dksJ14_poll_2 7 rfl rfl)
theorem dJ14_poll_58 : decode cJ14_poll 58 = .ok (.iconst 0, 1) := dk_3 (dk_at dksJ14_poll_2 10 rfl rfl)
theorem dJ14_poll_59 : decode cJ14_poll 59 = .ok (.aload 4, 2) := dk_25 4 (dk_at dksJ14_poll_2 11 rfl rfl)
theorem dJ14_poll_61 : decode cJ14_poll 61 = .ok (.aload_n 1, 1) := dk_43 (dk_at dksJ14_poll_2 13 rfl rfl)
theorem dJ14_poll_62 : decode cJ14_poll 62 = .ok (.iload_n 3, 1) := dk_29 (dk_at dksJ14_poll_2 14 rfl rfl)
theorem dJ14_poll_63 : decode cJ14_poll 63 = .ok (.invokestatic 125, 3) := dk_184 0 125 (dk_at dksJ14_poll_2 15 rfl rfl)
theorem dJ14_poll_66 : decode cJ14_poll 66 = .ok (.goto 13, 3) := dk_167 0 13 (dk_at dksJ14_poll_2 18 rfl rfl)
theorem dJ14_poll_69 : decode cJ14_poll 69 = .ok (.iconst 0, 1) := dk_3 (dk_at dksJ14_poll_2 21 rfl rfl)
theorem dJ14_poll_70 : decode cJ14_poll 70 = .ok (.aload 4, 2) := dk_25 4 (dk_at dksJ14_poll_2 22 rfl rfl)
theorem dJ14_poll_72 : decode cJ14_poll 72 = .ok (.aload_n 1, 1) := dk_43 (dk_at dksJ14_poll_3 0 rfl rfl)
theorem dJ14_poll_73 : decode cJ14_poll 73 = .ok (.iload_n 3, 1) := dk_29 (dk_at dksJ14_poll_3 1 rfl rfl)
theorem dJ14_poll_74 : decode cJ14_poll 74 = .ok (.aload 5, 2) := dk_25 5 (dk_at dksJ14_poll_3 2 rfl rfl)
theorem dJ14_poll_76 : decode cJ14_poll 76 = .ok (.invokestatic 129, 3) := dk_184 0 129 (dk_at dksJ14_poll_3 4 rfl rfl)
theorem dJ14_poll_79 : decode cJ14_poll 79 = .ok (.aload_n 2, 1) := dk_44 (dk_at dksJ14_poll_3 7 rfl rfl)
theorem dJ14_poll_80 : decode cJ14_poll 80 = .ok (.areturn, 1) := dk_176 (dk_at dksJ14_poll_3 8 rfl rfl)
abbrev cJ14_siftDownComparable : ByteArray := prog_58_method_31_code
def yJ14_siftDownComparable : MethodName := ⟨RJ14, "siftDownComparable", "(ILjava/lang/Object;[Ljava/lang/Object;I)V"⟩
def dkwJ14_siftDownComparable_4 : List UInt8 := [25, 4, 83, 177]
abbrev dktJ14_siftDownComparable_4 : List UInt8 := dkwJ14_siftDownComparable_4 ++ []
def dkwJ14_siftDownComparable_3 : List UInt8 := [185, 0, 146, 2, 0, 157, 0, 6, 167, 0, 14, 44, 26, 25, 7, 83, 21, 6, 59, 167, 255, 176, 44, 26]
abbrev dktJ14_siftDownComparable_3 : List UInt8 := dkwJ14_siftDownComparable_3 ++ dktJ14_siftDownComparable_4
def dkwJ14_siftDownComparable_2 : List UInt8 := [21, 8, 50, 185, 0, 146, 2, 0, 158, 0, 12, 44, 21, 8, 89, 54, 6, 50, 58, 7, 25, 4, 25, 7]
abbrev dktJ14_siftDownComparable_2 : List UInt8 := dkwJ14_siftDownComparable_2 ++ dktJ14_siftDownComparable_3
def dkwJ14_siftDownComparable_1 : List UInt8 := [44, 21, 6, 50, 58, 7, 21, 6, 4, 96, 54, 8, 21, 8, 29, 162, 0, 29, 25, 7, 192, 0, 144, 44]
abbrev dktJ14_siftDownComparable_1 : List UInt8 := dkwJ14_siftDownComparable_1 ++ dktJ14_siftDownComparable_2
def dkwJ14_siftDownComparable_0 : List UInt8 := [43, 192, 0, 144, 58, 4, 29, 4, 124, 54, 5, 26, 21, 5, 162, 0, 80, 26, 4, 120, 4, 96, 54, 6]
abbrev dktJ14_siftDownComparable_0 : List UInt8 := dkwJ14_siftDownComparable_0 ++ dktJ14_siftDownComparable_1
theorem dksJ14_siftDownComparable_0 : cJ14_siftDownComparable.data.toList.drop 0 = dktJ14_siftDownComparable_0 := by decide +kernel
theorem dksJ14_siftDownComparable_1 : cJ14_siftDownComparable.data.toList.drop 24 = dktJ14_siftDownComparable_1 := dk_seg dksJ14_siftDownComparable_0 24 rfl rfl
theorem dksJ14_siftDownComparable_2 : cJ14_siftDownComparable.data.toList.drop 48 = dktJ14_siftDownComparable_2 := dk_seg dksJ14_siftDownComparable_1 24 rfl rfl
theorem dksJ14_siftDownComparable_3 : cJ14_siftDownComparable.data.toList.drop 72 = dktJ14_siftDownComparable_3 := dk_seg dksJ14_siftDownComparable_2 24 rfl rfl
theorem dksJ14_siftDownComparable_4 : cJ14_siftDownComparable.data.toList.drop 96 = dktJ14_siftDownComparable_4 := dk_seg dksJ14_siftDownComparable_3 24 rfl rfl
theorem dJ14_siftDownComparable_0 : decode cJ14_siftDownComparable 0 = .ok (.aload_n 1, 1) := dk_43 (dk_at dksJ14_siftDownComparable_0 0 rfl rfl)
theorem dJ14_siftDownComparable_1 : decode cJ14_siftDownComparable 1 = .ok (.checkcast 144, 3) := dk_192 0 144 (dk_at dksJ14_siftDownComparable_0 1 rfl rfl)
theorem dJ14_siftDownComparable_4 : decode cJ14_siftDownComparable 4 = .ok (.astore 4, 2) := dk_58 4 (dk_at dksJ14_siftDownComparable_0 4 rfl rfl)
theorem dJ14_siftDownComparable_6 : decode cJ14_siftDownComparable 6 = .ok (.iload_n 3, 1) := dk_29 (dk_at dksJ14_siftDownComparable_0 6 rfl rfl)
theorem dJ14_siftDownComparable_7 : decode cJ14_siftDownComparable 7 = .ok (.iconst 1, 1) := dk_4 (dk_at dksJ14_siftDownComparable_0 7 rfl rfl)
theorem dJ14_siftDownComparable_8 : decode cJ14_siftDownComparable 8 = .ok (.iushr, 1) := dk_124 (dk_at dksJ14_siftDownComparable_0 8 rfl rfl)
theorem dJ14_siftDownComparable_9 : decode cJ14_siftDownComparable 9 = .ok (.istore 5, 2) := dk_54 5 (dk_at dksJ14_siftDownComparable_0 9 rfl rfl)
theorem dJ14_siftDownComparable_11 : decode cJ14_siftDownComparable 11 = .ok (.iload_n 0, 1) := dk_26 (dk_at dksJ14_siftDownComparable_0 11 rfl rfl)
theorem dJ14_siftDownComparable_12 : decode cJ14_siftDownComparable 12 = .ok (.iload 5, 2) := dk_21 5 (dk_at dksJ14_siftDownComparable_0 12 rfl rfl)
theorem dJ14_siftDownComparable_14 : decode cJ14_siftDownComparable 14 = .ok (.if_icmp .ge 80, 3) := dk_162 0 80 (dk_at dksJ14_siftDownComparable_0 14 rfl rfl)
theorem dJ14_siftDownComparable_17 : decode cJ14_siftDownComparable 17 = .ok (.iload_n 0, 1) := dk_26 (dk_at dksJ14_siftDownComparable_0 17 rfl rfl)
theorem dJ14_siftDownComparable_18 : decode cJ14_siftDownComparable 18 = .ok (.iconst 1, 1) := dk_4 (dk_at dksJ14_siftDownComparable_0 18 rfl rfl)
theorem dJ14_siftDownComparable_19 : decode cJ14_siftDownComparable 19 = .ok (.ishl, 1) := dk_120 (dk_at dksJ14_siftDownComparable_0 19 rfl rfl)
theorem dJ14_siftDownComparable_20 : decode cJ14_siftDownComparable 20 = .ok (.iconst 1, 1) := dk_4 (dk_at dksJ14_siftDownComparable_0 20 rfl rfl)
theorem dJ14_siftDownComparable_21 : decode cJ14_siftDownComparable 21 = .ok (.iadd, 1) := dk_96 (dk_at dksJ14_siftDownComparable_0 21 rfl rfl)
theorem dJ14_siftDownComparable_22 : decode cJ14_siftDownComparable 22 = .ok (.istore 6, 2) := dk_54 6 (dk_at dksJ14_siftDownComparable_0 22 rfl rfl)
theorem dJ14_siftDownComparable_24 : decode cJ14_siftDownComparable 24 = .ok (.aload_n 2, 1) := dk_44 (dk_at dksJ14_siftDownComparable_1 0 rfl rfl)
theorem dJ14_siftDownComparable_25 : decode cJ14_siftDownComparable 25 = .ok (.iload 6, 2) := dk_21 6 (dk_at dksJ14_siftDownComparable_1 1 rfl rfl)
theorem dJ14_siftDownComparable_27 : decode cJ14_siftDownComparable 27 = .ok (.aaload, 1) := dk_50 (dk_at dksJ14_siftDownComparable_1 3 rfl rfl)
theorem dJ14_siftDownComparable_28 : decode cJ14_siftDownComparable 28 = .ok (.astore 7, 2) := dk_58 7 (dk_at dksJ14_siftDownComparable_1 4 rfl rfl)
theorem dJ14_siftDownComparable_30 : decode cJ14_siftDownComparable 30 = .ok (.iload 6, 2) := dk_21 6 (dk_at dksJ14_siftDownComparable_1 6 rfl rfl)
theorem dJ14_siftDownComparable_32 : decode cJ14_siftDownComparable 32 = .ok (.iconst 1, 1) := dk_4 (dk_at dksJ14_siftDownComparable_1 8 rfl rfl)
theorem dJ14_siftDownComparable_33 : decode cJ14_siftDownComparable 33 = .ok (.iadd, 1) := dk_96 (dk_at dksJ14_siftDownComparable_1 9 rfl rfl)
theorem dJ14_siftDownComparable_34 : decode cJ14_siftDownComparable 34 = .ok (.istore 8, 2) := dk_54 8 (dk_at dksJ14_siftDownComparable_1 10 rfl rfl)
theorem dJ14_siftDownComparable_36 : decode cJ14_siftDownComparable 36 = .ok (.iload 8, 2) := dk_21 8 (dk_at dksJ14_siftDownComparable_1 12 rfl rfl)
theorem dJ14_siftDownComparable_38 : decode cJ14_siftDownComparable 38 = .ok (.iload_n 3, 1) := dk_29 (dk_at dksJ14_siftDownComparable_1 14 rfl rfl)
theorem dJ14_siftDownComparable_39 : decode cJ14_siftDownComparable 39 = .ok (.if_icmp .ge 29, 3) := dk_162 0 29 (dk_at dksJ14_siftDownComparable_1 15 rfl rfl)
theorem dJ14_siftDownComparable_42 : decode cJ14_siftDownComparable 42 = .ok (.aload 7, 2) := dk_25 7 (dk_at dksJ14_siftDownComparable_1 18 rfl rfl)
theorem dJ14_siftDownComparable_44 : decode cJ14_siftDownComparable 44 = .ok (.checkcast 144, 3) := dk_192 0 144 (dk_at dksJ14_siftDownComparable_1 20 rfl rfl)
theorem dJ14_siftDownComparable_47 : decode cJ14_siftDownComparable 47 = .ok (.aload_n 2, 1) := dk_44 (dk_at dksJ14_siftDownComparable_1 23 rfl rfl)
theorem dJ14_siftDownComparable_48 : decode cJ14_siftDownComparable 48 = .ok (.iload 8, 2) := dk_21 8 (dk_at dksJ14_siftDownComparable_2 0 rfl rfl)
theorem dJ14_siftDownComparable_50 : decode cJ14_siftDownComparable 50 = .ok (.aaload, 1) := dk_50 (dk_at dksJ14_siftDownComparable_2 2 rfl rfl)
theorem dJ14_siftDownComparable_51 : decode cJ14_siftDownComparable 51 = .ok (.invokeinterface 146 2, 5) := by decide +kernel
theorem dJ14_siftDownComparable_56 : decode cJ14_siftDownComparable 56 = .ok (.ifCond .le 12, 3) := dk_158 0 12 (dk_at dksJ14_siftDownComparable_2 8 rfl rfl)
theorem dJ14_siftDownComparable_59 : decode cJ14_siftDownComparable 59 = .ok (.aload_n 2, 1) := dk_44 (dk_at dksJ14_siftDownComparable_2 11 rfl rfl)
theorem dJ14_siftDownComparable_60 : decode cJ14_siftDownComparable 60 = .ok (.iload 8, 2) := dk_21 8 (dk_at dksJ14_siftDownComparable_2 12 rfl rfl)
theorem dJ14_siftDownComparable_62 : decode cJ14_siftDownComparable 62 = .ok (.dup, 1) := dk_89 (dk_at dksJ14_siftDownComparable_2 14 rfl rfl)
theorem dJ14_siftDownComparable_63 : decode cJ14_siftDownComparable 63 = .ok (.istore 6, 2) := dk_54 6 (dk_at dksJ14_siftDownComparable_2 15 rfl rfl)
theorem dJ14_siftDownComparable_65 : decode cJ14_siftDownComparable 65 = .ok (.aaload, 1) := dk_50 (dk_at dksJ14_siftDownComparable_2 17 rfl rfl)
theorem dJ14_siftDownComparable_66 : decode cJ14_siftDownComparable 66 = .ok (.astore 7, 2) := dk_58 7 (dk_at dksJ14_siftDownComparable_2 18 rfl rfl)
theorem dJ14_siftDownComparable_68 : decode cJ14_siftDownComparable 68 = .ok (.aload 4, 2) := dk_25 4 (dk_at dksJ14_siftDownComparable_2 20 rfl rfl)
theorem dJ14_siftDownComparable_70 : decode cJ14_siftDownComparable 70 = .ok (.aload 7, 2) := dk_25 7 (dk_at dksJ14_siftDownComparable_2 22 rfl rfl)
theorem dJ14_siftDownComparable_72 : decode cJ14_siftDownComparable 72 = .ok (.invokeinterface 146 2, 5) := by decide +kernel
theorem dJ14_siftDownComparable_77 : decode cJ14_siftDownComparable 77 = .ok (.ifCond .gt 6, 3) := dk_157 0 6 (dk_at dksJ14_siftDownComparable_3 5 rfl rfl)
theorem dJ14_siftDownComparable_80 : decode cJ14_siftDownComparable 80 = .ok (.goto 14, 3) := dk_167 0 14 (dk_at dksJ14_siftDownComparable_3 8 rfl rfl)
theorem dJ14_siftDownComparable_83 : decode cJ14_siftDownComparable 83 = .ok (.aload_n 2, 1) := dk_44 (dk_at dksJ14_siftDownComparable_3 11 rfl rfl)
theorem dJ14_siftDownComparable_84 : decode cJ14_siftDownComparable 84 = .ok (.iload_n 0, 1) := dk_26 (dk_at dksJ14_siftDownComparable_3 12 rfl rfl)
theorem dJ14_siftDownComparable_85 : decode cJ14_siftDownComparable 85 = .ok (.aload 7, 2) := dk_25 7 (dk_at dksJ14_siftDownComparable_3 13 rfl rfl)
theorem dJ14_siftDownComparable_87 : decode cJ14_siftDownComparable 87 = .ok (.aastore, 1) := dk_83 (dk_at dksJ14_siftDownComparable_3 15 rfl rfl)
theorem dJ14_siftDownComparable_88 : decode cJ14_siftDownComparable 88 = .ok (.iload 6, 2) := dk_21 6 (dk_at dksJ14_siftDownComparable_3 16 rfl rfl)
theorem dJ14_siftDownComparable_90 : decode cJ14_siftDownComparable 90 = .ok (.istore_n 0, 1) := dk_59 (dk_at dksJ14_siftDownComparable_3 18 rfl rfl)
theorem dJ14_siftDownComparable_91 : decode cJ14_siftDownComparable 91 = .ok (.goto (-80), 3) := dk_167 255 176 (dk_at dksJ14_siftDownComparable_3 19 rfl rfl)
theorem dJ14_siftDownComparable_94 : decode cJ14_siftDownComparable 94 = .ok (.aload_n 2, 1) := dk_44 (dk_at dksJ14_siftDownComparable_3 22 rfl rfl)
theorem dJ14_siftDownComparable_95 : decode cJ14_siftDownComparable 95 = .ok (.iload_n 0, 1) := dk_26 (dk_at dksJ14_siftDownComparable_3 23 rfl rfl)
theorem dJ14_siftDownComparable_96 : decode cJ14_siftDownComparable 96 = .ok (.aload 4, 2) := dk_25 4 (dk_at dksJ14_siftDownComparable_4 0 rfl rfl)
theorem dJ14_siftDownComparable_98 : decode cJ14_siftDownComparable 98 = .ok (.aastore, 1) := dk_83 (dk_at dksJ14_siftDownComparable_4 2 rfl rfl)
theorem dJ14_siftDownComparable_99 : decode cJ14_siftDownComparable 99 = .ok (.return_, 1) := dk_177 (dk_at dksJ14_siftDownComparable_4 3 rfl rfl)
abbrev cJ14_siftDownUsingComparator : ByteArray := prog_58_method_32_code
def yJ14_siftDownUsingComparator : MethodName := ⟨RJ14, "siftDownUsingComparator", "(ILjava/lang/Object;[Ljava/lang/Object;ILjava/util/Comparator;)V"⟩
def dkwJ14_siftDownUsingComparator_4 : List UInt8 := [43, 83, 177]
abbrev dktJ14_siftDownUsingComparator_4 : List UInt8 := dkwJ14_siftDownUsingComparator_4 ++ []
def dkwJ14_siftDownUsingComparator_3 : List UInt8 := [185, 0, 149, 3, 0, 157, 0, 6, 167, 0, 14, 44, 26, 25, 7, 83, 21, 6, 59, 167, 255, 176, 44, 26]
abbrev dktJ14_siftDownUsingComparator_3 : List UInt8 := dkwJ14_siftDownUsingComparator_3 ++ dktJ14_siftDownUsingComparator_4
def dkwJ14_siftDownUsingComparator_2 : List UInt8 := [185, 0, 149, 3, 0, 158, 0, 12, 44, 21, 8, 89, 54, 6, 50, 58, 7, 25, 4, 43, 25, 7]
abbrev dktJ14_siftDownUsingComparator_2 : List UInt8 := dkwJ14_siftDownUsingComparator_2 ++ dktJ14_siftDownUsingComparator_3
def dkwJ14_siftDownUsingComparator_1 : List UInt8 := [21, 6, 4, 96, 54, 8, 21, 8, 29, 162, 0, 28, 25, 4, 25, 7, 44, 21, 8, 50]
abbrev dktJ14_siftDownUsingComparator_1 : List UInt8 := dkwJ14_siftDownUsingComparator_1 ++ dktJ14_siftDownUsingComparator_2
def dkwJ14_siftDownUsingComparator_0 : List UInt8 := [29, 4, 124, 54, 5, 26, 21, 5, 162, 0, 80, 26, 4, 120, 4, 96, 54, 6, 44, 21, 6, 50, 58, 7]
abbrev dktJ14_siftDownUsingComparator_0 : List UInt8 := dkwJ14_siftDownUsingComparator_0 ++ dktJ14_siftDownUsingComparator_1
theorem dksJ14_siftDownUsingComparator_0 : cJ14_siftDownUsingComparator.data.toList.drop 0 = dktJ14_siftDownUsingComparator_0 := by decide +kernel
theorem dksJ14_siftDownUsingComparator_1 : cJ14_siftDownUsingComparator.data.toList.drop 24 = dktJ14_siftDownUsingComparator_1 := dk_seg dksJ14_siftDownUsingComparator_0 24 rfl rfl
theorem dksJ14_siftDownUsingComparator_2 : cJ14_siftDownUsingComparator.data.toList.drop 44 = dktJ14_siftDownUsingComparator_2 := dk_seg dksJ14_siftDownUsingComparator_1 20 rfl rfl
theorem dksJ14_siftDownUsingComparator_3 : cJ14_siftDownUsingComparator.data.toList.drop 66 = dktJ14_siftDownUsingComparator_3 := dk_seg dksJ14_siftDownUsingComparator_2 22 rfl rfl
theorem dksJ14_siftDownUsingComparator_4 : cJ14_siftDownUsingComparator.data.toList.drop 90 = dktJ14_siftDownUsingComparator_4 := dk_seg dksJ14_siftDownUsingComparator_3 24 rfl rfl
theorem dJ14_siftDownUsingComparator_0 : decode cJ14_siftDownUsingComparator 0 = .ok (.iload_n 3, 1) := dk_29 (dk_at dksJ14_siftDownUsingComparator_0 0 rfl rfl)
theorem dJ14_siftDownUsingComparator_1 : decode cJ14_siftDownUsingComparator 1 = .ok (.iconst 1, 1) := dk_4 (dk_at dksJ14_siftDownUsingComparator_0 1 rfl rfl)
theorem dJ14_siftDownUsingComparator_2 : decode cJ14_siftDownUsingComparator 2 = .ok (.iushr, 1) := dk_124 (dk_at dksJ14_siftDownUsingComparator_0 2 rfl rfl)
theorem dJ14_siftDownUsingComparator_3 : decode cJ14_siftDownUsingComparator 3 = .ok (.istore 5, 2) := dk_54 5 (dk_at dksJ14_siftDownUsingComparator_0 3 rfl rfl)
theorem dJ14_siftDownUsingComparator_5 : decode cJ14_siftDownUsingComparator 5 = .ok (.iload_n 0, 1) := dk_26 (dk_at dksJ14_siftDownUsingComparator_0 5 rfl rfl)
theorem dJ14_siftDownUsingComparator_6 : decode cJ14_siftDownUsingComparator 6 = .ok (.iload 5, 2) := dk_21 5 (dk_at dksJ14_siftDownUsingComparator_0 6 rfl rfl)
theorem dJ14_siftDownUsingComparator_8 : decode cJ14_siftDownUsingComparator 8 = .ok (.if_icmp .ge 80, 3) := dk_162 0 80 (dk_at dksJ14_siftDownUsingComparator_0 8 rfl rfl)
theorem dJ14_siftDownUsingComparator_11 : decode cJ14_siftDownUsingComparator 11 = .ok (.iload_n 0, 1) := dk_26 (dk_at dksJ14_siftDownUsingComparator_0 11 rfl rfl)
theorem dJ14_siftDownUsingComparator_12 : decode cJ14_siftDownUsingComparator 12 = .ok (.iconst 1, 1) := dk_4 (dk_at dksJ14_siftDownUsingComparator_0 12 rfl rfl)
theorem dJ14_siftDownUsingComparator_13 : decode cJ14_siftDownUsingComparator 13 = .ok (.ishl, 1) := dk_120 (dk_at dksJ14_siftDownUsingComparator_0 13 rfl rfl)
theorem dJ14_siftDownUsingComparator_14 : decode cJ14_siftDownUsingComparator 14 = .ok (.iconst 1, 1) := dk_4 (dk_at dksJ14_siftDownUsingComparator_0 14 rfl rfl)
theorem dJ14_siftDownUsingComparator_15 : decode cJ14_siftDownUsingComparator 15 = .ok (.iadd, 1) := dk_96 (dk_at dksJ14_siftDownUsingComparator_0 15 rfl rfl)
theorem dJ14_siftDownUsingComparator_16 : decode cJ14_siftDownUsingComparator 16 = .ok (.istore 6, 2) := dk_54 6 (dk_at dksJ14_siftDownUsingComparator_0 16 rfl rfl)
theorem dJ14_siftDownUsingComparator_18 : decode cJ14_siftDownUsingComparator 18 = .ok (.aload_n 2, 1) := dk_44 (dk_at dksJ14_siftDownUsingComparator_0 18 rfl rfl)
theorem dJ14_siftDownUsingComparator_19 : decode cJ14_siftDownUsingComparator 19 = .ok (.iload 6, 2) := dk_21 6 (dk_at dksJ14_siftDownUsingComparator_0 19 rfl rfl)
theorem dJ14_siftDownUsingComparator_21 : decode cJ14_siftDownUsingComparator 21 = .ok (.aaload, 1) := dk_50 (dk_at dksJ14_siftDownUsingComparator_0 21 rfl rfl)
theorem dJ14_siftDownUsingComparator_22 : decode cJ14_siftDownUsingComparator 22 = .ok (.astore 7, 2) := dk_58 7 (dk_at dksJ14_siftDownUsingComparator_0 22 rfl rfl)
theorem dJ14_siftDownUsingComparator_24 : decode cJ14_siftDownUsingComparator 24 = .ok (.iload 6, 2) := dk_21 6 (dk_at dksJ14_siftDownUsingComparator_1 0 rfl rfl)
theorem dJ14_siftDownUsingComparator_26 : decode cJ14_siftDownUsingComparator 26 = .ok (.iconst 1, 1) := dk_4 (dk_at dksJ14_siftDownUsingComparator_1 2 rfl rfl)
theorem dJ14_siftDownUsingComparator_27 : decode cJ14_siftDownUsingComparator 27 = .ok (.iadd, 1) := dk_96 (dk_at dksJ14_siftDownUsingComparator_1 3 rfl rfl)
theorem dJ14_siftDownUsingComparator_28 : decode cJ14_siftDownUsingComparator 28 = .ok (.istore 8, 2) := dk_54 8 (dk_at dksJ14_siftDownUsingComparator_1 4 rfl rfl)
theorem dJ14_siftDownUsingComparator_30 : decode cJ14_siftDownUsingComparator 30 = .ok (.iload 8, 2) := dk_21 8 (dk_at dksJ14_siftDownUsingComparator_1 6 rfl rfl)
theorem dJ14_siftDownUsingComparator_32 : decode cJ14_siftDownUsingComparator 32 = .ok (.iload_n 3, 1) := dk_29 (dk_at dksJ14_siftDownUsingComparator_1 8 rfl rfl)
theorem dJ14_siftDownUsingComparator_33 : decode cJ14_siftDownUsingComparator 33 = .ok (.if_icmp .ge 28, 3) := dk_162 0 28 (dk_at dksJ14_siftDownUsingComparator_1 9 rfl rfl)
theorem dJ14_siftDownUsingComparator_36 : decode cJ14_siftDownUsingComparator 36 = .ok (.aload 4, 2) := dk_25 4 (dk_at dksJ14_siftDownUsingComparator_1 12 rfl rfl)
theorem dJ14_siftDownUsingComparator_38 : decode cJ14_siftDownUsingComparator 38 = .ok (.aload 7, 2) := dk_25 7 (dk_at dksJ14_siftDownUsingComparator_1 14 rfl rfl)
theorem dJ14_siftDownUsingComparator_40 : decode cJ14_siftDownUsingComparator 40 = .ok (.aload_n 2, 1) := dk_44 (dk_at dksJ14_siftDownUsingComparator_1 16 rfl rfl)
theorem dJ14_siftDownUsingComparator_41 : decode cJ14_siftDownUsingComparator 41 = .ok (.iload 8, 2) := dk_21 8 (dk_at dksJ14_siftDownUsingComparator_1 17 rfl rfl)
theorem dJ14_siftDownUsingComparator_43 : decode cJ14_siftDownUsingComparator 43 = .ok (.aaload, 1) := dk_50 (dk_at dksJ14_siftDownUsingComparator_1 19 rfl rfl)
theorem dJ14_siftDownUsingComparator_44 : decode cJ14_siftDownUsingComparator 44 = .ok (.invokeinterface 149 3, 5) := by decide +kernel
theorem dJ14_siftDownUsingComparator_49 : decode cJ14_siftDownUsingComparator 49 = .ok (.ifCond .le 12, 3) := dk_158 0 12 (dk_at dksJ14_siftDownUsingComparator_2 5 rfl rfl)
theorem dJ14_siftDownUsingComparator_52 : decode cJ14_siftDownUsingComparator 52 = .ok (.aload_n 2, 1) := dk_44 (dk_at dksJ14_siftDownUsingComparator_2 8 rfl rfl)
theorem dJ14_siftDownUsingComparator_53 : decode cJ14_siftDownUsingComparator 53 = .ok (.iload 8, 2) := dk_21 8 (dk_at dksJ14_siftDownUsingComparator_2 9 rfl rfl)
theorem dJ14_siftDownUsingComparator_55 : decode cJ14_siftDownUsingComparator 55 = .ok (.dup, 1) := dk_89 (dk_at dksJ14_siftDownUsingComparator_2 11 rfl rfl)
theorem dJ14_siftDownUsingComparator_56 : decode cJ14_siftDownUsingComparator 56 = .ok (.istore 6, 2) := dk_54 6 (dk_at dksJ14_siftDownUsingComparator_2 12 rfl rfl)
theorem dJ14_siftDownUsingComparator_58 : decode cJ14_siftDownUsingComparator 58 = .ok (.aaload, 1) := dk_50 (dk_at dksJ14_siftDownUsingComparator_2 14 rfl rfl)
theorem dJ14_siftDownUsingComparator_59 : decode cJ14_siftDownUsingComparator 59 = .ok (.astore 7, 2) := dk_58 7 (dk_at dksJ14_siftDownUsingComparator_2 15 rfl rfl)
theorem dJ14_siftDownUsingComparator_61 : decode cJ14_siftDownUsingComparator 61 = .ok (.aload 4, 2) := dk_25 4 (dk_at dksJ14_siftDownUsingComparator_2 17 rfl rfl)
theorem dJ14_siftDownUsingComparator_63 : decode cJ14_siftDownUsingComparator 63 = .ok (.aload_n 1, 1) := dk_43 (dk_at dksJ14_siftDownUsingComparator_2 19 rfl rfl)
theorem dJ14_siftDownUsingComparator_64 : decode cJ14_siftDownUsingComparator 64 = .ok (.aload 7, 2) := dk_25 7 (dk_at dksJ14_siftDownUsingComparator_2 20 rfl rfl)
theorem dJ14_siftDownUsingComparator_66 : decode cJ14_siftDownUsingComparator 66 = .ok (.invokeinterface 149 3, 5) := by decide +kernel
theorem dJ14_siftDownUsingComparator_71 : decode cJ14_siftDownUsingComparator 71 = .ok (.ifCond .gt 6, 3) := dk_157 0 6 (dk_at dksJ14_siftDownUsingComparator_3 5 rfl rfl)
theorem dJ14_siftDownUsingComparator_74 : decode cJ14_siftDownUsingComparator 74 = .ok (.goto 14, 3) := dk_167 0 14 (dk_at dksJ14_siftDownUsingComparator_3 8 rfl rfl)
theorem dJ14_siftDownUsingComparator_77 : decode cJ14_siftDownUsingComparator 77 = .ok (.aload_n 2, 1) := dk_44 (dk_at dksJ14_siftDownUsingComparator_3 11 rfl rfl)
theorem dJ14_siftDownUsingComparator_78 : decode cJ14_siftDownUsingComparator 78 = .ok (.iload_n 0, 1) := dk_26 (dk_at dksJ14_siftDownUsingComparator_3 12 rfl rfl)
theorem dJ14_siftDownUsingComparator_79 : decode cJ14_siftDownUsingComparator 79 = .ok (.aload 7, 2) := dk_25 7 (dk_at dksJ14_siftDownUsingComparator_3 13 rfl rfl)
theorem dJ14_siftDownUsingComparator_81 : decode cJ14_siftDownUsingComparator 81 = .ok (.aastore, 1) := dk_83 (dk_at dksJ14_siftDownUsingComparator_3 15 rfl rfl)
theorem dJ14_siftDownUsingComparator_82 : decode cJ14_siftDownUsingComparator 82 = .ok (.iload 6, 2) := dk_21 6 (dk_at dksJ14_siftDownUsingComparator_3 16 rfl rfl)
theorem dJ14_siftDownUsingComparator_84 : decode cJ14_siftDownUsingComparator 84 = .ok (.istore_n 0, 1) := dk_59 (dk_at dksJ14_siftDownUsingComparator_3 18 rfl rfl)
theorem dJ14_siftDownUsingComparator_85 : decode cJ14_siftDownUsingComparator 85 = .ok (.goto (-80), 3) := dk_167 255 176 (dk_at dksJ14_siftDownUsingComparator_3 19 rfl rfl)
theorem dJ14_siftDownUsingComparator_88 : decode cJ14_siftDownUsingComparator 88 = .ok (.aload_n 2, 1) := dk_44 (dk_at dksJ14_siftDownUsingComparator_3 22 rfl rfl)
theorem dJ14_siftDownUsingComparator_89 : decode cJ14_siftDownUsingComparator 89 = .ok (.iload_n 0, 1) := dk_26 (dk_at dksJ14_siftDownUsingComparator_3 23 rfl rfl)
theorem dJ14_siftDownUsingComparator_90 : decode cJ14_siftDownUsingComparator 90 = .ok (.aload_n 1, 1) := dk_43 (dk_at dksJ14_siftDownUsingComparator_4 0 rfl rfl)
theorem dJ14_siftDownUsingComparator_91 : decode cJ14_siftDownUsingComparator 91 = .ok (.aastore, 1) := dk_83 (dk_at dksJ14_siftDownUsingComparator_4 1 rfl rfl)
theorem dJ14_siftDownUsingComparator_92 : decode cJ14_siftDownUsingComparator 92 = .ok (.return_, 1) := dk_177 (dk_at dksJ14_siftDownUsingComparator_4 2 rfl rfl)
theorem q92 : (Jvm.Cond.initialized "java/util/PriorityQueue") ∈ lw_all := lw_g (lw_at lw_m1 24 rfl) rfl
theorem q699 : (Jvm.Cond.instantiable "java/util/PriorityQueue" (4 : Nat)) ∈ lw_all := lw_g (lw_at lw_m3 151 rfl) rfl
theorem q708 : (Jvm.Cond.instanceMethod ({ cls := "java/util/PriorityQueue", name := "<init>", desc := "(ILjava/util/Comparator;)V" } : Jvm.MethodName)) ∈ lw_all := lw_g (lw_at lw_m3 160 rfl) rfl
theorem q709 : (Jvm.Cond.code ({ cls := "java/util/PriorityQueue", name := "<init>", desc := "(ILjava/util/Comparator;)V" } : Jvm.MethodName) prog_58_method_4_code (3 : Nat) (Option.none : Option Jvm.ClassFile.FieldType)) ∈ lw_all := lw_g (lw_at lw_m3 161 rfl) rfl
theorem q710 : (Jvm.Cond.methodLink "java/util/PriorityQueue" (7 : Nat) ({ cls := "java/util/AbstractQueue", name := "<init>", desc := "()V" } : Jvm.MethodName)) ∈ lw_all := lw_g (lw_at lw_m3 162 rfl) rfl
theorem q714 : (Jvm.Cond.classLink "java/util/PriorityQueue" (15 : Nat) "java/lang/Object") ∈ lw_all := lw_g (lw_at lw_m3 166 rfl) rfl
theorem q716 : (Jvm.Cond.fieldLink "java/util/PriorityQueue" (17 : Nat) "java/util/PriorityQueue" "queue" "[Ljava/lang/Object;") ∈ lw_all := lw_g (lw_at lw_m3 168 rfl) rfl
theorem q717 : (Jvm.Cond.fieldLink "java/util/PriorityQueue" (58 : Nat) "java/util/PriorityQueue" "size" "I") ∈ lw_all := lw_g (lw_at lw_m3 169 rfl) rfl
theorem q718 : (Jvm.Cond.fieldLink "java/util/PriorityQueue" (21 : Nat) "java/util/PriorityQueue" "comparator" "Ljava/util/Comparator;") ∈ lw_all := lw_g (lw_at lw_m3 170 rfl) rfl
theorem q719 : (Jvm.Cond.fieldLink "java/util/PriorityQueue" (93 : Nat) "java/util/PriorityQueue" "modCount" "I") ∈ lw_all := lw_g (lw_at lw_m3 171 rfl) rfl
theorem q720 : (Jvm.Cond.lays "java/util/PriorityQueue" "java/util/PriorityQueue" "queue" "[Ljava/lang/Object;") ∈ lw_all := lw_g (lw_at lw_m3 172 rfl) rfl
theorem q721 : (Jvm.Cond.soleField "java/util/PriorityQueue" "queue") ∈ lw_all := lw_g (lw_at lw_m3 173 rfl) rfl
theorem q722 : (Jvm.Cond.lays "java/util/PriorityQueue" "java/util/PriorityQueue" "size" "I") ∈ lw_all := lw_g (lw_at lw_m3 174 rfl) rfl
theorem q723 : (Jvm.Cond.soleField "java/util/PriorityQueue" "size") ∈ lw_all := lw_g (lw_at lw_m3 175 rfl) rfl
theorem q724 : (Jvm.Cond.laysFinal "java/util/PriorityQueue" "java/util/PriorityQueue" "comparator" "Ljava/util/Comparator;") ∈ lw_all := lw_g (lw_at lw_m3 176 rfl) rfl
theorem q725 : (Jvm.Cond.soleField "java/util/PriorityQueue" "comparator") ∈ lw_all := lw_g (lw_at lw_m3 177 rfl) rfl
theorem q726 : (Jvm.Cond.lays "java/util/PriorityQueue" "java/util/PriorityQueue" "modCount" "I") ∈ lw_all := lw_g (lw_at lw_m3 178 rfl) rfl
theorem q727 : (Jvm.Cond.soleField "java/util/PriorityQueue" "modCount") ∈ lw_all := lw_g (lw_at lw_m3 179 rfl) rfl
theorem q728 : (Jvm.Cond.superclass "java/util/PriorityQueue" "java/util/AbstractQueue") ∈ lw_all := lw_g (lw_at lw_m3 180 rfl) rfl
theorem q730 : (Jvm.Cond.instanceMethod ({ cls := "java/util/PriorityQueue", name := "add", desc := "(Ljava/lang/Object;)Z" } : Jvm.MethodName)) ∈ lw_all := lw_g (lw_at lw_m3 182 rfl) rfl
theorem q731 : (Jvm.Cond.selects "java/util/PriorityQueue" ({ cls := "java/util/PriorityQueue", name := "add", desc := "(Ljava/lang/Object;)Z" } : Jvm.MethodName) ({ cls := "java/util/PriorityQueue", name := "add", desc := "(Ljava/lang/Object;)Z" } : Jvm.MethodName)) ∈ lw_all := lw_g (lw_at lw_m3 183 rfl) rfl
theorem q732 : (Jvm.Cond.code ({ cls := "java/util/PriorityQueue", name := "add", desc := "(Ljava/lang/Object;)Z" } : Jvm.MethodName) prog_58_method_13_code (2 : Nat) (Option.some Jvm.ClassFile.FieldType.boolean)) ∈ lw_all := lw_g (lw_at lw_m3 184 rfl) rfl
theorem q733 : (Jvm.Cond.methodLink "java/util/PriorityQueue" (89 : Nat) ({ cls := "java/util/PriorityQueue", name := "offer", desc := "(Ljava/lang/Object;)Z" } : Jvm.MethodName)) ∈ lw_all := lw_g (lw_at lw_m3 185 rfl) rfl
theorem q734 : (Jvm.Cond.instanceMethod ({ cls := "java/util/PriorityQueue", name := "offer", desc := "(Ljava/lang/Object;)Z" } : Jvm.MethodName)) ∈ lw_all := lw_g (lw_at lw_m3 186 rfl) rfl
theorem q735 : (Jvm.Cond.selects "java/util/PriorityQueue" ({ cls := "java/util/PriorityQueue", name := "offer", desc := "(Ljava/lang/Object;)Z" } : Jvm.MethodName) ({ cls := "java/util/PriorityQueue", name := "offer", desc := "(Ljava/lang/Object;)Z" } : Jvm.MethodName)) ∈ lw_all := lw_g (lw_at lw_m3 187 rfl) rfl
theorem q736 : (Jvm.Cond.code ({ cls := "java/util/PriorityQueue", name := "offer", desc := "(Ljava/lang/Object;)Z" } : Jvm.MethodName) prog_58_method_14_code (3 : Nat) (Option.some Jvm.ClassFile.FieldType.boolean)) ∈ lw_all := lw_g (lw_at lw_m3 188 rfl) rfl
theorem q737 : (Jvm.Cond.classLink "java/util/PriorityQueue" (74 : Nat) "java/lang/NullPointerException") ∈ lw_all := lw_g (lw_at lw_m3 189 rfl) rfl
theorem q745 : (Jvm.Cond.methodLink "java/util/PriorityQueue" (76 : Nat) ({ cls := "java/lang/NullPointerException", name := "<init>", desc := "()V" } : Jvm.MethodName)) ∈ lw_all := lw_g (lw_at lw_m3 197 rfl) rfl
theorem q756 : (Jvm.Cond.methodLink "java/util/PriorityQueue" (96 : Nat) ({ cls := "java/util/PriorityQueue", name := "grow", desc := "(I)V" } : Jvm.MethodName)) ∈ lw_all := lw_g (lw_at lw_m3 208 rfl) rfl
theorem q757 : (Jvm.Cond.privateMethod ({ cls := "java/util/PriorityQueue", name := "grow", desc := "(I)V" } : Jvm.MethodName)) ∈ lw_tbl := lw_at lw_m3 209 rfl
theorem q758 : (Jvm.Cond.instanceMethod ({ cls := "java/util/PriorityQueue", name := "grow", desc := "(I)V" } : Jvm.MethodName)) ∈ lw_all := lw_g (lw_at lw_m3 210 rfl) rfl
theorem q759 : (Jvm.Cond.code ({ cls := "java/util/PriorityQueue", name := "grow", desc := "(I)V" } : Jvm.MethodName) prog_58_method_12_code (4 : Nat) (Option.none : Option Jvm.ClassFile.FieldType)) ∈ lw_all := lw_g (lw_at lw_m3 211 rfl) rfl
theorem q760 : (Jvm.Cond.methodLink "java/util/PriorityQueue" (80 : Nat) ({ cls := "jdk/internal/util/ArraysSupport", name := "newLength", desc := "(III)I" } : Jvm.MethodName)) ∈ lw_all := lw_g (lw_at lw_m3 212 rfl) rfl
theorem q770 : (Jvm.Cond.methodLink "java/util/PriorityQueue" (86 : Nat) ({ cls := "java/util/Arrays", name := "copyOf", desc := "([Ljava/lang/Object;I)[Ljava/lang/Object;" } : Jvm.MethodName)) ∈ lw_all := lw_g (lw_at lw_m3 222 rfl) rfl
theorem q793 : (Jvm.Cond.selects "java/util/PriorityQueue" ({ cls := "java/lang/Object", name := "getClass", desc := "()Ljava/lang/Class;" } : Jvm.MethodName) ({ cls := "java/lang/Object", name := "getClass", desc := "()Ljava/lang/Class;" } : Jvm.MethodName)) ∈ lw_all := lw_g (lw_at lw_m4 5 rfl) rfl
theorem q812 : (Jvm.Cond.methodLink "java/util/PriorityQueue" (100 : Nat) ({ cls := "java/util/PriorityQueue", name := "siftUp", desc := "(ILjava/lang/Object;)V" } : Jvm.MethodName)) ∈ lw_all := lw_g (lw_at lw_m4 24 rfl) rfl
theorem q813 : (Jvm.Cond.privateMethod ({ cls := "java/util/PriorityQueue", name := "siftUp", desc := "(ILjava/lang/Object;)V" } : Jvm.MethodName)) ∈ lw_tbl := lw_at lw_m4 25 rfl
theorem q814 : (Jvm.Cond.instanceMethod ({ cls := "java/util/PriorityQueue", name := "siftUp", desc := "(ILjava/lang/Object;)V" } : Jvm.MethodName)) ∈ lw_all := lw_g (lw_at lw_m4 26 rfl) rfl
theorem q815 : (Jvm.Cond.code ({ cls := "java/util/PriorityQueue", name := "siftUp", desc := "(ILjava/lang/Object;)V" } : Jvm.MethodName) prog_58_method_27_code (3 : Nat) (Option.none : Option Jvm.ClassFile.FieldType)) ∈ lw_all := lw_g (lw_at lw_m4 27 rfl) rfl
theorem q816 : (Jvm.Cond.methodLink "java/util/PriorityQueue" (136 : Nat) ({ cls := "java/util/PriorityQueue", name := "siftUpUsingComparator", desc := "(ILjava/lang/Object;[Ljava/lang/Object;Ljava/util/Comparator;)V" } : Jvm.MethodName)) ∈ lw_all := lw_g (lw_at lw_m4 28 rfl) rfl
theorem q817 : (Jvm.Cond.static ({ cls := "java/util/PriorityQueue", name := "siftUpUsingComparator", desc := "(ILjava/lang/Object;[Ljava/lang/Object;Ljava/util/Comparator;)V" } : Jvm.MethodName)) ∈ lw_all := lw_g (lw_at lw_m4 29 rfl) rfl
theorem q818 : (Jvm.Cond.code ({ cls := "java/util/PriorityQueue", name := "siftUpUsingComparator", desc := "(ILjava/lang/Object;[Ljava/lang/Object;Ljava/util/Comparator;)V" } : Jvm.MethodName) prog_58_method_29_code (6 : Nat) (Option.none : Option Jvm.ClassFile.FieldType)) ∈ lw_all := lw_g (lw_at lw_m4 30 rfl) rfl
theorem q819 : (Jvm.Cond.interfaceEntry "java/util/PriorityQueue" (149 : Nat)) ∈ lw_tbl := lw_at lw_m4 31 rfl
theorem q820 : (Jvm.Cond.methodLink "java/util/PriorityQueue" (149 : Nat) ({ cls := "java/util/Comparator", name := "compare", desc := "(Ljava/lang/Object;Ljava/lang/Object;)I" } : Jvm.MethodName)) ∈ lw_all := lw_g (lw_at lw_m4 32 rfl) rfl
theorem q837 : (Jvm.Cond.methodLink "java/util/PriorityQueue" (140 : Nat) ({ cls := "java/util/PriorityQueue", name := "siftUpComparable", desc := "(ILjava/lang/Object;[Ljava/lang/Object;)V" } : Jvm.MethodName)) ∈ lw_all := lw_g (lw_at lw_m4 49 rfl) rfl
theorem q838 : (Jvm.Cond.static ({ cls := "java/util/PriorityQueue", name := "siftUpComparable", desc := "(ILjava/lang/Object;[Ljava/lang/Object;)V" } : Jvm.MethodName)) ∈ lw_all := lw_g (lw_at lw_m4 50 rfl) rfl
theorem q839 : (Jvm.Cond.code ({ cls := "java/util/PriorityQueue", name := "siftUpComparable", desc := "(ILjava/lang/Object;[Ljava/lang/Object;)V" } : Jvm.MethodName) prog_58_method_28_code (6 : Nat) (Option.none : Option Jvm.ClassFile.FieldType)) ∈ lw_all := lw_g (lw_at lw_m4 51 rfl) rfl
theorem q840 : (Jvm.Cond.classLink "java/util/PriorityQueue" (144 : Nat) "java/lang/Comparable") ∈ lw_all := lw_g (lw_at lw_m4 52 rfl) rfl
theorem q841 : (Jvm.Cond.interfaceEntry "java/util/PriorityQueue" (146 : Nat)) ∈ lw_tbl := lw_at lw_m4 53 rfl
theorem q842 : (Jvm.Cond.methodLink "java/util/PriorityQueue" (146 : Nat) ({ cls := "java/lang/Comparable", name := "compareTo", desc := "(Ljava/lang/Object;)I" } : Jvm.MethodName)) ∈ lw_all := lw_g (lw_at lw_m4 54 rfl) rfl
theorem q1076 : (Jvm.Cond.sameMethod "java/util/PriorityQueue" "java/util/AbstractQueue" "remove" "()Ljava/lang/Object;") ∈ lw_all := lw_g (lw_at lw_m5 48 rfl) rfl
theorem q1078 : (Jvm.Cond.selects "java/util/PriorityQueue" ({ cls := "java/util/PriorityQueue", name := "remove", desc := "()Ljava/lang/Object;" } : Jvm.MethodName) ({ cls := "java/util/AbstractQueue", name := "remove", desc := "()Ljava/lang/Object;" } : Jvm.MethodName)) ∈ lw_all := lw_g (lw_at lw_m5 50 rfl) rfl
theorem q1083 : (Jvm.Cond.selects "java/util/PriorityQueue" ({ cls := "java/util/Queue", name := "poll", desc := "()Ljava/lang/Object;" } : Jvm.MethodName) ({ cls := "java/util/PriorityQueue", name := "poll", desc := "()Ljava/lang/Object;" } : Jvm.MethodName)) ∈ lw_all := lw_g (lw_at lw_m5 55 rfl) rfl
theorem q1084 : (Jvm.Cond.instanceMethod ({ cls := "java/util/PriorityQueue", name := "poll", desc := "()Ljava/lang/Object;" } : Jvm.MethodName)) ∈ lw_all := lw_g (lw_at lw_m5 56 rfl) rfl
theorem q1085 : (Jvm.Cond.code ({ cls := "java/util/PriorityQueue", name := "poll", desc := "()Ljava/lang/Object;" } : Jvm.MethodName) prog_58_method_25_code (6 : Nat) (Option.some (Jvm.ClassFile.FieldType.object "java/lang/Object"))) ∈ lw_all := lw_g (lw_at lw_m5 57 rfl) rfl
theorem q1086 : (Jvm.Cond.methodLink "java/util/PriorityQueue" (125 : Nat) ({ cls := "java/util/PriorityQueue", name := "siftDownComparable", desc := "(ILjava/lang/Object;[Ljava/lang/Object;I)V" } : Jvm.MethodName)) ∈ lw_all := lw_g (lw_at lw_m5 58 rfl) rfl
theorem q1087 : (Jvm.Cond.static ({ cls := "java/util/PriorityQueue", name := "siftDownComparable", desc := "(ILjava/lang/Object;[Ljava/lang/Object;I)V" } : Jvm.MethodName)) ∈ lw_all := lw_g (lw_at lw_m5 59 rfl) rfl
theorem q1088 : (Jvm.Cond.code ({ cls := "java/util/PriorityQueue", name := "siftDownComparable", desc := "(ILjava/lang/Object;[Ljava/lang/Object;I)V" } : Jvm.MethodName) prog_58_method_31_code (9 : Nat) (Option.none : Option Jvm.ClassFile.FieldType)) ∈ lw_all := lw_g (lw_at lw_m5 60 rfl) rfl
theorem q1089 : (Jvm.Cond.methodLink "java/util/PriorityQueue" (129 : Nat) ({ cls := "java/util/PriorityQueue", name := "siftDownUsingComparator", desc := "(ILjava/lang/Object;[Ljava/lang/Object;ILjava/util/Comparator;)V" } : Jvm.MethodName)) ∈ lw_all := lw_g (lw_at lw_m5 61 rfl) rfl
theorem q1090 : (Jvm.Cond.static ({ cls := "java/util/PriorityQueue", name := "siftDownUsingComparator", desc := "(ILjava/lang/Object;[Ljava/lang/Object;ILjava/util/Comparator;)V" } : Jvm.MethodName)) ∈ lw_all := lw_g (lw_at lw_m5 62 rfl) rfl
theorem q1091 : (Jvm.Cond.code ({ cls := "java/util/PriorityQueue", name := "siftDownUsingComparator", desc := "(ILjava/lang/Object;[Ljava/lang/Object;ILjava/util/Comparator;)V" } : Jvm.MethodName) prog_58_method_32_code (9 : Nat) (Option.none : Option Jvm.ClassFile.FieldType)) ∈ lw_all := lw_g (lw_at lw_m5 63 rfl) rfl
theorem q2374 : (Jvm.Cond.castable "java/util/PriorityQueue" "java/lang/Object") ∈ lw_tbl := lw_at lw_m10 146 rfl
theorem in_J14 : ∀ w ∈ wsJ140, w ∈ lw_all := lw_in wsJ140 [720, 722, 724, 726] (by decide +kernel) (by decide +kernel)
/-! java/lang/NullPointerException -/
set_option maxRecDepth 100000
def RJ15 : String := "java/lang/NullPointerException"
def TJ15 : u_T := fun k => match k with
  | 0 => ("java/lang/Throwable", "cause", "Ljava/lang/Throwable;", false)
  | 1 => ("java/lang/Throwable", "stackTrace", "[Ljava/lang/StackTraceElement;", false)
  | 2 => ("java/lang/Throwable", "suppressedExceptions", "Ljava/util/List;", false)
  | 3 => ("java/lang/Throwable", "detailMessage", "Ljava/lang/String;", false)
  | 4 => ("java/lang/Throwable", "backtrace", "Ljava/lang/Object;", false)
  | 5 => ("java/lang/Throwable", "depth", "I", false)
  | 6 => ("java/lang/NullPointerException", "extendedMessageState", "I", false)
  | _ => ("java/lang/NullPointerException", "extendedMessage", "Ljava/lang/String;", false)
def tyJ15 : Nat → FieldType := fun k => match k with
  | 0 => .object "java/lang/Throwable"
  | 1 => .array (.object "java/lang/StackTraceElement")
  | 2 => .object "java/util/List"
  | 3 => .object "java/lang/String"
  | 4 => .object "java/lang/Object"
  | 5 => .int
  | 6 => .int
  | _ => .object "java/lang/String"
abbrev wsJ150 : List Cond := u_ws RJ15 TJ15 8
theorem nmJ15 : ∀ a, a < 8 → ∀ b, b < 8 → a ≠ b → (TJ15 a).2.1 ≠ (TJ15 b).2.1 := by decide +kernel
theorem tyJ15_ok : ∀ k, k < 8 → parseFieldDescriptor (TJ15 k).2.2.1 = some (tyJ15 k) := by decide +kernel
abbrev cJ15_init : ByteArray := prog_31_method_1_code
def yJ15_init : MethodName := ⟨RJ15, "<init>", "()V"⟩
theorem dJ15_init_0 : decode cJ15_init 0 = .ok (.aload_n 0, 1) := by decide +kernel
theorem dJ15_init_1 : decode cJ15_init 1 = .ok (.invokespecial 1, 3) := by decide +kernel
theorem dJ15_init_4 : decode cJ15_init 4 = .ok (.return_, 1) := by decide +kernel
theorem q94 : (Jvm.Cond.initialized "java/lang/NullPointerException") ∈ lw_all := lw_g (lw_at lw_m1 26 rfl) rfl
theorem q295 : (Jvm.Cond.selects "java/lang/NullPointerException" ({ cls := "java/lang/Throwable", name := "fillInStackTrace", desc := "()Ljava/lang/Throwable;" } : Jvm.MethodName) ({ cls := "java/lang/NullPointerException", name := "fillInStackTrace", desc := "()Ljava/lang/Throwable;" } : Jvm.MethodName)) ∈ lw_all := lw_g (lw_at lw_m1 227 rfl) rfl
theorem q296 : (Jvm.Cond.instanceMethod ({ cls := "java/lang/NullPointerException", name := "fillInStackTrace", desc := "()Ljava/lang/Throwable;" } : Jvm.MethodName)) ∈ lw_all := lw_g (lw_at lw_m1 228 rfl) rfl
theorem q297 : (Jvm.Cond.codeSync ({ cls := "java/lang/NullPointerException", name := "fillInStackTrace", desc := "()Ljava/lang/Throwable;" } : Jvm.MethodName) prog_31_method_3_code (1 : Nat) (Option.some (Jvm.ClassFile.FieldType.object "java/lang/Throwable"))) ∈ lw_all := lw_g (lw_at lw_m1 229 rfl) rfl
theorem q298 : (Jvm.Cond.methodLink "java/lang/NullPointerException" (16 : Nat) ({ cls := "java/lang/NullPointerException", name := "getExtendedNPEMessage", desc := "()Ljava/lang/String;" } : Jvm.MethodName)) ∈ lw_all := lw_g (lw_at lw_m1 230 rfl) rfl
theorem q299 : (Jvm.Cond.privateMethod ({ cls := "java/lang/NullPointerException", name := "getExtendedNPEMessage", desc := "()Ljava/lang/String;" } : Jvm.MethodName)) ∈ lw_tbl := lw_at lw_m1 231 rfl
theorem q300 : (Jvm.Cond.instanceMethod ({ cls := "java/lang/NullPointerException", name := "getExtendedNPEMessage", desc := "()Ljava/lang/String;" } : Jvm.MethodName)) ∈ lw_all := lw_g (lw_at lw_m1 232 rfl) rfl
theorem q301 : (Jvm.Cond.instantiable "java/lang/NullPointerException" (8 : Nat)) ∈ lw_all := lw_g (lw_at lw_m1 233 rfl) rfl
theorem q302 : (Jvm.Cond.native ({ cls := "java/lang/NullPointerException", name := "getExtendedNPEMessage", desc := "()Ljava/lang/String;" } : Jvm.MethodName)) ∈ lw_all := lw_g (lw_at lw_m1 234 rfl) rfl
theorem q303 : (Jvm.Cond.methodLink "java/lang/NullPointerException" (24 : Nat) ({ cls := "java/lang/RuntimeException", name := "fillInStackTrace", desc := "()Ljava/lang/Throwable;" } : Jvm.MethodName)) ∈ lw_all := lw_g (lw_at lw_m1 235 rfl) rfl
theorem q306 : (Jvm.Cond.superclass "java/lang/NullPointerException" "java/lang/RuntimeException") ∈ lw_all := lw_g (lw_at lw_m1 238 rfl) rfl
theorem q738 : (Jvm.Cond.castable "java/lang/NullPointerException" "java/lang/NullPointerException") ∈ lw_tbl := lw_at lw_m3 190 rfl
theorem q739 : (Jvm.Cond.selects "java/lang/NullPointerException" ({ cls := "java/lang/Throwable", name := "fillInStackTrace", desc := "(I)Ljava/lang/Throwable;" } : Jvm.MethodName) ({ cls := "java/lang/Throwable", name := "fillInStackTrace", desc := "(I)Ljava/lang/Throwable;" } : Jvm.MethodName)) ∈ lw_all := lw_g (lw_at lw_m3 191 rfl) rfl
theorem q740 : (Jvm.Cond.lays "java/lang/NullPointerException" "java/lang/Throwable" "cause" "Ljava/lang/Throwable;") ∈ lw_all := lw_g (lw_at lw_m3 192 rfl) rfl
theorem q741 : (Jvm.Cond.lays "java/lang/NullPointerException" "java/lang/Throwable" "stackTrace" "[Ljava/lang/StackTraceElement;") ∈ lw_all := lw_g (lw_at lw_m3 193 rfl) rfl
theorem q742 : (Jvm.Cond.lays "java/lang/NullPointerException" "java/lang/Throwable" "suppressedExceptions" "Ljava/util/List;") ∈ lw_all := lw_g (lw_at lw_m3 194 rfl) rfl
theorem q743 : (Jvm.Cond.lays "java/lang/NullPointerException" "java/lang/Throwable" "detailMessage" "Ljava/lang/String;") ∈ lw_all := lw_g (lw_at lw_m3 195 rfl) rfl
theorem q744 : (Jvm.Cond.lays "java/lang/NullPointerException" "java/lang/Throwable" "backtrace" "Ljava/lang/Object;") ∈ lw_all := lw_g (lw_at lw_m3 196 rfl) rfl
theorem q746 : (Jvm.Cond.instanceMethod ({ cls := "java/lang/NullPointerException", name := "<init>", desc := "()V" } : Jvm.MethodName)) ∈ lw_all := lw_g (lw_at lw_m3 198 rfl) rfl
theorem q747 : (Jvm.Cond.code ({ cls := "java/lang/NullPointerException", name := "<init>", desc := "()V" } : Jvm.MethodName) prog_31_method_1_code (1 : Nat) (Option.none : Option Jvm.ClassFile.FieldType)) ∈ lw_all := lw_g (lw_at lw_m3 199 rfl) rfl
theorem q748 : (Jvm.Cond.methodLink "java/lang/NullPointerException" (1 : Nat) ({ cls := "java/lang/RuntimeException", name := "<init>", desc := "()V" } : Jvm.MethodName)) ∈ lw_all := lw_g (lw_at lw_m3 200 rfl) rfl
theorem q749 : (Jvm.Cond.fieldLink "java/lang/NullPointerException" (10 : Nat) "java/lang/NullPointerException" "extendedMessageState" "I") ∈ lw_all := lw_g (lw_at lw_m3 201 rfl) rfl
theorem q750 : (Jvm.Cond.fieldLink "java/lang/NullPointerException" (20 : Nat) "java/lang/NullPointerException" "extendedMessage" "Ljava/lang/String;") ∈ lw_all := lw_g (lw_at lw_m3 202 rfl) rfl
theorem q751 : (Jvm.Cond.lays "java/lang/NullPointerException" "java/lang/NullPointerException" "extendedMessageState" "I") ∈ lw_all := lw_g (lw_at lw_m3 203 rfl) rfl
theorem q752 : (Jvm.Cond.soleField "java/lang/NullPointerException" "extendedMessageState") ∈ lw_all := lw_g (lw_at lw_m3 204 rfl) rfl
theorem q753 : (Jvm.Cond.lays "java/lang/NullPointerException" "java/lang/NullPointerException" "extendedMessage" "Ljava/lang/String;") ∈ lw_all := lw_g (lw_at lw_m3 205 rfl) rfl
theorem q754 : (Jvm.Cond.soleField "java/lang/NullPointerException" "extendedMessage") ∈ lw_all := lw_g (lw_at lw_m3 206 rfl) rfl
theorem q755 : (Jvm.Cond.lays "java/lang/NullPointerException" "java/lang/Throwable" "depth" "I") ∈ lw_all := lw_g (lw_at lw_m3 207 rfl) rfl
theorem q790 : (Jvm.Cond.selects "java/lang/NullPointerException" ({ cls := "java/lang/Object", name := "getClass", desc := "()Ljava/lang/Class;" } : Jvm.MethodName) ({ cls := "java/lang/Object", name := "getClass", desc := "()Ljava/lang/Class;" } : Jvm.MethodName)) ∈ lw_all := lw_g (lw_at lw_m4 2 rfl) rfl
theorem q2376 : (Jvm.Cond.castable "java/lang/NullPointerException" "java/lang/Object") ∈ lw_tbl := lw_at lw_m10 148 rfl
theorem in_J15 : ∀ w ∈ wsJ150, w ∈ lw_all := lw_in wsJ150 [740, 741, 742, 743, 744, 755, 751, 753] (by decide +kernel) (by decide +kernel)
/-! jdk/internal/util/ArraysSupport -/
set_option maxRecDepth 100000
def RJ16 : String := "jdk/internal/util/ArraysSupport"
abbrev cJ16_newLength : ByteArray := prog_78_method_27_code
def yJ16_newLength : MethodName := ⟨RJ16, "newLength", "(III)I"⟩
def dkwJ16_newLength_1 : List UInt8 := [184, 0, 201, 172]
abbrev dktJ16_newLength_1 : List UInt8 := dkwJ16_newLength_1 ++ []
def dkwJ16_newLength_0 : List UInt8 := [26, 27, 28, 184, 0, 194, 96, 62, 3, 29, 162, 0, 11, 29, 18, 200, 163, 0, 5, 29, 172, 26, 27]
abbrev dktJ16_newLength_0 : List UInt8 := dkwJ16_newLength_0 ++ dktJ16_newLength_1
theorem dksJ16_newLength_0 : cJ16_newLength.data.toList.drop 0 = dktJ16_newLength_0 := by decide +kernel
theorem dksJ16_newLength_1 : cJ16_newLength.data.toList.drop 23 = dktJ16_newLength_1 := dk_seg dksJ16_newLength_0 23 rfl rfl
theorem dJ16_newLength_0 : decode cJ16_newLength 0 = .ok (.iload_n 0, 1) := dk_26 (dk_at dksJ16_newLength_0 0 rfl rfl)
theorem dJ16_newLength_1 : decode cJ16_newLength 1 = .ok (.iload_n 1, 1) := dk_27 (dk_at dksJ16_newLength_0 1 rfl rfl)
theorem dJ16_newLength_2 : decode cJ16_newLength 2 = .ok (.iload_n 2, 1) := dk_28 (dk_at dksJ16_newLength_0 2 rfl rfl)
theorem dJ16_newLength_3 : decode cJ16_newLength 3 = .ok (.invokestatic 194, 3) := dk_184 0 194 (dk_at dksJ16_newLength_0 3 rfl rfl)
theorem dJ16_newLength_6 : decode cJ16_newLength 6 = .ok (.iadd, 1) := dk_96 (dk_at dksJ16_newLength_0 6 rfl rfl)
theorem dJ16_newLength_7 : decode cJ16_newLength 7 = .ok (.istore_n 3, 1) := dk_62 (dk_at dksJ16_newLength_0 7 rfl rfl)
theorem dJ16_newLength_8 : decode cJ16_newLength 8 = .ok (.iconst 0, 1) := dk_3 (dk_at dksJ16_newLength_0 8 rfl rfl)
theorem dJ16_newLength_9 : decode cJ16_newLength 9 = .ok (.iload_n 3, 1) := dk_29 (dk_at dksJ16_newLength_0 9 rfl rfl)
theorem dJ16_newLength_10 : decode cJ16_newLength 10 = .ok (.if_icmp .ge 11, 3) := dk_162 0 11 (dk_at dksJ16_newLength_0 10 rfl rfl)
theorem dJ16_newLength_13 : decode cJ16_newLength 13 = .ok (.iload_n 3, 1) := dk_29 (dk_at dksJ16_newLength_0 13 rfl rfl)
theorem dJ16_newLength_14 : decode cJ16_newLength 14 = .ok (.ldc 200, 2) := dk_18 200 (dk_at dksJ16_newLength_0 14 rfl rfl)
theorem dJ16_newLength_16 : decode cJ16_newLength 16 = .ok (.if_icmp .gt 5, 3) := dk_163 0 5 (dk_at dksJ16_newLength_0 16 rfl rfl)
theorem dJ16_newLength_19 : decode cJ16_newLength 19 = .ok (.iload_n 3, 1) := dk_29 (dk_at dksJ16_newLength_0 19 rfl rfl)
theorem dJ16_newLength_20 : decode cJ16_newLength 20 = .ok (.ireturn, 1) := dk_172 (dk_at dksJ16_newLength_0 20 rfl rfl)
theorem dJ16_newLength_21 : decode cJ16_newLength 21 = .ok (.iload_n 0, 1) := dk_26 (dk_at dksJ16_newLength_0 21 rfl rfl)
theorem dJ16_newLength_22 : decode cJ16_newLength 22 = .ok (.iload_n 1, 1) := dk_27 (dk_at dksJ16_newLength_0 22 rfl rfl)
theorem dJ16_newLength_23 : decode cJ16_newLength 23 = .ok (.invokestatic 201, 3) := dk_184 0 201 (dk_at dksJ16_newLength_1 0 rfl rfl)
theorem dJ16_newLength_26 : decode cJ16_newLength 26 = .ok (.ireturn, 1) := dk_172 (dk_at dksJ16_newLength_1 3 rfl rfl)
abbrev cJ16_hugeLength : ByteArray := prog_78_method_28_code
def yJ16_hugeLength : MethodName := ⟨RJ16, "hugeLength", "(II)I"⟩
def dkwJ16_hugeLength_2 : List UInt8 := [191, 28, 18, 200, 163, 0, 6, 18, 200, 172, 28, 172]
abbrev dktJ16_hugeLength_2 : List UInt8 := dkwJ16_hugeLength_2 ++ []
def dkwJ16_hugeLength_1 : List UInt8 := [26, 182, 0, 98, 18, 208, 182, 0, 94, 27, 182, 0, 98, 18, 210, 182, 0, 94, 182, 0, 101, 183, 0, 212]
abbrev dktJ16_hugeLength_1 : List UInt8 := dkwJ16_hugeLength_1 ++ dktJ16_hugeLength_2
def dkwJ16_hugeLength_0 : List UInt8 := [26, 27, 96, 61, 28, 156, 0, 44, 187, 0, 204, 89, 187, 0, 89, 89, 183, 0, 91, 18, 206, 182, 0, 94]
abbrev dktJ16_hugeLength_0 : List UInt8 := dkwJ16_hugeLength_0 ++ dktJ16_hugeLength_1
theorem dksJ16_hugeLength_0 : cJ16_hugeLength.data.toList.drop 0 = dktJ16_hugeLength_0 := by decide +kernel
theorem dksJ16_hugeLength_1 : cJ16_hugeLength.data.toList.drop 24 = dktJ16_hugeLength_1 := dk_seg dksJ16_hugeLength_0 24 rfl rfl
theorem dksJ16_hugeLength_2 : cJ16_hugeLength.data.toList.drop 48 = dktJ16_hugeLength_2 := dk_seg dksJ16_hugeLength_1 24 rfl rfl
theorem dJ16_hugeLength_0 : decode cJ16_hugeLength 0 = .ok (.iload_n 0, 1) := dk_26 (dk_at dksJ16_hugeLength_0 0 rfl rfl)
theorem dJ16_hugeLength_1 : decode cJ16_hugeLength 1 = .ok (.iload_n 1, 1) := dk_27 (dk_at dksJ16_hugeLength_0 1 rfl rfl)
theorem dJ16_hugeLength_2 : decode cJ16_hugeLength 2 = .ok (.iadd, 1) := dk_96 (dk_at dksJ16_hugeLength_0 2 rfl rfl)
theorem dJ16_hugeLength_3 : decode cJ16_hugeLength 3 = .ok (.istore_n 2, 1) := dk_61 (dk_at dksJ16_hugeLength_0 3 rfl rfl)
theorem dJ16_hugeLength_4 : decode cJ16_hugeLength 4 = .ok (.iload_n 2, 1) := dk_28 (dk_at dksJ16_hugeLength_0 4 rfl rfl)
theorem dJ16_hugeLength_5 : decode cJ16_hugeLength 5 = .ok (.ifCond .ge 44, 3) := dk_156 0 44 (dk_at dksJ16_hugeLength_0 5 rfl rfl)
theorem dJ16_hugeLength_8 : decode cJ16_hugeLength 8 = .ok (.new 204, 3) := dk_187 0 204 (dk_at dksJ16_hugeLength_0 8 rfl rfl)
theorem dJ16_hugeLength_11 : decode cJ16_hugeLength 11 = .ok (.dup, 1) := dk_89 (dk_at dksJ16_hugeLength_0 11 rfl rfl)
theorem dJ16_hugeLength_12 : decode cJ16_hugeLength 12 = .ok (.new 89, 3) := dk_187 0 89 (dk_at dksJ16_hugeLength_0 12 rfl rfl)
theorem dJ16_hugeLength_15 : decode cJ16_hugeLength 15 = .ok (.dup, 1) := dk_89 (dk_at dksJ16_hugeLength_0 15 rfl rfl)
theorem dJ16_hugeLength_16 : decode cJ16_hugeLength 16 = .ok (.invokespecial 91, 3) := dk_183 0 91 (dk_at dksJ16_hugeLength_0 16 rfl rfl)
theorem dJ16_hugeLength_19 : decode cJ16_hugeLength 19 = .ok (.ldc 206, 2) := dk_18 206 (dk_at dksJ16_hugeLength_0 19 rfl rfl)
theorem dJ16_hugeLength_21 : decode cJ16_hugeLength 21 = .ok (.invokevirtual 94, 3) := dk_182 0 94 (dk_at dksJ16_hugeLength_0 21 rfl rfl)
theorem dJ16_hugeLength_24 : decode cJ16_hugeLength 24 = .ok (.iload_n 0, 1) := dk_26 (dk_at dksJ16_hugeLength_1 0 rfl rfl)
theorem dJ16_hugeLength_25 : decode cJ16_hugeLength 25 = .ok (.invokevirtual 98, 3) := dk_182 0 98 (dk_at dksJ16_hugeLength_1 1 rfl rfl)
theorem dJ16_hugeLength_28 : decode cJ16_hugeLength 28 = .ok (.ldc 208, 2) := dk_18 208 (dk_at dksJ16_hugeLength_1 4 rfl rfl)
theorem dJ16_hugeLength_30 : decode cJ16_hugeLength 30 = .ok (.invokevirtual 94, 3) := dk_182 0 94 (dk_at dksJ16_hugeLength_1 6 rfl rfl)
theorem dJ16_hugeLength_33 : decode cJ16_hugeLength 33 = .ok (.iload_n 1, 1) := dk_27 (dk_at dksJ16_hugeLength_1 9 rfl rfl)
theorem dJ16_hugeLength_34 : decode cJ16_hugeLength 34 = .ok (.invokevirtual 98, 3) := dk_182 0 98 (dk_at dksJ16_hugeLength_1 10 rfl rfl)
theorem dJ16_hugeLength_37 : decode cJ16_hugeLength 37 = .ok (.ldc 210, 2) := dk_18 210 (dk_at dksJ16_hugeLength_1 13 rfl rfl)
theorem dJ16_hugeLength_39 : decode cJ16_hugeLength 39 = .ok (.invokevirtual 94, 3) := dk_182 0 94 (dk_at dksJ16_hugeLength_1 15 rfl rfl)
theorem dJ16_hugeLength_42 : decode cJ16_hugeLength 42 = .ok (.invokevirtual 101, 3) := dk_182 0 101 (dk_at dksJ16_hugeLength_1 18 rfl rfl)
theorem dJ16_hugeLength_45 : decode cJ16_hugeLength 45 = .ok (.invokespecial 212, 3) := dk_183 0 212 (dk_at dksJ16_hugeLength_1 21 rfl rfl)
theorem dJ16_hugeLength_48 : decode cJ16_hugeLength 48 = .ok (.athrow, 1) := dk_191 (dk_at dksJ16_hugeLength_2 0 rfl rfl)
theorem dJ16_hugeLength_49 : decode cJ16_hugeLength 49 = .ok (.iload_n 2, 1) := dk_28 (dk_at dksJ16_hugeLength_2 1 rfl rfl)
theorem dJ16_hugeLength_50 : decode cJ16_hugeLength 50 = .ok (.ldc 200, 2) := dk_18 200 (dk_at dksJ16_hugeLength_2 2 rfl rfl)
theorem dJ16_hugeLength_52 : decode cJ16_hugeLength 52 = .ok (.if_icmp .gt 6, 3) := dk_163 0 6 (dk_at dksJ16_hugeLength_2 4 rfl rfl)
theorem dJ16_hugeLength_55 : decode cJ16_hugeLength 55 = .ok (.ldc 200, 2) := dk_18 200 (dk_at dksJ16_hugeLength_2 7 rfl rfl)
theorem dJ16_hugeLength_57 : decode cJ16_hugeLength 57 = .ok (.ireturn, 1) := dk_172 (dk_at dksJ16_hugeLength_2 9 rfl rfl)
theorem dJ16_hugeLength_58 : decode cJ16_hugeLength 58 = .ok (.iload_n 2, 1) := dk_28 (dk_at dksJ16_hugeLength_2 10 rfl rfl)
theorem dJ16_hugeLength_59 : decode cJ16_hugeLength 59 = .ok (.ireturn, 1) := dk_172 (dk_at dksJ16_hugeLength_2 11 rfl rfl)
abbrev cJ16_mismatch : ByteArray := prog_78_method_13_code
def yJ16_mismatch : MethodName := ⟨RJ16, "mismatch", "([B[BI)I"⟩
def dkwJ16_mismatch_3 : List UInt8 := [172]
abbrev dktJ16_mismatch_3 : List UInt8 := dkwJ16_mismatch_3 ++ []
def dkwJ16_mismatch_2 : List UInt8 := [62, 29, 28, 162, 0, 20, 42, 29, 51, 43, 29, 51, 159, 0, 5, 29, 172, 132, 3, 1, 167, 255, 237, 2]
abbrev dktJ16_mismatch_2 : List UInt8 := dkwJ16_mismatch_2 ++ dktJ16_mismatch_3
def dkwJ16_mismatch_1 : List UInt8 := [43, 178, 0, 126, 133, 28, 178, 0, 129, 184, 0, 122, 62, 29, 155, 0, 5, 29, 172, 28, 29, 2, 130, 100]
abbrev dktJ16_mismatch_1 : List UInt8 := dkwJ16_mismatch_1 ++ dktJ16_mismatch_2
def dkwJ16_mismatch_0 : List UInt8 := [3, 62, 28, 16, 7, 164, 0, 44, 42, 3, 51, 43, 3, 51, 159, 0, 5, 3, 172, 42, 178, 0, 126, 133]
abbrev dktJ16_mismatch_0 : List UInt8 := dkwJ16_mismatch_0 ++ dktJ16_mismatch_1
theorem dksJ16_mismatch_0 : cJ16_mismatch.data.toList.drop 0 = dktJ16_mismatch_0 := by decide +kernel
theorem dksJ16_mismatch_1 : cJ16_mismatch.data.toList.drop 24 = dktJ16_mismatch_1 := dk_seg dksJ16_mismatch_0 24 rfl rfl
theorem dksJ16_mismatch_2 : cJ16_mismatch.data.toList.drop 48 = dktJ16_mismatch_2 := dk_seg dksJ16_mismatch_1 24 rfl rfl
theorem dksJ16_mismatch_3 : cJ16_mismatch.data.toList.drop 72 = dktJ16_mismatch_3 := dk_seg dksJ16_mismatch_2 24 rfl rfl
theorem dJ16_mismatch_0 : decode cJ16_mismatch 0 = .ok (.iconst 0, 1) := dk_3 (dk_at dksJ16_mismatch_0 0 rfl rfl)
theorem dJ16_mismatch_1 : decode cJ16_mismatch 1 = .ok (.istore_n 3, 1) := dk_62 (dk_at dksJ16_mismatch_0 1 rfl rfl)
theorem dJ16_mismatch_2 : decode cJ16_mismatch 2 = .ok (.iload_n 2, 1) := dk_28 (dk_at dksJ16_mismatch_0 2 rfl rfl)
theorem dJ16_mismatch_3 : decode cJ16_mismatch 3 = .ok (.bipush 7, 2) := dk_16 7 (dk_at dksJ16_mismatch_0 3 rfl rfl)
theorem dJ16_mismatch_5 : decode cJ16_mismatch 5 = .ok (.if_icmp .le 44, 3) := dk_164 0 44 (dk_at dksJ16_mismatch_0 5 rfl rfl)
theorem dJ16_mismatch_8 : decode cJ16_mismatch 8 = .ok (.aload_n 0, 1) := dk_42 (dk_at dksJ16_mismatch_0 8 rfl rfl)
theorem dJ16_mismatch_9 : decode cJ16_mismatch 9 = .ok (.iconst 0, 1) := dk_3 (dk_at dksJ16_mismatch_0 9 rfl rfl)
theorem dJ16_mismatch_10 : decode cJ16_mismatch 10 = .ok (.baload, 1) := dk_51 (dk_at dksJ16_mismatch_0 10 rfl rfl)
theorem dJ16_mismatch_11 : decode cJ16_mismatch 11 = .ok (.aload_n 1, 1) := dk_43 (dk_at dksJ16_mismatch_0 11 rfl rfl)
theorem dJ16_mismatch_12 : decode cJ16_mismatch 12 = .ok (.iconst 0, 1) := dk_3 (dk_at dksJ16_mismatch_0 12 rfl rfl)
theorem dJ16_mismatch_13 : decode cJ16_mismatch 13 = .ok (.baload, 1) := dk_51 (dk_at dksJ16_mismatch_0 13 rfl rfl)
theorem dJ16_mismatch_14 : decode cJ16_mismatch 14 = .ok (.if_icmp .eq 5, 3) := dk_159 0 5 (dk_at dksJ16_mismatch_0 14 rfl rfl)
theorem dJ16_mismatch_17 : decode cJ16_mismatch 17 = .ok (.iconst 0, 1) := dk_3 (dk_at dksJ16_mismatch_0 17 rfl rfl)
theorem dJ16_mismatch_18 : decode cJ16_mismatch 18 = .ok (.ireturn, 1) := dk_172 (dk_at dksJ16_mismatch_0 18 rfl rfl)
theorem dJ16_mismatch_19 : decode cJ16_mismatch 19 = .ok (.aload_n 0, 1) := dk_42 (dk_at dksJ16_mismatch_0 19 rfl rfl)
theorem dJ16_mismatch_20 : decode cJ16_mismatch 20 = .ok (.getstatic 126, 3) := dk_178 0 126 (dk_at dksJ16_mismatch_0 20 rfl rfl)
theorem dJ16_mismatch_23 : decode cJ16_mismatch 23 = .ok (.i2l, 1) := dk_133 (dk_at dksJ16_mismatch_0 23 rfl rfl)
theorem dJ16_mismatch_24 : decode cJ16_mismatch 24 = .ok (.aload_n 1, 1) := dk_43 (dk_at dksJ16_mismatch_1 0 rfl rfl)
theorem dJ16_mismatch_25 : decode cJ16_mismatch 25 = .ok (.getstatic 126, 3) := dk_178 0 126 (dk_at dksJ16_mismatch_1 1 rfl rfl)
theorem dJ16_mismatch_28 : decode cJ16_mismatch 28 = .ok (.i2l, 1) := dk_133 (dk_at dksJ16_mismatch_1 4 rfl rfl)
theorem dJ16_mismatch_29 : decode cJ16_mismatch 29 = .ok (.iload_n 2, 1) := dk_28 (dk_at dksJ16_mismatch_1 5 rfl rfl)
theorem dJ16_mismatch_30 : decode cJ16_mismatch 30 = .ok (.getstatic 129, 3) := dk_178 0 129 (dk_at dksJ16_mismatch_1 6 rfl rfl)
theorem dJ16_mismatch_33 : decode cJ16_mismatch 33 = .ok (.invokestatic 122, 3) := dk_184 0 122 (dk_at dksJ16_mismatch_1 9 rfl rfl)
theorem dJ16_mismatch_36 : decode cJ16_mismatch 36 = .ok (.istore_n 3, 1) := dk_62 (dk_at dksJ16_mismatch_1 12 rfl rfl)
theorem dJ16_mismatch_37 : decode cJ16_mismatch 37 = .ok (.iload_n 3, 1) := dk_29 (dk_at dksJ16_mismatch_1 13 rfl rfl)
theorem dJ16_mismatch_38 : decode cJ16_mismatch 38 = .ok (.ifCond .lt 5, 3) := dk_155 0 5 (dk_at dksJ16_mismatch_1 14 rfl rfl)
theorem dJ16_mismatch_41 : decode cJ16_mismatch 41 = .ok (.iload_n 3, 1) := dk_29 (dk_at dksJ16_mismatch_1 17 rfl rfl)
theorem dJ16_mismatch_42 : decode cJ16_mismatch 42 = .ok (.ireturn, 1) := dk_172 (dk_at dksJ16_mismatch_1 18 rfl rfl)
theorem dJ16_mismatch_43 : decode cJ16_mismatch 43 = .ok (.iload_n 2, 1) := dk_28 (dk_at dksJ16_mismatch_1 19 rfl rfl)
theorem dJ16_mismatch_44 : decode cJ16_mismatch 44 = .ok (.iload_n 3, 1) := dk_29 (dk_at dksJ16_mismatch_1 20 rfl rfl)
theorem dJ16_mismatch_45 : decode cJ16_mismatch 45 = .ok (.iconst (-1), 1) := dk_2 (dk_at dksJ16_mismatch_1 21 rfl rfl)
theorem dJ16_mismatch_46 : decode cJ16_mismatch 46 = .ok (.ixor, 1) := dk_130 (dk_at dksJ16_mismatch_1 22 rfl rfl)
theorem dJ16_mismatch_47 : decode cJ16_mismatch 47 = .ok (.isub, 1) := dk_100 (dk_at dksJ16_mismatch_1 23 rfl rfl)
theorem dJ16_mismatch_48 : decode cJ16_mismatch 48 = .ok (.istore_n 3, 1) := dk_62 (dk_at dksJ16_mismatch_2 0 rfl rfl)
theorem dJ16_mismatch_49 : decode cJ16_mismatch 49 = .ok (.iload_n 3, 1) := dk_29 (dk_at dksJ16_mismatch_2 1 rfl rfl)
theorem dJ16_mismatch_50 : decode cJ16_mismatch 50 = .ok (.iload_n 2, 1) := dk_28 (dk_at dksJ16_mismatch_2 2 rfl rfl)
theorem dJ16_mismatch_51 : decode cJ16_mismatch 51 = .ok (.if_icmp .ge 20, 3) := dk_162 0 20 (dk_at dksJ16_mismatch_2 3 rfl rfl)
theorem dJ16_mismatch_54 : decode cJ16_mismatch 54 = .ok (.aload_n 0, 1) := dk_42 (dk_at dksJ16_mismatch_2 6 rfl rfl)
theorem dJ16_mismatch_55 : decode cJ16_mismatch 55 = .ok (.iload_n 3, 1) := dk_29 (dk_at dksJ16_mismatch_2 7 rfl rfl)
theorem dJ16_mismatch_56 : decode cJ16_mismatch 56 = .ok (.baload, 1) := dk_51 (dk_at dksJ16_mismatch_2 8 rfl rfl)
theorem dJ16_mismatch_57 : decode cJ16_mismatch 57 = .ok (.aload_n 1, 1) := dk_43 (dk_at dksJ16_mismatch_2 9 rfl rfl)
theorem dJ16_mismatch_58 : decode cJ16_mismatch 58 = .ok (.iload_n 3, 1) := dk_29 (dk_at dksJ16_mismatch_2 10 rfl rfl)
theorem dJ16_mismatch_59 : decode cJ16_mismatch 59 = .ok (.baload, 1) := dk_51 (dk_at dksJ16_mismatch_2 11 rfl rfl)
theorem dJ16_mismatch_60 : decode cJ16_mismatch 60 = .ok (.if_icmp .eq 5, 3) := dk_159 0 5 (dk_at dksJ16_mismatch_2 12 rfl rfl)
theorem dJ16_mismatch_63 : decode cJ16_mismatch 63 = .ok (.iload_n 3, 1) := dk_29 (dk_at dksJ16_mismatch_2 15 rfl rfl)
theorem dJ16_mismatch_64 : decode cJ16_mismatch 64 = .ok (.ireturn, 1) := dk_172 (dk_at dksJ16_mismatch_2 16 rfl rfl)
theorem dJ16_mismatch_65 : decode cJ16_mismatch 65 = .ok (.iinc 3 1, 3) := dk_132 3 1 (dk_at dksJ16_mismatch_2 17 rfl rfl)
theorem dJ16_mismatch_68 : decode cJ16_mismatch 68 = .ok (.goto (-19), 3) := dk_167 255 237 (dk_at dksJ16_mismatch_2 20 rfl rfl)
theorem dJ16_mismatch_71 : decode cJ16_mismatch 71 = .ok (.iconst (-1), 1) := dk_2 (dk_at dksJ16_mismatch_2 23 rfl rfl)
theorem dJ16_mismatch_72 : decode cJ16_mismatch 72 = .ok (.ireturn, 1) := dk_172 (dk_at dksJ16_mismatch_3 0 rfl rfl)
abbrev cJ16_vectorizedMismatch : ByteArray := prog_78_method_3_code
def yJ16_vectorizedMismatch : MethodName := ⟨RJ16, "vectorizedMismatch", "(Ljava/lang/Object;JLjava/lang/Object;JII)I"⟩
def dkwJ16_vectorizedMismatch_11 : List UInt8 := [54, 10, 21, 10, 2, 130, 172, 21, 10, 2, 130, 172]
abbrev dktJ16_vectorizedMismatch_11 : List UInt8 := dkwJ16_vectorizedMismatch_11 ++ []
def dkwJ16_vectorizedMismatch_10 : List UInt8 := [178, 0, 46, 21, 7, 96, 122, 54, 17, 21, 9, 21, 8, 120, 21, 17, 96, 172, 21, 10, 21, 11, 100]
abbrev dktJ16_vectorizedMismatch_10 : List UInt8 := dkwJ16_vectorizedMismatch_10 ++ dktJ16_vectorizedMismatch_11
def dkwJ16_vectorizedMismatch_9 : List UInt8 := [153, 0, 18, 21, 16, 184, 0, 58, 178, 0, 46, 21, 7, 96, 122, 167, 0, 15, 21, 16, 184, 0, 11]
abbrev dktJ16_vectorizedMismatch_9 : List UInt8 := dkwJ16_vectorizedMismatch_9 ++ dktJ16_vectorizedMismatch_10
def dkwJ16_vectorizedMismatch_8 : List UInt8 := [182, 0, 54, 54, 15, 21, 14, 21, 15, 159, 0, 54, 21, 14, 21, 15, 130, 54, 16, 178, 0, 36]
abbrev dktJ16_vectorizedMismatch_8 : List UInt8 := dkwJ16_vectorizedMismatch_8 ++ dktJ16_vectorizedMismatch_9
def dkwJ16_vectorizedMismatch_7 : List UInt8 := [55, 12, 178, 0, 26, 42, 31, 22, 12, 97, 182, 0, 54, 54, 14, 178, 0, 26, 45, 22, 4, 22, 12, 97]
abbrev dktJ16_vectorizedMismatch_7 : List UInt8 := dkwJ16_vectorizedMismatch_7 ++ dktJ16_vectorizedMismatch_8
def dkwJ16_vectorizedMismatch_6 : List UInt8 := [4, 178, 0, 51, 21, 7, 100, 120, 54, 11, 21, 10, 21, 11, 161, 0, 104, 21, 9, 133, 178, 0, 20, 121]
abbrev dktJ16_vectorizedMismatch_6 : List UInt8 := dkwJ16_vectorizedMismatch_6 ++ dktJ16_vectorizedMismatch_7
def dkwJ16_vectorizedMismatch_5 : List UInt8 := [132, 9, 1, 167, 255, 148, 21, 6, 21, 9, 21, 8, 120, 100, 54, 10, 21, 7, 178, 0, 51, 162, 0, 126]
abbrev dktJ16_vectorizedMismatch_5 : List UInt8 := dkwJ16_vectorizedMismatch_5 ++ dktJ16_vectorizedMismatch_6
def dkwJ16_vectorizedMismatch_4 : List UInt8 := [22, 16, 184, 0, 49, 178, 0, 46, 21, 7, 96, 122, 54, 18, 21, 9, 21, 8, 120, 21, 18, 96, 172]
abbrev dktJ16_vectorizedMismatch_4 : List UInt8 := dkwJ16_vectorizedMismatch_4 ++ dktJ16_vectorizedMismatch_5
def dkwJ16_vectorizedMismatch_3 : List UInt8 := [55, 16, 178, 0, 36, 153, 0, 18, 22, 16, 184, 0, 40, 178, 0, 46, 21, 7, 96, 122, 167, 0, 15]
abbrev dktJ16_vectorizedMismatch_3 : List UInt8 := dkwJ16_vectorizedMismatch_3 ++ dktJ16_vectorizedMismatch_4
def dkwJ16_vectorizedMismatch_2 : List UInt8 := [22, 4, 22, 10, 97, 182, 0, 30, 55, 14, 22, 12, 22, 14, 148, 153, 0, 54, 22, 12, 22, 14, 131]
abbrev dktJ16_vectorizedMismatch_2 : List UInt8 := dkwJ16_vectorizedMismatch_2 ++ dktJ16_vectorizedMismatch_3
def dkwJ16_vectorizedMismatch_1 : List UInt8 := [178, 0, 20, 121, 55, 10, 178, 0, 26, 42, 31, 22, 10, 97, 182, 0, 30, 55, 12, 178, 0, 26, 45]
abbrev dktJ16_vectorizedMismatch_1 : List UInt8 := dkwJ16_vectorizedMismatch_1 ++ dktJ16_vectorizedMismatch_2
def dkwJ16_vectorizedMismatch_0 : List UInt8 := [178, 0, 20, 21, 7, 100, 54, 8, 3, 54, 9, 21, 9, 21, 6, 21, 8, 122, 162, 0, 104, 21, 9, 133]
abbrev dktJ16_vectorizedMismatch_0 : List UInt8 := dkwJ16_vectorizedMismatch_0 ++ dktJ16_vectorizedMismatch_1
theorem dksJ16_vectorizedMismatch_0 : cJ16_vectorizedMismatch.data.toList.drop 0 = dktJ16_vectorizedMismatch_0 := by decide +kernel
theorem dksJ16_vectorizedMismatch_1 : cJ16_vectorizedMismatch.data.toList.drop 24 = dktJ16_vectorizedMismatch_1 := dk_seg dksJ16_vectorizedMismatch_0 24 rfl rfl
theorem dksJ16_vectorizedMismatch_2 : cJ16_vectorizedMismatch.data.toList.drop 47 = dktJ16_vectorizedMismatch_2 := dk_seg dksJ16_vectorizedMismatch_1 23 rfl rfl
theorem dksJ16_vectorizedMismatch_3 : cJ16_vectorizedMismatch.data.toList.drop 70 = dktJ16_vectorizedMismatch_3 := dk_seg dksJ16_vectorizedMismatch_2 23 rfl rfl
theorem dksJ16_vectorizedMismatch_4 : cJ16_vectorizedMismatch.data.toList.drop 93 = dktJ16_vectorizedMismatch_4 := dk_seg dksJ16_vectorizedMismatch_3 23 rfl rfl
theorem dksJ16_vectorizedMismatch_5 : cJ16_vectorizedMismatch.data.toList.drop 116 = dktJ16_vectorizedMismatch_5 := dk_seg dksJ16_vectorizedMismatch_4 23 rfl rfl
theorem dksJ16_vectorizedMismatch_6 : cJ16_vectorizedMismatch.data.toList.drop 140 = dktJ16_vectorizedMismatch_6 := dk_seg dksJ16_vectorizedMismatch_5 24 rfl rfl
theorem dksJ16_vectorizedMismatch_7 : cJ16_vectorizedMismatch.data.toList.drop 164 = dktJ16_vectorizedMismatch_7 := dk_seg dksJ16_vectorizedMismatch_6 24 rfl rfl
theorem dksJ16_vectorizedMismatch_8 : cJ16_vectorizedMismatch.data.toList.drop 188 = dktJ16_vectorizedMismatch_8 := dk_seg dksJ16_vectorizedMismatch_7 24 rfl rfl
theorem dksJ16_vectorizedMismatch_9 : cJ16_vectorizedMismatch.data.toList.drop 210 = dktJ16_vectorizedMismatch_9 := dk_seg dksJ16_vectorizedMismatch_8 22 rfl rfl
theorem dksJ16_vectorizedMismatch_10 : cJ16_vectorizedMismatch.data.toList.drop 233 = dktJ16_vectorizedMismatch_10 := dk_seg dksJ16_vectorizedMismatch_9 23 rfl rfl
theorem dksJ16_vectorizedMismatch_11 : cJ16_vectorizedMismatch.data.toList.drop 256 = dktJ16_vectorizedMismatch_11 := dk_seg dksJ16_vectorizedMismatch_10 23 rfl rfl
theorem dJ16_vectorizedMismatch_0 : decode cJ16_vectorizedMismatch 0 = .ok (.getstatic 20, 3) := dk_178 0 20 (dk_at dksJ16_vectorizedMismatch_0 0 rfl rfl)
theorem dJ16_vectorizedMismatch_3 : decode cJ16_vectorizedMismatch 3 = .ok (.iload 7, 2) := dk_21 7 (dk_at dksJ16_vectorizedMismatch_0 3 rfl rfl)
theorem dJ16_vectorizedMismatch_5 : decode cJ16_vectorizedMismatch 5 = .ok (.isub, 1) := dk_100 (dk_at dksJ16_vectorizedMismatch_0 5 rfl rfl)
theorem dJ16_vectorizedMismatch_6 : decode cJ16_vectorizedMismatch 6 = .ok (.istore 8, 2) := dk_54 8 (dk_at dksJ16_vectorizedMismatch_0 6 rfl rfl)
theorem dJ16_vectorizedMismatch_8 : decode cJ16_vectorizedMismatch 8 = .ok (.iconst 0, 1) := dk_3 (dk_at dksJ16_vectorizedMismatch_0 8 rfl rfl)
theorem dJ16_vectorizedMismatch_9 : decode cJ16_vectorizedMismatch 9 = .ok (.istore 9, 2) := dk_54 9 (dk_at dksJ16_vectorizedMismatch_0 9 rfl rfl)
theorem dJ16_vectorizedMismatch_11 : decode cJ16_vectorizedMismatch 11 = .ok (.iload 9, 2) := dk_21 9 (dk_at dksJ16_vectorizedMismatch_0 11 rfl rfl)
theorem dJ16_vectorizedMismatch_13 : decode cJ16_vectorizedMismatch 13 = .ok (.iload 6, 2) := dk_21 6 (dk_at dksJ16_vectorizedMismatch_0 13 rfl rfl)
theorem dJ16_vectorizedMismatch_15 : decode cJ16_vectorizedMismatch 15 = .ok (.iload 8, 2) := dk_21 8 (dk_at dksJ16_vectorizedMismatch_0 15 rfl rfl)
theorem dJ16_vectorizedMismatch_17 : decode cJ16_vectorizedMismatch 17 = .ok (.ishr, 1) := dk_122 (dk_at dksJ16_vectorizedMismatch_0 17 rfl rfl)
theorem dJ16_vectorizedMismatch_18 : decode cJ16_vectorizedMismatch 18 = .ok (.if_icmp .ge 104, 3) := dk_162 0 104 (dk_at dksJ16_vectorizedMismatch_0 18 rfl rfl)
theorem dJ16_vectorizedMismatch_21 : decode cJ16_vectorizedMismatch 21 = .ok (.iload 9, 2) := dk_21 9 (dk_at dksJ16_vectorizedMismatch_0 21 rfl rfl)
theorem dJ16_vectorizedMismatch_23 : decode cJ16_vectorizedMismatch 23 = .ok (.i2l, 1) := dk_133 (dk_at dksJ16_vectorizedMismatch_0 23 rfl rfl)
theorem dJ16_vectorizedMismatch_24 : decode cJ16_vectorizedMismatch 24 = .ok (.getstatic 20, 3) := dk_178 0 20 (dk_at dksJ16_vectorizedMismatch_1 0 rfl rfl)
theorem dJ16_vectorizedMismatch_27 : decode cJ16_vectorizedMismatch 27 = .ok (.lshl, 1) := dk_121 (dk_at dksJ16_vectorizedMismatch_1 3 rfl rfl)
theorem dJ16_vectorizedMismatch_28 : decode cJ16_vectorizedMismatch 28 = .ok (.lstore 10, 2) := dk_55 10 (dk_at dksJ16_vectorizedMismatch_1 4 rfl rfl)
theorem dJ16_vectorizedMismatch_30 : decode cJ16_vectorizedMismatch 30 = .ok (.getstatic 26, 3) := dk_178 0 26 (dk_at dksJ16_vectorizedMismatch_1 6 rfl rfl)
theorem dJ16_vectorizedMismatch_33 : decode cJ16_vectorizedMismatch 33 = .ok (.aload_n 0, 1) := dk_42 (dk_at dksJ16_vectorizedMismatch_1 9 rfl rfl)
theorem dJ16_vectorizedMismatch_34 : decode cJ16_vectorizedMismatch 34 = .ok (.lload_n 1, 1) := dk_31 (dk_at dksJ16_vectorizedMismatch_1 10 rfl rfl)
theorem dJ16_vectorizedMismatch_35 : decode cJ16_vectorizedMismatch 35 = .ok (.lload 10, 2) := dk_22 10 (dk_at dksJ16_vectorizedMismatch_1 11 rfl rfl)
theorem dJ16_vectorizedMismatch_37 : decode cJ16_vectorizedMismatch 37 = .ok (.ladd, 1) := dk_97 (dk_at dksJ16_vectorizedMismatch_1 13 rfl rfl)
theorem dJ16_vectorizedMismatch_38 : decode cJ16_vectorizedMismatch 38 = .ok (.invokevirtual 30, 3) := dk_182 0 30 (dk_at dksJ16_vectorizedMismatch_1 14 rfl rfl)
theorem dJ16_vectorizedMismatch_41 : decode cJ16_vectorizedMismatch 41 = .ok (.lstore 12, 2) := dk_55 12 (dk_at dksJ16_vectorizedMismatch_1 17 rfl rfl)
theorem dJ16_vectorizedMismatch_43 : decode cJ16_vectorizedMismatch 43 = .ok (.getstatic 26, 3) := dk_178 0 26 (dk_at dksJ16_vectorizedMismatch_1 19 rfl rfl)
theorem dJ16_vectorizedMismatch_46 : decode cJ16_vectorizedMismatch 46 = .ok (.aload_n 3, 1) := dk_45 (dk_at dksJ16_vectorizedMismatch_1 22 rfl rfl)
theorem dJ16_vectorizedMismatch_47 : decode cJ16_vectorizedMismatch 47 = .ok (.lload 4, 2) := dk_22 4 (dk_at dksJ16_vectorizedMismatch_2 0 rfl rfl)
theorem dJ16_vectorizedMismatch_49 : decode cJ16_vectorizedMismatch 49 = .ok (.lload 10, 2) := dk_22 10 (dk_at dksJ16_vectorizedMismatch_2 2 rfl rfl)
theorem dJ16_vectorizedMismatch_51 : decode cJ16_vectorizedMismatch 51 = .ok (.ladd, 1) := dk_97 (dk_at dksJ16_vectorizedMismatch_2 4 rfl rfl)
theorem dJ16_vectorizedMismatch_52 : decode cJ16_vectorizedMismatch 52 = .ok (.invokevirtual 30, 3) := dk_182 0 30 (dk_at dksJ16_vectorizedMismatch_2 5 rfl rfl)
theorem dJ16_vectorizedMismatch_55 : decode cJ16_vectorizedMismatch 55 = .ok (.lstore 14, 2) := dk_55 14 (dk_at dksJ16_vectorizedMismatch_2 8 rfl rfl)
theorem dJ16_vectorizedMismatch_57 : decode cJ16_vectorizedMismatch 57 = .ok (.lload 12, 2) := dk_22 12 (dk_at dksJ16_vectorizedMismatch_2 10 rfl rfl)
theorem dJ16_vectorizedMismatch_59 : decode cJ16_vectorizedMismatch 59 = .ok (.lload 14, 2) := dk_22 14 (dk_at dksJ16_vectorizedMismatch_2 12 rfl rfl)
theorem dJ16_vectorizedMismatch_61 : decode cJ16_vectorizedMismatch 61 = .ok (.lcmp, 1) := dk_148 (dk_at dksJ16_vectorizedMismatch_2 14 rfl rfl)
theorem dJ16_vectorizedMismatch_62 : decode cJ16_vectorizedMismatch 62 = .ok (.ifCond .eq 54, 3) := dk_153 0 54 (dk_at dksJ16_vectorizedMismatch_2 15 rfl rfl)
theorem dJ16_vectorizedMismatch_65 : decode cJ16_vectorizedMismatch 65 = .ok (.lload 12, 2) := dk_22 12 (dk_at dksJ16_vectorizedMismatch_2 18 rfl rfl)
theorem dJ16_vectorizedMismatch_67 : decode cJ16_vectorizedMismatch 67 = .ok (.lload 14, 2) := dk_22 14 (dk_at dksJ16_vectorizedMismatch_2 20 rfl rfl)
theorem dJ16_vectorizedMismatch_69 : decode cJ16_vectorizedMismatch 69 = .ok (.lxor, 1) := dk_131 (dk_at dksJ16_vectorizedMismatch_2 22 rfl rfl)
theorem dJ16_vectorizedMismatch_70 : decode cJ16_vectorizedMismatch 70 = .ok (.lstore 16, 2) := dk_55 16 (dk_at dksJ16_vectorizedMismatch_3 0 rfl rfl)
theorem dJ16_vectorizedMismatch_72 : decode cJ16_vectorizedMismatch 72 = .ok (.getstatic 36, 3) := dk_178 0 36 (dk_at dksJ16_vectorizedMismatch_3 2 rfl rfl)
theorem dJ16_vectorizedMismatch_75 : decode cJ16_vectorizedMismatch 75 = .ok (.ifCond .eq 18, 3) := dk_153 0 18 (dk_at dksJ16_vectorizedMismatch_3 5 rfl rfl)
theorem dJ16_vectorizedMismatch_78 : decode cJ16_vectorizedMismatch 78 = .ok (.lload 16, 2) := dk_22 16 (dk_at dksJ16_vectorizedMismatch_3 8 rfl rfl)
theorem dJ16_vectorizedMismatch_80 : decode cJ16_vectorizedMismatch 80 = .ok (.invokestatic 40, 3) := dk_184 0 40 (dk_at dksJ16_vectorizedMismatch_3 10 rfl rfl)
theorem dJ16_vectorizedMismatch_83 : decode cJ16_vectorizedMismatch 83 = .ok (.getstatic 46, 3) := dk_178 0 46 (dk_at dksJ16_vectorizedMismatch_3 13 rfl rfl)
theorem dJ16_vectorizedMismatch_86 : decode cJ16_vectorizedMismatch 86 = .ok (.iload 7, 2) := dk_21 7 (dk_at dksJ16_vectorizedMismatch_3 16 rfl rfl)
theorem dJ16_vectorizedMismatch_88 : decode cJ16_vectorizedMismatch 88 = .ok (.iadd, 1) := dk_96 (dk_at dksJ16_vectorizedMismatch_3 18 rfl rfl)
theorem dJ16_vectorizedMismatch_89 : decode cJ16_vectorizedMismatch 89 = .ok (.ishr, 1) := dk_122 (dk_at dksJ16_vectorizedMismatch_3 19 rfl rfl)
theorem dJ16_vectorizedMismatch_90 : decode cJ16_vectorizedMismatch 90 = .ok (.goto 15, 3) := dk_167 0 15 (dk_at dksJ16_vectorizedMismatch_3 20 rfl rfl)
theorem dJ16_vectorizedMismatch_93 : decode cJ16_vectorizedMismatch 93 = .ok (.lload 16, 2) := dk_22 16 (dk_at dksJ16_vectorizedMismatch_4 0 rfl rfl)
theorem dJ16_vectorizedMismatch_95 : decode cJ16_vectorizedMismatch 95 = .ok (.invokestatic 49, 3) := dk_184 0 49 (dk_at dksJ16_vectorizedMismatch_4 2 rfl rfl)
theorem dJ16_vectorizedMismatch_98 : decode cJ16_vectorizedMismatch 98 = .ok (.getstatic 46, 3) := dk_178 0 46 (dk_at dksJ16_vectorizedMismatch_4 5 rfl rfl)
theorem dJ16_vectorizedMismatch_101 : decode cJ16_vectorizedMismatch 101 = .ok (.iload 7, 2) := dk_21 7 (dk_at dksJ16_vectorizedMismatch_4 8 rfl rfl)
theorem dJ16_vectorizedMismatch_103 : decode cJ16_vectorizedMismatch 103 = .ok (.iadd, 1) := dk_96 (dk_at dksJ16_vectorizedMismatch_4 10 rfl rfl)
theorem dJ16_vectorizedMismatch_104 : decode cJ16_vectorizedMismatch 104 = .ok (.ishr, 1) := dk_122 (dk_at dksJ16_vectorizedMismatch_4 11 rfl rfl)
theorem dJ16_vectorizedMismatch_105 : decode cJ16_vectorizedMismatch 105 = .ok (.istore 18, 2) := dk_54 18 (dk_at dksJ16_vectorizedMismatch_4 12 rfl rfl)
theorem dJ16_vectorizedMismatch_107 : decode cJ16_vectorizedMismatch 107 = .ok (.iload 9, 2) := dk_21 9 (dk_at dksJ16_vectorizedMismatch_4 14 rfl rfl)
theorem dJ16_vectorizedMismatch_109 : decode cJ16_vectorizedMismatch 109 = .ok (.iload 8, 2) := dk_21 8 (dk_at dksJ16_vectorizedMismatch_4 16 rfl rfl)
theorem dJ16_vectorizedMismatch_111 : decode cJ16_vectorizedMismatch 111 = .ok (.ishl, 1) := dk_120 (dk_at dksJ16_vectorizedMismatch_4 18 rfl rfl)
theorem dJ16_vectorizedMismatch_112 : decode cJ16_vectorizedMismatch 112 = .ok (.iload 18, 2) := dk_21 18 (dk_at dksJ16_vectorizedMismatch_4 19 rfl rfl)
theorem dJ16_vectorizedMismatch_114 : decode cJ16_vectorizedMismatch 114 = .ok (.iadd, 1) := dk_96 (dk_at dksJ16_vectorizedMismatch_4 21 rfl rfl)
theorem dJ16_vectorizedMismatch_115 : decode cJ16_vectorizedMismatch 115 = .ok (.ireturn, 1) := dk_172 (dk_at dksJ16_vectorizedMismatch_4 22 rfl rfl)
theorem dJ16_vectorizedMismatch_116 : decode cJ16_vectorizedMismatch 116 = .ok (.iinc 9 1, 3) := dk_132 9 1 (dk_at dksJ16_vectorizedMismatch_5 0 rfl rfl)
theorem dJ16_vectorizedMismatch_119 : decode cJ16_vectorizedMismatch 119 = .ok (.goto (-108), 3) := dk_167 255 148 (dk_at dksJ16_vectorizedMismatch_5 3 rfl rfl)
theorem dJ16_vectorizedMismatch_122 : decode cJ16_vectorizedMismatch 122 = .ok (.iload 6, 2) := dk_21 6 (dk_at dksJ16_vectorizedMismatch_5 6 rfl rfl)
theorem dJ16_vectorizedMismatch_124 : decode cJ16_vectorizedMismatch 124 = .ok (.iload 9, 2) := dk_21 9 (dk_at dksJ16_vectorizedMismatch_5 8 rfl rfl)
theorem dJ16_vectorizedMismatch_126 : decode cJ16_vectorizedMismatch 126 = .ok (.iload 8, 2) := dk_21 8 (dk_at dksJ16_vectorizedMismatch_5 10 rfl rfl)
theorem dJ16_vectorizedMismatch_128 : decode cJ16_vectorizedMismatch 128 = .ok (.ishl, 1) := dk_120 (dk_at dksJ16_vectorizedMismatch_5 12 rfl rfl)
theorem dJ16_vectorizedMismatch_129 : decode cJ16_vectorizedMismatch 129 = .ok (.isub, 1) := dk_100 (dk_at dksJ16_vectorizedMismatch_5 13 rfl rfl)
theorem dJ16_vectorizedMismatch_130 : decode cJ16_vectorizedMismatch 130 = .ok (.istore 10, 2) := dk_54 10 (dk_at dksJ16_vectorizedMismatch_5 14 rfl rfl)
theorem dJ16_vectorizedMismatch_132 : decode cJ16_vectorizedMismatch 132 = .ok (.iload 7, 2) := dk_21 7 (dk_at dksJ16_vectorizedMismatch_5 16 rfl rfl)
theorem dJ16_vectorizedMismatch_134 : decode cJ16_vectorizedMismatch 134 = .ok (.getstatic 51, 3) := dk_178 0 51 (dk_at dksJ16_vectorizedMismatch_5 18 rfl rfl)
theorem dJ16_vectorizedMismatch_137 : decode cJ16_vectorizedMismatch 137 = .ok (.if_icmp .ge 126, 3) := dk_162 0 126 (dk_at dksJ16_vectorizedMismatch_5 21 rfl rfl)
theorem dJ16_vectorizedMismatch_140 : decode cJ16_vectorizedMismatch 140 = .ok (.iconst 1, 1) := dk_4 (dk_at dksJ16_vectorizedMismatch_6 0 rfl rfl)
theorem dJ16_vectorizedMismatch_141 : decode cJ16_vectorizedMismatch 141 = .ok (.getstatic 51, 3) := dk_178 0 51 (dk_at dksJ16_vectorizedMismatch_6 1 rfl rfl)
theorem dJ16_vectorizedMismatch_144 : decode cJ16_vectorizedMismatch 144 = .ok (.iload 7, 2) := dk_21 7 (dk_at dksJ16_vectorizedMismatch_6 4 rfl rfl)
theorem dJ16_vectorizedMismatch_146 : decode cJ16_vectorizedMismatch 146 = .ok (.isub, 1) := dk_100 (dk_at dksJ16_vectorizedMismatch_6 6 rfl rfl)
theorem dJ16_vectorizedMismatch_147 : decode cJ16_vectorizedMismatch 147 = .ok (.ishl, 1) := dk_120 (dk_at dksJ16_vectorizedMismatch_6 7 rfl rfl)
theorem dJ16_vectorizedMismatch_148 : decode cJ16_vectorizedMismatch 148 = .ok (.istore 11, 2) := dk_54 11 (dk_at dksJ16_vectorizedMismatch_6 8 rfl rfl)
theorem dJ16_vectorizedMismatch_150 : decode cJ16_vectorizedMismatch 150 = .ok (.iload 10, 2) := dk_21 10 (dk_at dksJ16_vectorizedMismatch_6 10 rfl rfl)
theorem dJ16_vectorizedMismatch_152 : decode cJ16_vectorizedMismatch 152 = .ok (.iload 11, 2) := dk_21 11 (dk_at dksJ16_vectorizedMismatch_6 12 rfl rfl)
theorem dJ16_vectorizedMismatch_154 : decode cJ16_vectorizedMismatch 154 = .ok (.if_icmp .lt 104, 3) := dk_161 0 104 (dk_at dksJ16_vectorizedMismatch_6 14 rfl rfl)
theorem dJ16_vectorizedMismatch_157 : decode cJ16_vectorizedMismatch 157 = .ok (.iload 9, 2) := dk_21 9 (dk_at dksJ16_vectorizedMismatch_6 17 rfl rfl)
theorem dJ16_vectorizedMismatch_159 : decode cJ16_vectorizedMismatch 159 = .ok (.i2l, 1) := dk_133 (dk_at dksJ16_vectorizedMismatch_6 19 rfl rfl)
theorem dJ16_vectorizedMismatch_160 : decode cJ16_vectorizedMismatch 160 = .ok (.getstatic 20, 3) := dk_178 0 20 (dk_at dksJ16_vectorizedMismatch_6 20 rfl rfl)
theorem dJ16_vectorizedMismatch_163 : decode cJ16_vectorizedMismatch 163 = .ok (.lshl, 1) := dk_121 (dk_at dksJ16_vectorizedMismatch_6 23 rfl rfl)
theorem dJ16_vectorizedMismatch_164 : decode cJ16_vectorizedMismatch 164 = .ok (.lstore 12, 2) := dk_55 12 (dk_at dksJ16_vectorizedMismatch_7 0 rfl rfl)
theorem dJ16_vectorizedMismatch_166 : decode cJ16_vectorizedMismatch 166 = .ok (.getstatic 26, 3) := dk_178 0 26 (dk_at dksJ16_vectorizedMismatch_7 2 rfl rfl)
theorem dJ16_vectorizedMismatch_169 : decode cJ16_vectorizedMismatch 169 = .ok (.aload_n 0, 1) := dk_42 (dk_at dksJ16_vectorizedMismatch_7 5 rfl rfl)
theorem dJ16_vectorizedMismatch_170 : decode cJ16_vectorizedMismatch 170 = .ok (.lload_n 1, 1) := dk_31 (dk_at dksJ16_vectorizedMismatch_7 6 rfl rfl)
theorem dJ16_vectorizedMismatch_171 : decode cJ16_vectorizedMismatch 171 = .ok (.lload 12, 2) := dk_22 12 (dk_at dksJ16_vectorizedMismatch_7 7 rfl rfl)
theorem dJ16_vectorizedMismatch_173 : decode cJ16_vectorizedMismatch 173 = .ok (.ladd, 1) := dk_97 (dk_at dksJ16_vectorizedMismatch_7 9 rfl rfl)
theorem dJ16_vectorizedMismatch_174 : decode cJ16_vectorizedMismatch 174 = .ok (.invokevirtual 54, 3) := dk_182 0 54 (dk_at dksJ16_vectorizedMismatch_7 10 rfl rfl)
theorem dJ16_vectorizedMismatch_177 : decode cJ16_vectorizedMismatch 177 = .ok (.istore 14, 2) := dk_54 14 (dk_at dksJ16_vectorizedMismatch_7 13 rfl rfl)
theorem dJ16_vectorizedMismatch_179 : decode cJ16_vectorizedMismatch 179 = .ok (.getstatic 26, 3) := dk_178 0 26 (dk_at dksJ16_vectorizedMismatch_7 15 rfl rfl)
theorem dJ16_vectorizedMismatch_182 : decode cJ16_vectorizedMismatch 182 = .ok (.aload_n 3, 1) := dk_45 (dk_at dksJ16_vectorizedMismatch_7 18 rfl rfl)
theorem dJ16_vectorizedMismatch_183 : decode cJ16_vectorizedMismatch 183 = .ok (.lload 4, 2) := dk_22 4 (dk_at dksJ16_vectorizedMismatch_7 19 rfl rfl)
theorem dJ16_vectorizedMismatch_185 : decode cJ16_vectorizedMismatch 185 = .ok (.lload 12, 2) := dk_22 12 (dk_at dksJ16_vectorizedMismatch_7 21 rfl rfl)
theorem dJ16_vectorizedMismatch_187 : decode cJ16_vectorizedMismatch 187 = .ok (.ladd, 1) := dk_97 (dk_at dksJ16_vectorizedMismatch_7 23 rfl rfl)
theorem dJ16_vectorizedMismatch_188 : decode cJ16_vectorizedMismatch 188 = .ok (.invokevirtual 54, 3) := dk_182 0 54 (dk_at dksJ16_vectorizedMismatch_8 0 rfl rfl)
theorem dJ16_vectorizedMismatch_191 : decode cJ16_vectorizedMismatch 191 = .ok (.istore 15, 2) := dk_54 15 (dk_at dksJ16_vectorizedMismatch_8 3 rfl rfl)
theorem dJ16_vectorizedMismatch_193 : decode cJ16_vectorizedMismatch 193 = .ok (.iload 14, 2) := dk_21 14 (dk_at dksJ16_vectorizedMismatch_8 5 rfl rfl)
theorem dJ16_vectorizedMismatch_195 : decode cJ16_vectorizedMismatch 195 = .ok (.iload 15, 2) := dk_21 15 (dk_at dksJ16_vectorizedMismatch_8 7 rfl rfl)
theorem dJ16_vectorizedMismatch_197 : decode cJ16_vectorizedMismatch 197 = .ok (.if_icmp .eq 54, 3) := dk_159 0 54 (dk_at dksJ16_vectorizedMismatch_8 9 rfl rfl)
theorem dJ16_vectorizedMismatch_200 : decode cJ16_vectorizedMismatch 200 = .ok (.iload 14, 2) := dk_21 14 (dk_at dksJ16_vectorizedMismatch_8 12 rfl rfl)
theorem dJ16_vectorizedMismatch_202 : decode cJ16_vectorizedMismatch 202 = .ok (.iload 15, 2) := dk_21 15 (dk_at dksJ16_vectorizedMismatch_8 14 rfl rfl)
theorem dJ16_vectorizedMismatch_204 : decode cJ16_vectorizedMismatch 204 = .ok (.ixor, 1) := dk_130 (dk_at dksJ16_vectorizedMismatch_8 16 rfl rfl)
theorem dJ16_vectorizedMismatch_205 : decode cJ16_vectorizedMismatch 205 = .ok (.istore 16, 2) := dk_54 16 (dk_at dksJ16_vectorizedMismatch_8 17 rfl rfl)
theorem dJ16_vectorizedMismatch_207 : decode cJ16_vectorizedMismatch 207 = .ok (.getstatic 36, 3) := dk_178 0 36 (dk_at dksJ16_vectorizedMismatch_8 19 rfl rfl)
theorem dJ16_vectorizedMismatch_210 : decode cJ16_vectorizedMismatch 210 = .ok (.ifCond .eq 18, 3) := dk_153 0 18 (dk_at dksJ16_vectorizedMismatch_9 0 rfl rfl)
theorem dJ16_vectorizedMismatch_213 : decode cJ16_vectorizedMismatch 213 = .ok (.iload 16, 2) := dk_21 16 (dk_at dksJ16_vectorizedMismatch_9 3 rfl rfl)
theorem dJ16_vectorizedMismatch_215 : decode cJ16_vectorizedMismatch 215 = .ok (.invokestatic 58, 3) := dk_184 0 58 (dk_at dksJ16_vectorizedMismatch_9 5 rfl rfl)
theorem dJ16_vectorizedMismatch_218 : decode cJ16_vectorizedMismatch 218 = .ok (.getstatic 46, 3) := dk_178 0 46 (dk_at dksJ16_vectorizedMismatch_9 8 rfl rfl)
theorem dJ16_vectorizedMismatch_221 : decode cJ16_vectorizedMismatch 221 = .ok (.iload 7, 2) := dk_21 7 (dk_at dksJ16_vectorizedMismatch_9 11 rfl rfl)
theorem dJ16_vectorizedMismatch_223 : decode cJ16_vectorizedMismatch 223 = .ok (.iadd, 1) := dk_96 (dk_at dksJ16_vectorizedMismatch_9 13 rfl rfl)
theorem dJ16_vectorizedMismatch_224 : decode cJ16_vectorizedMismatch 224 = .ok (.ishr, 1) := dk_122 (dk_at dksJ16_vectorizedMismatch_9 14 rfl rfl)
theorem dJ16_vectorizedMismatch_225 : decode cJ16_vectorizedMismatch 225 = .ok (.goto 15, 3) := dk_167 0 15 (dk_at dksJ16_vectorizedMismatch_9 15 rfl rfl)
theorem dJ16_vectorizedMismatch_228 : decode cJ16_vectorizedMismatch 228 = .ok (.iload 16, 2) := dk_21 16 (dk_at dksJ16_vectorizedMismatch_9 18 rfl rfl)
theorem dJ16_vectorizedMismatch_230 : decode cJ16_vectorizedMismatch 230 = .ok (.invokestatic 11, 3) := dk_184 0 11 (dk_at dksJ16_vectorizedMismatch_9 20 rfl rfl)
theorem dJ16_vectorizedMismatch_233 : decode cJ16_vectorizedMismatch 233 = .ok (.getstatic 46, 3) := dk_178 0 46 (dk_at dksJ16_vectorizedMismatch_10 0 rfl rfl)
theorem dJ16_vectorizedMismatch_236 : decode cJ16_vectorizedMismatch 236 = .ok (.iload 7, 2) := dk_21 7 (dk_at dksJ16_vectorizedMismatch_10 3 rfl rfl)
theorem dJ16_vectorizedMismatch_238 : decode cJ16_vectorizedMismatch 238 = .ok (.iadd, 1) := dk_96 (dk_at dksJ16_vectorizedMismatch_10 5 rfl rfl)
theorem dJ16_vectorizedMismatch_239 : decode cJ16_vectorizedMismatch 239 = .ok (.ishr, 1) := dk_122 (dk_at dksJ16_vectorizedMismatch_10 6 rfl rfl)
theorem dJ16_vectorizedMismatch_240 : decode cJ16_vectorizedMismatch 240 = .ok (.istore 17, 2) := dk_54 17 (dk_at dksJ16_vectorizedMismatch_10 7 rfl rfl)
theorem dJ16_vectorizedMismatch_242 : decode cJ16_vectorizedMismatch 242 = .ok (.iload 9, 2) := dk_21 9 (dk_at dksJ16_vectorizedMismatch_10 9 rfl rfl)
theorem dJ16_vectorizedMismatch_244 : decode cJ16_vectorizedMismatch 244 = .ok (.iload 8, 2) := dk_21 8 (dk_at dksJ16_vectorizedMismatch_10 11 rfl rfl)
theorem dJ16_vectorizedMismatch_246 : decode cJ16_vectorizedMismatch 246 = .ok (.ishl, 1) := dk_120 (dk_at dksJ16_vectorizedMismatch_10 13 rfl rfl)
theorem dJ16_vectorizedMismatch_247 : decode cJ16_vectorizedMismatch 247 = .ok (.iload 17, 2) := dk_21 17 (dk_at dksJ16_vectorizedMismatch_10 14 rfl rfl)
theorem dJ16_vectorizedMismatch_249 : decode cJ16_vectorizedMismatch 249 = .ok (.iadd, 1) := dk_96 (dk_at dksJ16_vectorizedMismatch_10 16 rfl rfl)
theorem dJ16_vectorizedMismatch_250 : decode cJ16_vectorizedMismatch 250 = .ok (.ireturn, 1) := dk_172 (dk_at dksJ16_vectorizedMismatch_10 17 rfl rfl)
theorem dJ16_vectorizedMismatch_251 : decode cJ16_vectorizedMismatch 251 = .ok (.iload 10, 2) := dk_21 10 (dk_at dksJ16_vectorizedMismatch_10 18 rfl rfl)
theorem dJ16_vectorizedMismatch_253 : decode cJ16_vectorizedMismatch 253 = .ok (.iload 11, 2) := dk_21 11 (dk_at dksJ16_vectorizedMismatch_10 20 rfl rfl)
theorem dJ16_vectorizedMismatch_255 : decode cJ16_vectorizedMismatch 255 = .ok (.isub, 1) := dk_100 (dk_at dksJ16_vectorizedMismatch_10 22 rfl rfl)
theorem dJ16_vectorizedMismatch_256 : decode cJ16_vectorizedMismatch 256 = .ok (.istore 10, 2) := dk_54 10 (dk_at dksJ16_vectorizedMismatch_11 0 rfl rfl)
theorem dJ16_vectorizedMismatch_258 : decode cJ16_vectorizedMismatch 258 = .ok (.iload 10, 2) := dk_21 10 (dk_at dksJ16_vectorizedMismatch_11 2 rfl rfl)
theorem dJ16_vectorizedMismatch_260 : decode cJ16_vectorizedMismatch 260 = .ok (.iconst (-1), 1) := dk_2 (dk_at dksJ16_vectorizedMismatch_11 4 rfl rfl)
theorem dJ16_vectorizedMismatch_261 : decode cJ16_vectorizedMismatch 261 = .ok (.ixor, 1) := dk_130 (dk_at dksJ16_vectorizedMismatch_11 5 rfl rfl)
theorem dJ16_vectorizedMismatch_262 : decode cJ16_vectorizedMismatch 262 = .ok (.ireturn, 1) := dk_172 (dk_at dksJ16_vectorizedMismatch_11 6 rfl rfl)
theorem dJ16_vectorizedMismatch_263 : decode cJ16_vectorizedMismatch 263 = .ok (.iload 10, 2) := dk_21 10 (dk_at dksJ16_vectorizedMismatch_11 7 rfl rfl)
theorem dJ16_vectorizedMismatch_265 : decode cJ16_vectorizedMismatch 265 = .ok (.iconst (-1), 1) := dk_2 (dk_at dksJ16_vectorizedMismatch_11 9 rfl rfl)
theorem dJ16_vectorizedMismatch_266 : decode cJ16_vectorizedMismatch 266 = .ok (.ixor, 1) := dk_130 (dk_at dksJ16_vectorizedMismatch_11 10 rfl rfl)
theorem dJ16_vectorizedMismatch_267 : decode cJ16_vectorizedMismatch 267 = .ok (.ireturn, 1) := dk_172 (dk_at dksJ16_vectorizedMismatch_11 11 rfl rfl)
theorem q95 : (Jvm.Cond.initialized "jdk/internal/util/ArraysSupport") ∈ lw_all := lw_g (lw_at lw_m1 27 rfl) rfl
theorem q761 : (Jvm.Cond.static ({ cls := "jdk/internal/util/ArraysSupport", name := "newLength", desc := "(III)I" } : Jvm.MethodName)) ∈ lw_all := lw_g (lw_at lw_m3 213 rfl) rfl
theorem q762 : (Jvm.Cond.code ({ cls := "jdk/internal/util/ArraysSupport", name := "newLength", desc := "(III)I" } : Jvm.MethodName) prog_78_method_27_code (4 : Nat) (Option.some Jvm.ClassFile.FieldType.int)) ∈ lw_all := lw_g (lw_at lw_m3 214 rfl) rfl
theorem q763 : (Jvm.Cond.methodLink "jdk/internal/util/ArraysSupport" (194 : Nat) ({ cls := "java/lang/Math", name := "max", desc := "(II)I" } : Jvm.MethodName)) ∈ lw_all := lw_g (lw_at lw_m3 215 rfl) rfl
theorem q766 : (Jvm.Cond.constant "jdk/internal/util/ArraysSupport" (200 : Nat) (2147483639 : Int32)) ∈ lw_all := lw_g (lw_at lw_m3 218 rfl) rfl
theorem q767 : (Jvm.Cond.methodLink "jdk/internal/util/ArraysSupport" (201 : Nat) ({ cls := "jdk/internal/util/ArraysSupport", name := "hugeLength", desc := "(II)I" } : Jvm.MethodName)) ∈ lw_all := lw_g (lw_at lw_m3 219 rfl) rfl
theorem q768 : (Jvm.Cond.static ({ cls := "jdk/internal/util/ArraysSupport", name := "hugeLength", desc := "(II)I" } : Jvm.MethodName)) ∈ lw_all := lw_g (lw_at lw_m3 220 rfl) rfl
theorem q769 : (Jvm.Cond.code ({ cls := "jdk/internal/util/ArraysSupport", name := "hugeLength", desc := "(II)I" } : Jvm.MethodName) prog_78_method_28_code (3 : Nat) (Option.some Jvm.ClassFile.FieldType.int)) ∈ lw_all := lw_g (lw_at lw_m3 221 rfl) rfl
theorem q893 : (Jvm.Cond.static ({ cls := "jdk/internal/util/ArraysSupport", name := "mismatch", desc := "([B[BI)I" } : Jvm.MethodName)) ∈ lw_all := lw_g (lw_at lw_m4 105 rfl) rfl
theorem q894 : (Jvm.Cond.code ({ cls := "jdk/internal/util/ArraysSupport", name := "mismatch", desc := "([B[BI)I" } : Jvm.MethodName) prog_78_method_13_code (4 : Nat) (Option.some Jvm.ClassFile.FieldType.int)) ∈ lw_all := lw_g (lw_at lw_m4 106 rfl) rfl
theorem q895 : (Jvm.Cond.fieldLink "jdk/internal/util/ArraysSupport" (126 : Nat) "jdk/internal/misc/Unsafe" "ARRAY_BYTE_BASE_OFFSET" "I") ∈ lw_all := lw_g (lw_at lw_m4 107 rfl) rfl
theorem q897 : (Jvm.Cond.fieldLink "jdk/internal/util/ArraysSupport" (129 : Nat) "jdk/internal/util/ArraysSupport" "LOG2_ARRAY_BYTE_INDEX_SCALE" "I") ∈ lw_all := lw_g (lw_at lw_m4 109 rfl) rfl
theorem q898 : (Jvm.Cond.laysStatic "jdk/internal/util/ArraysSupport" "LOG2_ARRAY_BYTE_INDEX_SCALE" "I") ∈ lw_tbl := lw_at lw_m4 110 rfl
theorem q899 : (Jvm.Cond.methodLink "jdk/internal/util/ArraysSupport" (122 : Nat) ({ cls := "jdk/internal/util/ArraysSupport", name := "vectorizedMismatch", desc := "(Ljava/lang/Object;JLjava/lang/Object;JII)I" } : Jvm.MethodName)) ∈ lw_all := lw_g (lw_at lw_m4 111 rfl) rfl
theorem q900 : (Jvm.Cond.static ({ cls := "jdk/internal/util/ArraysSupport", name := "vectorizedMismatch", desc := "(Ljava/lang/Object;JLjava/lang/Object;JII)I" } : Jvm.MethodName)) ∈ lw_all := lw_g (lw_at lw_m4 112 rfl) rfl
theorem q901 : (Jvm.Cond.code ({ cls := "jdk/internal/util/ArraysSupport", name := "vectorizedMismatch", desc := "(Ljava/lang/Object;JLjava/lang/Object;JII)I" } : Jvm.MethodName) prog_78_method_3_code (19 : Nat) (Option.some Jvm.ClassFile.FieldType.int)) ∈ lw_all := lw_g (lw_at lw_m4 113 rfl) rfl
theorem q902 : (Jvm.Cond.fieldLink "jdk/internal/util/ArraysSupport" (20 : Nat) "jdk/internal/util/ArraysSupport" "LOG2_ARRAY_LONG_INDEX_SCALE" "I") ∈ lw_all := lw_g (lw_at lw_m4 114 rfl) rfl
theorem q903 : (Jvm.Cond.laysStatic "jdk/internal/util/ArraysSupport" "LOG2_ARRAY_LONG_INDEX_SCALE" "I") ∈ lw_tbl := lw_at lw_m4 115 rfl
theorem q904 : (Jvm.Cond.fieldLink "jdk/internal/util/ArraysSupport" (26 : Nat) "jdk/internal/util/ArraysSupport" "U" "Ljdk/internal/misc/Unsafe;") ∈ lw_all := lw_g (lw_at lw_m4 116 rfl) rfl
theorem q905 : (Jvm.Cond.laysStatic "jdk/internal/util/ArraysSupport" "U" "Ljdk/internal/misc/Unsafe;") ∈ lw_tbl := lw_at lw_m4 117 rfl
theorem q906 : (Jvm.Cond.methodLink "jdk/internal/util/ArraysSupport" (30 : Nat) ({ cls := "jdk/internal/misc/Unsafe", name := "getLongUnaligned", desc := "(Ljava/lang/Object;J)J" } : Jvm.MethodName)) ∈ lw_all := lw_g (lw_at lw_m4 118 rfl) rfl
theorem q958 : (Jvm.Cond.fieldLink "jdk/internal/util/ArraysSupport" (36 : Nat) "jdk/internal/util/ArraysSupport" "BIG_ENDIAN" "Z") ∈ lw_all := lw_g (lw_at lw_m4 170 rfl) rfl
theorem q959 : (Jvm.Cond.laysStatic "jdk/internal/util/ArraysSupport" "BIG_ENDIAN" "Z") ∈ lw_tbl := lw_at lw_m4 171 rfl
theorem q960 : (Jvm.Cond.methodLink "jdk/internal/util/ArraysSupport" (40 : Nat) ({ cls := "java/lang/Long", name := "numberOfLeadingZeros", desc := "(J)I" } : Jvm.MethodName)) ∈ lw_all := lw_g (lw_at lw_m4 172 rfl) rfl
theorem q967 : (Jvm.Cond.fieldLink "jdk/internal/util/ArraysSupport" (46 : Nat) "jdk/internal/util/ArraysSupport" "LOG2_BYTE_BIT_SIZE" "I") ∈ lw_all := lw_g (lw_at lw_m4 179 rfl) rfl
theorem q968 : (Jvm.Cond.laysStatic "jdk/internal/util/ArraysSupport" "LOG2_BYTE_BIT_SIZE" "I") ∈ lw_tbl := lw_at lw_m4 180 rfl
theorem q969 : (Jvm.Cond.methodLink "jdk/internal/util/ArraysSupport" (49 : Nat) ({ cls := "java/lang/Long", name := "numberOfTrailingZeros", desc := "(J)I" } : Jvm.MethodName)) ∈ lw_all := lw_g (lw_at lw_m4 181 rfl) rfl
theorem q975 : (Jvm.Cond.fieldLink "jdk/internal/util/ArraysSupport" (51 : Nat) "jdk/internal/util/ArraysSupport" "LOG2_ARRAY_INT_INDEX_SCALE" "I") ∈ lw_all := lw_g (lw_at lw_m4 187 rfl) rfl
theorem q976 : (Jvm.Cond.laysStatic "jdk/internal/util/ArraysSupport" "LOG2_ARRAY_INT_INDEX_SCALE" "I") ∈ lw_tbl := lw_at lw_m4 188 rfl
theorem q977 : (Jvm.Cond.methodLink "jdk/internal/util/ArraysSupport" (54 : Nat) ({ cls := "jdk/internal/misc/Unsafe", name := "getIntUnaligned", desc := "(Ljava/lang/Object;J)I" } : Jvm.MethodName)) ∈ lw_all := lw_g (lw_at lw_m4 189 rfl) rfl
theorem q994 : (Jvm.Cond.methodLink "jdk/internal/util/ArraysSupport" (58 : Nat) ({ cls := "java/lang/Integer", name := "numberOfLeadingZeros", desc := "(I)I" } : Jvm.MethodName)) ∈ lw_all := lw_g (lw_at lw_m4 206 rfl) rfl
theorem q995 : (Jvm.Cond.methodLink "jdk/internal/util/ArraysSupport" (11 : Nat) ({ cls := "java/lang/Integer", name := "numberOfTrailingZeros", desc := "(I)I" } : Jvm.MethodName)) ∈ lw_all := lw_g (lw_at lw_m4 207 rfl) rfl
/-! java/lang/Math -/
set_option maxRecDepth 100000
def RJ17 : String := "java/lang/Math"
abbrev cJ17_max : ByteArray := prog_29_method_65_code
def yJ17_max : MethodName := ⟨RJ17, "max", "(II)I"⟩
def dkwJ17_max_0 : List UInt8 := [26, 27, 161, 0, 7, 26, 167, 0, 4, 27, 172]
abbrev dktJ17_max_0 : List UInt8 := dkwJ17_max_0 ++ []
theorem dksJ17_max_0 : cJ17_max.data.toList.drop 0 = dktJ17_max_0 := by decide +kernel
theorem dJ17_max_0 : decode cJ17_max 0 = .ok (.iload_n 0, 1) := dk_26 (dk_at dksJ17_max_0 0 rfl rfl)
theorem dJ17_max_1 : decode cJ17_max 1 = .ok (.iload_n 1, 1) := dk_27 (dk_at dksJ17_max_0 1 rfl rfl)
theorem dJ17_max_2 : decode cJ17_max 2 = .ok (.if_icmp .lt 7, 3) := dk_161 0 7 (dk_at dksJ17_max_0 2 rfl rfl)
theorem dJ17_max_5 : decode cJ17_max 5 = .ok (.iload_n 0, 1) := dk_26 (dk_at dksJ17_max_0 5 rfl rfl)
theorem dJ17_max_6 : decode cJ17_max 6 = .ok (.goto 4, 3) := dk_167 0 4 (dk_at dksJ17_max_0 6 rfl rfl)
theorem dJ17_max_9 : decode cJ17_max 9 = .ok (.iload_n 1, 1) := dk_27 (dk_at dksJ17_max_0 9 rfl rfl)
theorem dJ17_max_10 : decode cJ17_max 10 = .ok (.ireturn, 1) := dk_172 (dk_at dksJ17_max_0 10 rfl rfl)
abbrev cJ17_min : ByteArray := prog_29_method_69_code
def yJ17_min : MethodName := ⟨RJ17, "min", "(II)I"⟩
def dkwJ17_min_0 : List UInt8 := [26, 27, 163, 0, 7, 26, 167, 0, 4, 27, 172]
abbrev dktJ17_min_0 : List UInt8 := dkwJ17_min_0 ++ []
theorem dksJ17_min_0 : cJ17_min.data.toList.drop 0 = dktJ17_min_0 := by decide +kernel
theorem dJ17_min_0 : decode cJ17_min 0 = .ok (.iload_n 0, 1) := dk_26 (dk_at dksJ17_min_0 0 rfl rfl)
theorem dJ17_min_1 : decode cJ17_min 1 = .ok (.iload_n 1, 1) := dk_27 (dk_at dksJ17_min_0 1 rfl rfl)
theorem dJ17_min_2 : decode cJ17_min 2 = .ok (.if_icmp .gt 7, 3) := dk_163 0 7 (dk_at dksJ17_min_0 2 rfl rfl)
theorem dJ17_min_5 : decode cJ17_min 5 = .ok (.iload_n 0, 1) := dk_26 (dk_at dksJ17_min_0 5 rfl rfl)
theorem dJ17_min_6 : decode cJ17_min 6 = .ok (.goto 4, 3) := dk_167 0 4 (dk_at dksJ17_min_0 6 rfl rfl)
theorem dJ17_min_9 : decode cJ17_min 9 = .ok (.iload_n 1, 1) := dk_27 (dk_at dksJ17_min_0 9 rfl rfl)
theorem dJ17_min_10 : decode cJ17_min 10 = .ok (.ireturn, 1) := dk_172 (dk_at dksJ17_min_0 10 rfl rfl)
theorem q96 : (Jvm.Cond.initialized "java/lang/Math") ∈ lw_all := lw_g (lw_at lw_m1 28 rfl) rfl
theorem q764 : (Jvm.Cond.static ({ cls := "java/lang/Math", name := "max", desc := "(II)I" } : Jvm.MethodName)) ∈ lw_all := lw_g (lw_at lw_m3 216 rfl) rfl
theorem q765 : (Jvm.Cond.code ({ cls := "java/lang/Math", name := "max", desc := "(II)I" } : Jvm.MethodName) prog_29_method_65_code (2 : Nat) (Option.some Jvm.ClassFile.FieldType.int)) ∈ lw_all := lw_g (lw_at lw_m3 217 rfl) rfl
theorem q809 : (Jvm.Cond.static ({ cls := "java/lang/Math", name := "min", desc := "(II)I" } : Jvm.MethodName)) ∈ lw_all := lw_g (lw_at lw_m4 21 rfl) rfl
theorem q810 : (Jvm.Cond.code ({ cls := "java/lang/Math", name := "min", desc := "(II)I" } : Jvm.MethodName) prog_29_method_69_code (2 : Nat) (Option.some Jvm.ClassFile.FieldType.int)) ∈ lw_all := lw_g (lw_at lw_m4 22 rfl) rfl
/-! java/util/Arrays -/
set_option maxRecDepth 100000
def RJ18 : String := "java/util/Arrays"
abbrev cJ18_copyOf : ByteArray := prog_48_method_119_code
def yJ18_copyOf : MethodName := ⟨RJ18, "copyOf", "([Ljava/lang/Object;I)[Ljava/lang/Object;"⟩
def dkwJ18_copyOf_0 : List UInt8 := [42, 27, 42, 182, 0, 86, 184, 1, 44, 176]
abbrev dktJ18_copyOf_0 : List UInt8 := dkwJ18_copyOf_0 ++ []
theorem dksJ18_copyOf_0 : cJ18_copyOf.data.toList.drop 0 = dktJ18_copyOf_0 := by decide +kernel
theorem dJ18_copyOf_0 : decode cJ18_copyOf 0 = .ok (.aload_n 0, 1) := dk_42 (dk_at dksJ18_copyOf_0 0 rfl rfl)
theorem dJ18_copyOf_1 : decode cJ18_copyOf 1 = .ok (.iload_n 1, 1) := dk_27 (dk_at dksJ18_copyOf_0 1 rfl rfl)
theorem dJ18_copyOf_2 : decode cJ18_copyOf 2 = .ok (.aload_n 0, 1) := dk_42 (dk_at dksJ18_copyOf_0 2 rfl rfl)
theorem dJ18_copyOf_3 : decode cJ18_copyOf 3 = .ok (.invokevirtual 86, 3) := dk_182 0 86 (dk_at dksJ18_copyOf_0 3 rfl rfl)
theorem dJ18_copyOf_6 : decode cJ18_copyOf 6 = .ok (.invokestatic 300, 3) := dk_184 1 44 (dk_at dksJ18_copyOf_0 6 rfl rfl)
theorem dJ18_copyOf_9 : decode cJ18_copyOf 9 = .ok (.areturn, 1) := dk_176 (dk_at dksJ18_copyOf_0 9 rfl rfl)
abbrev cJ18_copyOf_2 : ByteArray := prog_48_method_120_code
def yJ18_copyOf_2 : MethodName := ⟨RJ18, "copyOf", "([Ljava/lang/Object;ILjava/lang/Class;)[Ljava/lang/Object;"⟩
def dkwJ18_copyOf_2_1 : List UInt8 := [78, 42, 3, 45, 3, 42, 190, 27, 184, 1, 48, 184, 0, 150, 45, 176]
abbrev dktJ18_copyOf_2_1 : List UInt8 := dkwJ18_copyOf_2_1 ++ []
def dkwJ18_copyOf_2_0 : List UInt8 := [44, 18, 110, 166, 0, 10, 27, 189, 0, 2, 167, 0, 14, 44, 182, 0, 90, 27, 184, 0, 95, 192, 0, 110]
abbrev dktJ18_copyOf_2_0 : List UInt8 := dkwJ18_copyOf_2_0 ++ dktJ18_copyOf_2_1
theorem dksJ18_copyOf_2_0 : cJ18_copyOf_2.data.toList.drop 0 = dktJ18_copyOf_2_0 := by decide +kernel
theorem dksJ18_copyOf_2_1 : cJ18_copyOf_2.data.toList.drop 24 = dktJ18_copyOf_2_1 := dk_seg dksJ18_copyOf_2_0 24 rfl rfl
theorem dJ18_copyOf_2_0 : decode cJ18_copyOf_2 0 = .ok (.aload_n 2, 1) := dk_44 (dk_at dksJ18_copyOf_2_0 0 rfl rfl)
theorem dJ18_copyOf_2_1 : decode cJ18_copyOf_2 1 = .ok (.ldc 110, 2) := dk_18 110 (dk_at dksJ18_copyOf_2_0 1 rfl rfl)
theorem dJ18_copyOf_2_3 : decode cJ18_copyOf_2 3 = .ok (.if_acmp .ne 10, 3) := dk_166 0 10 (dk_at dksJ18_copyOf_2_0 3 rfl rfl)
theorem dJ18_copyOf_2_6 : decode cJ18_copyOf_2 6 = .ok (.iload_n 1, 1) := dk_27 (dk_at dksJ18_copyOf_2_0 6 rfl rfl)
theorem dJ18_copyOf_2_7 : decode cJ18_copyOf_2 7 = .ok (.anewarray 2, 3) := dk_189 0 2 (dk_at dksJ18_copyOf_2_0 7 rfl rfl)
theorem dJ18_copyOf_2_10 : decode cJ18_copyOf_2 10 = .ok (.goto 14, 3) := dk_167 0 14 (dk_at dksJ18_copyOf_2_0 10 rfl rfl)
theorem dJ18_copyOf_2_13 : decode cJ18_copyOf_2 13 = .ok (.aload_n 2, 1) := dk_44 (dk_at dksJ18_copyOf_2_0 13 rfl rfl)
theorem dJ18_copyOf_2_14 : decode cJ18_copyOf_2 14 = .ok (.invokevirtual 90, 3) := dk_182 0 90 (dk_at dksJ18_copyOf_2_0 14 rfl rfl)
theorem dJ18_copyOf_2_17 : decode cJ18_copyOf_2 17 = .ok (.iload_n 1, 1) := dk_27 (dk_at dksJ18_copyOf_2_0 17 rfl rfl)
theorem dJ18_copyOf_2_18 : decode cJ18_copyOf_2 18 = .ok (.invokestatic 95, 3) := dk_184 0 95 (dk_at dksJ18_copyOf_2_0 18 rfl rfl)
theorem dJ18_copyOf_2_21 : decode cJ18_copyOf_2 21 = .ok (.checkcast 110, 3) := dk_192 0 110 (dk_at dksJ18_copyOf_2_0 21 rfl rfl)
theorem dJ18_copyOf_2_24 : decode cJ18_copyOf_2 24 = .ok (.astore_n 3, 1) := dk_78 (dk_at dksJ18_copyOf_2_1 0 rfl rfl)
theorem dJ18_copyOf_2_25 : decode cJ18_copyOf_2 25 = .ok (.aload_n 0, 1) := dk_42 (dk_at dksJ18_copyOf_2_1 1 rfl rfl)
theorem dJ18_copyOf_2_26 : decode cJ18_copyOf_2 26 = .ok (.iconst 0, 1) := dk_3 (dk_at dksJ18_copyOf_2_1 2 rfl rfl)
theorem dJ18_copyOf_2_27 : decode cJ18_copyOf_2 27 = .ok (.aload_n 3, 1) := dk_45 (dk_at dksJ18_copyOf_2_1 3 rfl rfl)
theorem dJ18_copyOf_2_28 : decode cJ18_copyOf_2 28 = .ok (.iconst 0, 1) := dk_3 (dk_at dksJ18_copyOf_2_1 4 rfl rfl)
theorem dJ18_copyOf_2_29 : decode cJ18_copyOf_2 29 = .ok (.aload_n 0, 1) := dk_42 (dk_at dksJ18_copyOf_2_1 5 rfl rfl)
theorem dJ18_copyOf_2_30 : decode cJ18_copyOf_2 30 = .ok (.arraylength, 1) := dk_190 (dk_at dksJ18_copyOf_2_1 6 rfl rfl)
theorem dJ18_copyOf_2_31 : decode cJ18_copyOf_2 31 = .ok (.iload_n 1, 1) := dk_27 (dk_at dksJ18_copyOf_2_1 7 rfl rfl)
theorem dJ18_copyOf_2_32 : decode cJ18_copyOf_2 32 = .ok (.invokestatic 304, 3) := dk_184 1 48 (dk_at dksJ18_copyOf_2_1 8 rfl rfl)
theorem dJ18_copyOf_2_35 : decode cJ18_copyOf_2 35 = .ok (.invokestatic 150, 3) := dk_184 0 150 (dk_at dksJ18_copyOf_2_1 11 rfl rfl)
theorem dJ18_copyOf_2_38 : decode cJ18_copyOf_2 38 = .ok (.aload_n 3, 1) := dk_45 (dk_at dksJ18_copyOf_2_1 14 rfl rfl)
theorem dJ18_copyOf_2_39 : decode cJ18_copyOf_2 39 = .ok (.areturn, 1) := dk_176 (dk_at dksJ18_copyOf_2_1 15 rfl rfl)
abbrev cJ18_copyOf_3 : ByteArray := prog_48_method_121_code
def yJ18_copyOf_3 : MethodName := ⟨RJ18, "copyOf", "([BI)[B"⟩
def dkwJ18_copyOf_3_1 : List UInt8 := [27, 184, 1, 48, 184, 0, 150, 44, 176]
abbrev dktJ18_copyOf_3_1 : List UInt8 := dkwJ18_copyOf_3_1 ++ []
def dkwJ18_copyOf_3_0 : List UInt8 := [27, 42, 190, 160, 0, 11, 42, 182, 1, 54, 192, 1, 55, 176, 27, 188, 8, 77, 42, 3, 44, 3, 42, 190]
abbrev dktJ18_copyOf_3_0 : List UInt8 := dkwJ18_copyOf_3_0 ++ dktJ18_copyOf_3_1
theorem dksJ18_copyOf_3_0 : cJ18_copyOf_3.data.toList.drop 0 = dktJ18_copyOf_3_0 := by decide +kernel
theorem dksJ18_copyOf_3_1 : cJ18_copyOf_3.data.toList.drop 24 = dktJ18_copyOf_3_1 := dk_seg dksJ18_copyOf_3_0 24 rfl rfl
theorem dJ18_copyOf_3_0 : decode cJ18_copyOf_3 0 = .ok (.iload_n 1, 1) := dk_27 (dk_at dksJ18_copyOf_3_0 0 rfl rfl)
theorem dJ18_copyOf_3_1 : decode cJ18_copyOf_3 1 = .ok (.aload_n 0, 1) := dk_42 (dk_at dksJ18_copyOf_3_0 1 rfl rfl)
theorem dJ18_copyOf_3_2 : decode cJ18_copyOf_3 2 = .ok (.arraylength, 1) := dk_190 (dk_at dksJ18_copyOf_3_0 2 rfl rfl)
theorem dJ18_copyOf_3_3 : decode cJ18_copyOf_3 3 = .ok (.if_icmp .ne 11, 3) := dk_160 0 11 (dk_at dksJ18_copyOf_3_0 3 rfl rfl)
theorem dJ18_copyOf_3_6 : decode cJ18_copyOf_3 6 = .ok (.aload_n 0, 1) := dk_42 (dk_at dksJ18_copyOf_3_0 6 rfl rfl)
theorem dJ18_copyOf_3_7 : decode cJ18_copyOf_3 7 = .ok (.invokevirtual 310, 3) := dk_182 1 54 (dk_at dksJ18_copyOf_3_0 7 rfl rfl)
theorem dJ18_copyOf_3_10 : decode cJ18_copyOf_3 10 = .ok (.checkcast 311, 3) := dk_192 1 55 (dk_at dksJ18_copyOf_3_0 10 rfl rfl)
theorem dJ18_copyOf_3_13 : decode cJ18_copyOf_3 13 = .ok (.areturn, 1) := dk_176 (dk_at dksJ18_copyOf_3_0 13 rfl rfl)
theorem dJ18_copyOf_3_14 : decode cJ18_copyOf_3 14 = .ok (.iload_n 1, 1) := dk_27 (dk_at dksJ18_copyOf_3_0 14 rfl rfl)
theorem dJ18_copyOf_3_15 : decode cJ18_copyOf_3 15 = .ok (.newarray .byte, 2) := dk_188_8 (dk_at dksJ18_copyOf_3_0 15 rfl rfl)
theorem dJ18_copyOf_3_17 : decode cJ18_copyOf_3 17 = .ok (.astore_n 2, 1) := dk_77 (dk_at dksJ18_copyOf_3_0 17 rfl rfl)
theorem dJ18_copyOf_3_18 : decode cJ18_copyOf_3 18 = .ok (.aload_n 0, 1) := dk_42 (dk_at dksJ18_copyOf_3_0 18 rfl rfl)
theorem dJ18_copyOf_3_19 : decode cJ18_copyOf_3 19 = .ok (.iconst 0, 1) := dk_3 (dk_at dksJ18_copyOf_3_0 19 rfl rfl)
theorem dJ18_copyOf_3_20 : decode cJ18_copyOf_3 20 = .ok (.aload_n 2, 1) := dk_44 (dk_at dksJ18_copyOf_3_0 20 rfl rfl)
theorem dJ18_copyOf_3_21 : decode cJ18_copyOf_3 21 = .ok (.iconst 0, 1) := dk_3 (dk_at dksJ18_copyOf_3_0 21 rfl rfl)
theorem dJ18_copyOf_3_22 : decode cJ18_copyOf_3 22 = .ok (.aload_n 0, 1) := dk_42 (dk_at dksJ18_copyOf_3_0 22 rfl rfl)
theorem dJ18_copyOf_3_23 : decode cJ18_copyOf_3 23 = .ok (.arraylength, 1) := dk_190 (dk_at dksJ18_copyOf_3_0 23 rfl rfl)
theorem dJ18_copyOf_3_24 : decode cJ18_copyOf_3 24 = .ok (.iload_n 1, 1) := dk_27 (dk_at dksJ18_copyOf_3_1 0 rfl rfl)
theorem dJ18_copyOf_3_25 : decode cJ18_copyOf_3 25 = .ok (.invokestatic 304, 3) := dk_184 1 48 (dk_at dksJ18_copyOf_3_1 1 rfl rfl)
theorem dJ18_copyOf_3_28 : decode cJ18_copyOf_3 28 = .ok (.invokestatic 150, 3) := dk_184 0 150 (dk_at dksJ18_copyOf_3_1 4 rfl rfl)
theorem dJ18_copyOf_3_31 : decode cJ18_copyOf_3 31 = .ok (.aload_n 2, 1) := dk_44 (dk_at dksJ18_copyOf_3_1 7 rfl rfl)
theorem dJ18_copyOf_3_32 : decode cJ18_copyOf_3 32 = .ok (.areturn, 1) := dk_176 (dk_at dksJ18_copyOf_3_1 8 rfl rfl)
abbrev cJ18_fill : ByteArray := prog_48_method_110_code
def yJ18_fill : MethodName := ⟨RJ18, "fill", "([BIIB)V"⟩
def dkwJ18_fill_1 : List UInt8 := [167, 255, 242, 177]
abbrev dktJ18_fill_1 : List UInt8 := dkwJ18_fill_1 ++ []
def dkwJ18_fill_0 : List UInt8 := [42, 190, 27, 28, 184, 0, 13, 27, 54, 4, 21, 4, 28, 162, 0, 14, 42, 21, 4, 29, 84, 132, 4, 1]
abbrev dktJ18_fill_0 : List UInt8 := dkwJ18_fill_0 ++ dktJ18_fill_1
theorem dksJ18_fill_0 : cJ18_fill.data.toList.drop 0 = dktJ18_fill_0 := by decide +kernel
theorem dksJ18_fill_1 : cJ18_fill.data.toList.drop 24 = dktJ18_fill_1 := dk_seg dksJ18_fill_0 24 rfl rfl
theorem dJ18_fill_0 : decode cJ18_fill 0 = .ok (.aload_n 0, 1) := dk_42 (dk_at dksJ18_fill_0 0 rfl rfl)
theorem dJ18_fill_1 : decode cJ18_fill 1 = .ok (.arraylength, 1) := dk_190 (dk_at dksJ18_fill_0 1 rfl rfl)
theorem dJ18_fill_2 : decode cJ18_fill 2 = .ok (.iload_n 1, 1) := dk_27 (dk_at dksJ18_fill_0 2 rfl rfl)
theorem dJ18_fill_3 : decode cJ18_fill 3 = .ok (.iload_n 2, 1) := dk_28 (dk_at dksJ18_fill_0 3 rfl rfl)
theorem dJ18_fill_4 : decode cJ18_fill 4 = .ok (.invokestatic 13, 3) := dk_184 0 13 (dk_at dksJ18_fill_0 4 rfl rfl)
theorem dJ18_fill_7 : decode cJ18_fill 7 = .ok (.iload_n 1, 1) := dk_27 (dk_at dksJ18_fill_0 7 rfl rfl)
theorem dJ18_fill_8 : decode cJ18_fill 8 = .ok (.istore 4, 2) := dk_54 4 (dk_at dksJ18_fill_0 8 rfl rfl)
theorem dJ18_fill_10 : decode cJ18_fill 10 = .ok (.iload 4, 2) := dk_21 4 (dk_at dksJ18_fill_0 10 rfl rfl)
theorem dJ18_fill_12 : decode cJ18_fill 12 = .ok (.iload_n 2, 1) := dk_28 (dk_at dksJ18_fill_0 12 rfl rfl)
theorem dJ18_fill_13 : decode cJ18_fill 13 = .ok (.if_icmp .ge 14, 3) := dk_162 0 14 (dk_at dksJ18_fill_0 13 rfl rfl)
theorem dJ18_fill_16 : decode cJ18_fill 16 = .ok (.aload_n 0, 1) := dk_42 (dk_at dksJ18_fill_0 16 rfl rfl)
theorem dJ18_fill_17 : decode cJ18_fill 17 = .ok (.iload 4, 2) := dk_21 4 (dk_at dksJ18_fill_0 17 rfl rfl)
theorem dJ18_fill_19 : decode cJ18_fill 19 = .ok (.iload_n 3, 1) := dk_29 (dk_at dksJ18_fill_0 19 rfl rfl)
theorem dJ18_fill_20 : decode cJ18_fill 20 = .ok (.bastore, 1) := dk_84 (dk_at dksJ18_fill_0 20 rfl rfl)
theorem dJ18_fill_21 : decode cJ18_fill 21 = .ok (.iinc 4 1, 3) := dk_132 4 1 (dk_at dksJ18_fill_0 21 rfl rfl)
theorem dJ18_fill_24 : decode cJ18_fill 24 = .ok (.goto (-14), 3) := dk_167 255 242 (dk_at dksJ18_fill_1 0 rfl rfl)
theorem dJ18_fill_27 : decode cJ18_fill 27 = .ok (.return_, 1) := dk_177 (dk_at dksJ18_fill_1 3 rfl rfl)
abbrev cJ18_rangeCheck : ByteArray := prog_48_method_30_code
def yJ18_rangeCheck : MethodName := ⟨RJ18, "rangeCheck", "(III)V"⟩
def dkwJ18_rangeCheck_3 : List UInt8 := [183, 0, 70, 191, 177]
abbrev dktJ18_rangeCheck_3 : List UInt8 := dkwJ18_rangeCheck_3 ++ []
def dkwJ18_rangeCheck_2 : List UInt8 := [27, 156, 0, 12, 187, 0, 68, 89, 27, 183, 0, 70, 191, 28, 26, 164, 0, 12, 187, 0, 68, 89, 28]
abbrev dktJ18_rangeCheck_2 : List UInt8 := dkwJ18_rangeCheck_2 ++ dktJ18_rangeCheck_3
def dkwJ18_rangeCheck_1 : List UInt8 := [182, 0, 54, 18, 57, 182, 0, 50, 28, 182, 0, 54, 18, 59, 182, 0, 50, 182, 0, 61, 183, 0, 65, 191]
abbrev dktJ18_rangeCheck_1 : List UInt8 := dkwJ18_rangeCheck_1 ++ dktJ18_rangeCheck_2
def dkwJ18_rangeCheck_0 : List UInt8 := [27, 28, 164, 0, 44, 187, 0, 43, 89, 187, 0, 45, 89, 183, 0, 47, 18, 48, 182, 0, 50, 27]
abbrev dktJ18_rangeCheck_0 : List UInt8 := dkwJ18_rangeCheck_0 ++ dktJ18_rangeCheck_1
theorem dksJ18_rangeCheck_0 : cJ18_rangeCheck.data.toList.drop 0 = dktJ18_rangeCheck_0 := by decide +kernel
theorem dksJ18_rangeCheck_1 : cJ18_rangeCheck.data.toList.drop 22 = dktJ18_rangeCheck_1 := dk_seg dksJ18_rangeCheck_0 22 rfl rfl
theorem dksJ18_rangeCheck_2 : cJ18_rangeCheck.data.toList.drop 46 = dktJ18_rangeCheck_2 := dk_seg dksJ18_rangeCheck_1 24 rfl rfl
theorem dksJ18_rangeCheck_3 : cJ18_rangeCheck.data.toList.drop 69 = dktJ18_rangeCheck_3 := dk_seg dksJ18_rangeCheck_2 23 rfl rfl
theorem dJ18_rangeCheck_0 : decode cJ18_rangeCheck 0 = .ok (.iload_n 1, 1) := dk_27 (dk_at dksJ18_rangeCheck_0 0 rfl rfl)
theorem dJ18_rangeCheck_1 : decode cJ18_rangeCheck 1 = .ok (.iload_n 2, 1) := dk_28 (dk_at dksJ18_rangeCheck_0 1 rfl rfl)
theorem dJ18_rangeCheck_2 : decode cJ18_rangeCheck 2 = .ok (.if_icmp .le 44, 3) := dk_164 0 44 (dk_at dksJ18_rangeCheck_0 2 rfl rfl)
theorem dJ18_rangeCheck_5 : decode cJ18_rangeCheck 5 = .ok (.new 43, 3) := dk_187 0 43 (dk_at dksJ18_rangeCheck_0 5 rfl rfl)
theorem dJ18_rangeCheck_8 : decode cJ18_rangeCheck 8 = .ok (.dup, 1) := dk_89 (dk_at dksJ18_rangeCheck_0 8 rfl rfl)
theorem dJ18_rangeCheck_9 : decode cJ18_rangeCheck 9 = .ok (.new 45, 3) := dk_187 0 45 (dk_at dksJ18_rangeCheck_0 9 rfl rfl)
theorem dJ18_rangeCheck_12 : decode cJ18_rangeCheck 12 = .ok (.dup, 1) := dk_89 (dk_at dksJ18_rangeCheck_0 12 rfl rfl)
theorem dJ18_rangeCheck_13 : decode cJ18_rangeCheck 13 = .ok (.invokespecial 47, 3) := dk_183 0 47 (dk_at dksJ18_rangeCheck_0 13 rfl rfl)
theorem dJ18_rangeCheck_16 : decode cJ18_rangeCheck 16 = .ok (.ldc 48, 2) := dk_18 48 (dk_at dksJ18_rangeCheck_0 16 rfl rfl)
theorem dJ18_rangeCheck_18 : decode cJ18_rangeCheck 18 = .ok (.invokevirtual 50, 3) := dk_182 0 50 (dk_at dksJ18_rangeCheck_0 18 rfl rfl)
theorem dJ18_rangeCheck_21 : decode cJ18_rangeCheck 21 = .ok (.iload_n 1, 1) := dk_27 (dk_at dksJ18_rangeCheck_0 21 rfl rfl)
theorem dJ18_rangeCheck_22 : decode cJ18_rangeCheck 22 = .ok (.invokevirtual 54, 3) := dk_182 0 54 (dk_at dksJ18_rangeCheck_1 0 rfl rfl)
theorem dJ18_rangeCheck_25 : decode cJ18_rangeCheck 25 = .ok (.ldc 57, 2) := dk_18 57 (dk_at dksJ18_rangeCheck_1 3 rfl rfl)
theorem dJ18_rangeCheck_27 : decode cJ18_rangeCheck 27 = .ok (.invokevirtual 50, 3) := dk_182 0 50 (dk_at dksJ18_rangeCheck_1 5 rfl rfl)
theorem dJ18_rangeCheck_30 : decode cJ18_rangeCheck 30 = .ok (.iload_n 2, 1) := dk_28 (dk_at dksJ18_rangeCheck_1 8 rfl rfl)
theorem dJ18_rangeCheck_31 : decode cJ18_rangeCheck 31 = .ok (.invokevirtual 54, 3) := dk_182 0 54 (dk_at dksJ18_rangeCheck_1 9 rfl rfl)
theorem dJ18_rangeCheck_34 : decode cJ18_rangeCheck 34 = .ok (.ldc 59, 2) := dk_18 59 (dk_at dksJ18_rangeCheck_1 12 rfl rfl)
theorem dJ18_rangeCheck_36 : decode cJ18_rangeCheck 36 = .ok (.invokevirtual 50, 3) := dk_182 0 50 (dk_at dksJ18_rangeCheck_1 14 rfl rfl)
theorem dJ18_rangeCheck_39 : decode cJ18_rangeCheck 39 = .ok (.invokevirtual 61, 3) := dk_182 0 61 (dk_at dksJ18_rangeCheck_1 17 rfl rfl)
theorem dJ18_rangeCheck_42 : decode cJ18_rangeCheck 42 = .ok (.invokespecial 65, 3) := dk_183 0 65 (dk_at dksJ18_rangeCheck_1 20 rfl rfl)
theorem dJ18_rangeCheck_45 : decode cJ18_rangeCheck 45 = .ok (.athrow, 1) := dk_191 (dk_at dksJ18_rangeCheck_1 23 rfl rfl)
theorem dJ18_rangeCheck_46 : decode cJ18_rangeCheck 46 = .ok (.iload_n 1, 1) := dk_27 (dk_at dksJ18_rangeCheck_2 0 rfl rfl)
theorem dJ18_rangeCheck_47 : decode cJ18_rangeCheck 47 = .ok (.ifCond .ge 12, 3) := dk_156 0 12 (dk_at dksJ18_rangeCheck_2 1 rfl rfl)
theorem dJ18_rangeCheck_50 : decode cJ18_rangeCheck 50 = .ok (.new 68, 3) := dk_187 0 68 (dk_at dksJ18_rangeCheck_2 4 rfl rfl)
theorem dJ18_rangeCheck_53 : decode cJ18_rangeCheck 53 = .ok (.dup, 1) := dk_89 (dk_at dksJ18_rangeCheck_2 7 rfl rfl)
theorem dJ18_rangeCheck_54 : decode cJ18_rangeCheck 54 = .ok (.iload_n 1, 1) := dk_27 (dk_at dksJ18_rangeCheck_2 8 rfl rfl)
theorem dJ18_rangeCheck_55 : decode cJ18_rangeCheck 55 = .ok (.invokespecial 70, 3) := dk_183 0 70 (dk_at dksJ18_rangeCheck_2 9 rfl rfl)
theorem dJ18_rangeCheck_58 : decode cJ18_rangeCheck 58 = .ok (.athrow, 1) := dk_191 (dk_at dksJ18_rangeCheck_2 12 rfl rfl)
theorem dJ18_rangeCheck_59 : decode cJ18_rangeCheck 59 = .ok (.iload_n 2, 1) := dk_28 (dk_at dksJ18_rangeCheck_2 13 rfl rfl)
theorem dJ18_rangeCheck_60 : decode cJ18_rangeCheck 60 = .ok (.iload_n 0, 1) := dk_26 (dk_at dksJ18_rangeCheck_2 14 rfl rfl)
theorem dJ18_rangeCheck_61 : decode cJ18_rangeCheck 61 = .ok (.if_icmp .le 12, 3) := dk_164 0 12 (dk_at dksJ18_rangeCheck_2 15 rfl rfl)
theorem dJ18_rangeCheck_64 : decode cJ18_rangeCheck 64 = .ok (.new 68, 3) := dk_187 0 68 (dk_at dksJ18_rangeCheck_2 18 rfl rfl)
theorem dJ18_rangeCheck_67 : decode cJ18_rangeCheck 67 = .ok (.dup, 1) := dk_89 (dk_at dksJ18_rangeCheck_2 21 rfl rfl)
theorem dJ18_rangeCheck_68 : decode cJ18_rangeCheck 68 = .ok (.iload_n 2, 1) := dk_28 (dk_at dksJ18_rangeCheck_2 22 rfl rfl)
theorem dJ18_rangeCheck_69 : decode cJ18_rangeCheck 69 = .ok (.invokespecial 70, 3) := dk_183 0 70 (dk_at dksJ18_rangeCheck_3 0 rfl rfl)
theorem dJ18_rangeCheck_72 : decode cJ18_rangeCheck 72 = .ok (.athrow, 1) := dk_191 (dk_at dksJ18_rangeCheck_3 3 rfl rfl)
theorem dJ18_rangeCheck_73 : decode cJ18_rangeCheck 73 = .ok (.return_, 1) := dk_177 (dk_at dksJ18_rangeCheck_3 4 rfl rfl)
abbrev cJ18_copyOfRange : ByteArray := prog_48_method_132_code
def yJ18_copyOfRange : MethodName := ⟨RJ18, "copyOfRange", "([BII)[B"⟩
def dkwJ18_copyOfRange_1 : List UInt8 := [176]
abbrev dktJ18_copyOfRange_1 : List UInt8 := dkwJ18_copyOfRange_1 ++ []
def dkwJ18_copyOfRange_0 : List UInt8 := [27, 154, 0, 9, 28, 42, 190, 159, 0, 10, 42, 27, 28, 184, 1, 83, 176, 42, 182, 1, 54, 192, 1, 55]
abbrev dktJ18_copyOfRange_0 : List UInt8 := dkwJ18_copyOfRange_0 ++ dktJ18_copyOfRange_1
theorem dksJ18_copyOfRange_0 : cJ18_copyOfRange.data.toList.drop 0 = dktJ18_copyOfRange_0 := by decide +kernel
theorem dksJ18_copyOfRange_1 : cJ18_copyOfRange.data.toList.drop 24 = dktJ18_copyOfRange_1 := dk_seg dksJ18_copyOfRange_0 24 rfl rfl
theorem dJ18_copyOfRange_0 : decode cJ18_copyOfRange 0 = .ok (.iload_n 1, 1) := dk_27 (dk_at dksJ18_copyOfRange_0 0 rfl rfl)
theorem dJ18_copyOfRange_1 : decode cJ18_copyOfRange 1 = .ok (.ifCond .ne 9, 3) := dk_154 0 9 (dk_at dksJ18_copyOfRange_0 1 rfl rfl)
theorem dJ18_copyOfRange_4 : decode cJ18_copyOfRange 4 = .ok (.iload_n 2, 1) := dk_28 (dk_at dksJ18_copyOfRange_0 4 rfl rfl)
theorem dJ18_copyOfRange_5 : decode cJ18_copyOfRange 5 = .ok (.aload_n 0, 1) := dk_42 (dk_at dksJ18_copyOfRange_0 5 rfl rfl)
theorem dJ18_copyOfRange_6 : decode cJ18_copyOfRange 6 = .ok (.arraylength, 1) := dk_190 (dk_at dksJ18_copyOfRange_0 6 rfl rfl)
theorem dJ18_copyOfRange_7 : decode cJ18_copyOfRange 7 = .ok (.if_icmp .eq 10, 3) := dk_159 0 10 (dk_at dksJ18_copyOfRange_0 7 rfl rfl)
theorem dJ18_copyOfRange_10 : decode cJ18_copyOfRange 10 = .ok (.aload_n 0, 1) := dk_42 (dk_at dksJ18_copyOfRange_0 10 rfl rfl)
theorem dJ18_copyOfRange_11 : decode cJ18_copyOfRange 11 = .ok (.iload_n 1, 1) := dk_27 (dk_at dksJ18_copyOfRange_0 11 rfl rfl)
theorem dJ18_copyOfRange_12 : decode cJ18_copyOfRange 12 = .ok (.iload_n 2, 1) := dk_28 (dk_at dksJ18_copyOfRange_0 12 rfl rfl)
theorem dJ18_copyOfRange_13 : decode cJ18_copyOfRange 13 = .ok (.invokestatic 339, 3) := dk_184 1 83 (dk_at dksJ18_copyOfRange_0 13 rfl rfl)
theorem dJ18_copyOfRange_16 : decode cJ18_copyOfRange 16 = .ok (.areturn, 1) := dk_176 (dk_at dksJ18_copyOfRange_0 16 rfl rfl)
theorem dJ18_copyOfRange_17 : decode cJ18_copyOfRange 17 = .ok (.aload_n 0, 1) := dk_42 (dk_at dksJ18_copyOfRange_0 17 rfl rfl)
theorem dJ18_copyOfRange_18 : decode cJ18_copyOfRange 18 = .ok (.invokevirtual 310, 3) := dk_182 1 54 (dk_at dksJ18_copyOfRange_0 18 rfl rfl)
theorem dJ18_copyOfRange_21 : decode cJ18_copyOfRange 21 = .ok (.checkcast 311, 3) := dk_192 1 55 (dk_at dksJ18_copyOfRange_0 21 rfl rfl)
theorem dJ18_copyOfRange_24 : decode cJ18_copyOfRange 24 = .ok (.areturn, 1) := dk_176 (dk_at dksJ18_copyOfRange_1 0 rfl rfl)
abbrev cJ18_copyOfRangeByte : ByteArray := prog_48_method_133_code
def yJ18_copyOfRangeByte : MethodName := ⟨RJ18, "copyOfRangeByte", "([BII)[B"⟩
def dkwJ18_copyOfRangeByte_1 : List UInt8 := [184, 1, 48, 184, 0, 150, 25, 4, 176]
abbrev dktJ18_copyOfRangeByte_1 : List UInt8 := dkwJ18_copyOfRangeByte_1 ++ []
def dkwJ18_copyOfRangeByte_0 : List UInt8 := [27, 28, 184, 1, 87, 28, 27, 100, 62, 29, 188, 8, 58, 4, 42, 27, 25, 4, 3, 42, 190, 27, 100, 29]
abbrev dktJ18_copyOfRangeByte_0 : List UInt8 := dkwJ18_copyOfRangeByte_0 ++ dktJ18_copyOfRangeByte_1
theorem dksJ18_copyOfRangeByte_0 : cJ18_copyOfRangeByte.data.toList.drop 0 = dktJ18_copyOfRangeByte_0 := by decide +kernel
theorem dksJ18_copyOfRangeByte_1 : cJ18_copyOfRangeByte.data.toList.drop 24 = dktJ18_copyOfRangeByte_1 := dk_seg dksJ18_copyOfRangeByte_0 24 rfl rfl
theorem dJ18_copyOfRangeByte_0 : decode cJ18_copyOfRangeByte 0 = .ok (.iload_n 1, 1) := dk_27 (dk_at dksJ18_copyOfRangeByte_0 0 rfl rfl)
theorem dJ18_copyOfRangeByte_1 : decode cJ18_copyOfRangeByte 1 = .ok (.iload_n 2, 1) := dk_28 (dk_at dksJ18_copyOfRangeByte_0 1 rfl rfl)
theorem dJ18_copyOfRangeByte_2 : decode cJ18_copyOfRangeByte 2 = .ok (.invokestatic 343, 3) := dk_184 1 87 (dk_at dksJ18_copyOfRangeByte_0 2 rfl rfl)
theorem dJ18_copyOfRangeByte_5 : decode cJ18_copyOfRangeByte 5 = .ok (.iload_n 2, 1) := dk_28 (dk_at dksJ18_copyOfRangeByte_0 5 rfl rfl)
theorem dJ18_copyOfRangeByte_6 : decode cJ18_copyOfRangeByte 6 = .ok (.iload_n 1, 1) := dk_27 (dk_at dksJ18_copyOfRangeByte_0 6 rfl rfl)
theorem dJ18_copyOfRangeByte_7 : decode cJ18_copyOfRangeByte 7 = .ok (.isub, 1) := dk_100 (dk_at dksJ18_copyOfRangeByte_0 7 rfl rfl)
theorem dJ18_copyOfRangeByte_8 : decode cJ18_copyOfRangeByte 8 = .ok (.istore_n 3, 1) := dk_62 (dk_at dksJ18_copyOfRangeByte_0 8 rfl rfl)
theorem dJ18_copyOfRangeByte_9 : decode cJ18_copyOfRangeByte 9 = .ok (.iload_n 3, 1) := dk_29 (dk_at dksJ18_copyOfRangeByte_0 9 rfl rfl)
theorem dJ18_copyOfRangeByte_10 : decode cJ18_copyOfRangeByte 10 = .ok (.newarray .byte, 2) := dk_188_8 (dk_at dksJ18_copyOfRangeByte_0 10 rfl rfl)
theorem dJ18_copyOfRangeByte_12 : decode cJ18_copyOfRangeByte 12 = .ok (.astore 4, 2) := dk_58 4 (dk_at dksJ18_copyOfRangeByte_0 12 rfl rfl)
theorem dJ18_copyOfRangeByte_14 : decode cJ18_copyOfRangeByte 14 = .ok (.aload_n 0, 1) := dk_42 (dk_at dksJ18_copyOfRangeByte_0 14 rfl rfl)
theorem dJ18_copyOfRangeByte_15 : decode cJ18_copyOfRangeByte 15 = .ok (.iload_n 1, 1) := dk_27 (dk_at dksJ18_copyOfRangeByte_0 15 rfl rfl)
theorem dJ18_copyOfRangeByte_16 : decode cJ18_copyOfRangeByte 16 = .ok (.aload 4, 2) := dk_25 4 (dk_at dksJ18_copyOfRangeByte_0 16 rfl rfl)
theorem dJ18_copyOfRangeByte_18 : decode cJ18_copyOfRangeByte 18 = .ok (.iconst 0, 1) := dk_3 (dk_at dksJ18_copyOfRangeByte_0 18 rfl rfl)
theorem dJ18_copyOfRangeByte_19 : decode cJ18_copyOfRangeByte 19 = .ok (.aload_n 0, 1) := dk_42 (dk_at dksJ18_copyOfRangeByte_0 19 rfl rfl)
theorem dJ18_copyOfRangeByte_20 : decode cJ18_copyOfRangeByte 20 = .ok (.arraylength, 1) := dk_190 (dk_at dksJ18_copyOfRangeByte_0 20 rfl rfl)
theorem dJ18_copyOfRangeByte_21 : decode cJ18_copyOfRangeByte 21 = .ok (.iload_n 1, 1) := dk_27 (dk_at dksJ18_copyOfRangeByte_0 21 rfl rfl)
theorem dJ18_copyOfRangeByte_22 : decode cJ18_copyOfRangeByte 22 = .ok (.isub, 1) := dk_100 (dk_at dksJ18_copyOfRangeByte_0 22 rfl rfl)
theorem dJ18_copyOfRangeByte_23 : decode cJ18_copyOfRangeByte 23 = .ok (.iload_n 3, 1) := dk_29 (dk_at dksJ18_copyOfRangeByte_0 23 rfl rfl)
theorem dJ18_copyOfRangeByte_24 : decode cJ18_copyOfRangeByte 24 = .ok (.invokestatic 304, 3) := dk_184 1 48 (dk_at dksJ18_copyOfRangeByte_1 0 rfl rfl)
theorem dJ18_copyOfRangeByte_27 : decode cJ18_copyOfRangeByte 27 = .ok (.invokestatic 150, 3) := dk_184 0 150 (dk_at dksJ18_copyOfRangeByte_1 3 rfl rfl)
theorem dJ18_copyOfRangeByte_30 : decode cJ18_copyOfRangeByte 30 = .ok (.aload 4, 2) := dk_25 4 (dk_at dksJ18_copyOfRangeByte_1 6 rfl rfl)
theorem dJ18_copyOfRangeByte_32 : decode cJ18_copyOfRangeByte 32 = .ok (.areturn, 1) := dk_176 (dk_at dksJ18_copyOfRangeByte_1 8 rfl rfl)
abbrev cJ18_checkLength : ByteArray := prog_48_method_131_code
def yJ18_checkLength : MethodName := ⟨RJ18, "checkLength", "(II)V"⟩
def dkwJ18_checkLength_1 : List UInt8 := [182, 0, 50, 27, 182, 0, 54, 182, 0, 61, 183, 0, 65, 191, 177]
abbrev dktJ18_checkLength_1 : List UInt8 := dkwJ18_checkLength_1 ++ []
def dkwJ18_checkLength_0 : List UInt8 := [27, 26, 162, 0, 35, 187, 0, 43, 89, 187, 0, 45, 89, 183, 0, 47, 26, 182, 0, 54, 19, 1, 81]
abbrev dktJ18_checkLength_0 : List UInt8 := dkwJ18_checkLength_0 ++ dktJ18_checkLength_1
theorem dksJ18_checkLength_0 : cJ18_checkLength.data.toList.drop 0 = dktJ18_checkLength_0 := by decide +kernel
theorem dksJ18_checkLength_1 : cJ18_checkLength.data.toList.drop 23 = dktJ18_checkLength_1 := dk_seg dksJ18_checkLength_0 23 rfl rfl
theorem dJ18_checkLength_0 : decode cJ18_checkLength 0 = .ok (.iload_n 1, 1) := dk_27 (dk_at dksJ18_checkLength_0 0 rfl rfl)
theorem dJ18_checkLength_1 : decode cJ18_checkLength 1 = .ok (.iload_n 0, 1) := dk_26 (dk_at dksJ18_checkLength_0 1 rfl rfl)
theorem dJ18_checkLength_2 : decode cJ18_checkLength 2 = .ok (.if_icmp .ge 35, 3) := dk_162 0 35 (dk_at dksJ18_checkLength_0 2 rfl rfl)
theorem dJ18_checkLength_5 : decode cJ18_checkLength 5 = .ok (.new 43, 3) := dk_187 0 43 (dk_at dksJ18_checkLength_0 5 rfl rfl)
theorem dJ18_checkLength_8 : decode cJ18_checkLength 8 = .ok (.dup, 1) := dk_89 (dk_at dksJ18_checkLength_0 8 rfl rfl)
theorem dJ18_checkLength_9 : decode cJ18_checkLength 9 = .ok (.new 45, 3) := dk_187 0 45 (dk_at dksJ18_checkLength_0 9 rfl rfl)
theorem dJ18_checkLength_12 : decode cJ18_checkLength 12 = .ok (.dup, 1) := dk_89 (dk_at dksJ18_checkLength_0 12 rfl rfl)
theorem dJ18_checkLength_13 : decode cJ18_checkLength 13 = .ok (.invokespecial 47, 3) := dk_183 0 47 (dk_at dksJ18_checkLength_0 13 rfl rfl)
theorem dJ18_checkLength_16 : decode cJ18_checkLength 16 = .ok (.iload_n 0, 1) := dk_26 (dk_at dksJ18_checkLength_0 16 rfl rfl)
theorem dJ18_checkLength_17 : decode cJ18_checkLength 17 = .ok (.invokevirtual 54, 3) := dk_182 0 54 (dk_at dksJ18_checkLength_0 17 rfl rfl)
theorem dJ18_checkLength_20 : decode cJ18_checkLength 20 = .ok (.ldc_w 337, 3) := dk_19 1 81 (dk_at dksJ18_checkLength_0 20 rfl rfl)
theorem dJ18_checkLength_23 : decode cJ18_checkLength 23 = .ok (.invokevirtual 50, 3) := dk_182 0 50 (dk_at dksJ18_checkLength_1 0 rfl rfl)
theorem dJ18_checkLength_26 : decode cJ18_checkLength 26 = .ok (.iload_n 1, 1) := dk_27 (dk_at dksJ18_checkLength_1 3 rfl rfl)
theorem dJ18_checkLength_27 : decode cJ18_checkLength 27 = .ok (.invokevirtual 54, 3) := dk_182 0 54 (dk_at dksJ18_checkLength_1 4 rfl rfl)
theorem dJ18_checkLength_30 : decode cJ18_checkLength 30 = .ok (.invokevirtual 61, 3) := dk_182 0 61 (dk_at dksJ18_checkLength_1 7 rfl rfl)
theorem dJ18_checkLength_33 : decode cJ18_checkLength 33 = .ok (.invokespecial 65, 3) := dk_183 0 65 (dk_at dksJ18_checkLength_1 10 rfl rfl)
theorem dJ18_checkLength_36 : decode cJ18_checkLength 36 = .ok (.athrow, 1) := dk_191 (dk_at dksJ18_checkLength_1 13 rfl rfl)
theorem dJ18_checkLength_37 : decode cJ18_checkLength 37 = .ok (.return_, 1) := dk_177 (dk_at dksJ18_checkLength_1 14 rfl rfl)
theorem q97 : (Jvm.Cond.initialized "java/util/Arrays") ∈ lw_all := lw_g (lw_at lw_m1 29 rfl) rfl
theorem q771 : (Jvm.Cond.static ({ cls := "java/util/Arrays", name := "copyOf", desc := "([Ljava/lang/Object;I)[Ljava/lang/Object;" } : Jvm.MethodName)) ∈ lw_all := lw_g (lw_at lw_m3 223 rfl) rfl
theorem q772 : (Jvm.Cond.code ({ cls := "java/util/Arrays", name := "copyOf", desc := "([Ljava/lang/Object;I)[Ljava/lang/Object;" } : Jvm.MethodName) prog_48_method_119_code (2 : Nat) (Option.some (Jvm.ClassFile.FieldType.array (Jvm.ClassFile.FieldType.object "java/lang/Object")))) ∈ lw_all := lw_g (lw_at lw_m3 224 rfl) rfl
theorem q773 : (Jvm.Cond.methodLink "java/util/Arrays" (86 : Nat) ({ cls := "java/lang/Object", name := "getClass", desc := "()Ljava/lang/Class;" } : Jvm.MethodName)) ∈ lw_all := lw_g (lw_at lw_m3 225 rfl) rfl
theorem q803 : (Jvm.Cond.methodLink "java/util/Arrays" (300 : Nat) ({ cls := "java/util/Arrays", name := "copyOf", desc := "([Ljava/lang/Object;ILjava/lang/Class;)[Ljava/lang/Object;" } : Jvm.MethodName)) ∈ lw_all := lw_g (lw_at lw_m4 15 rfl) rfl
theorem q804 : (Jvm.Cond.static ({ cls := "java/util/Arrays", name := "copyOf", desc := "([Ljava/lang/Object;ILjava/lang/Class;)[Ljava/lang/Object;" } : Jvm.MethodName)) ∈ lw_all := lw_g (lw_at lw_m4 16 rfl) rfl
theorem q805 : (Jvm.Cond.code ({ cls := "java/util/Arrays", name := "copyOf", desc := "([Ljava/lang/Object;ILjava/lang/Class;)[Ljava/lang/Object;" } : Jvm.MethodName) prog_48_method_120_code (4 : Nat) (Option.some (Jvm.ClassFile.FieldType.array (Jvm.ClassFile.FieldType.object "java/lang/Object")))) ∈ lw_all := lw_g (lw_at lw_m4 17 rfl) rfl
theorem q806 : (Jvm.Cond.classLink "java/util/Arrays" (110 : Nat) "[Ljava/lang/Object;") ∈ lw_all := lw_g (lw_at lw_m4 18 rfl) rfl
theorem q807 : (Jvm.Cond.classLink "java/util/Arrays" (2 : Nat) "java/lang/Object") ∈ lw_all := lw_g (lw_at lw_m4 19 rfl) rfl
theorem q808 : (Jvm.Cond.methodLink "java/util/Arrays" (304 : Nat) ({ cls := "java/lang/Math", name := "min", desc := "(II)I" } : Jvm.MethodName)) ∈ lw_all := lw_g (lw_at lw_m4 20 rfl) rfl
theorem q811 : (Jvm.Cond.methodLink "java/util/Arrays" (150 : Nat) ({ cls := "java/lang/System", name := "arraycopy", desc := "(Ljava/lang/Object;ILjava/lang/Object;II)V" } : Jvm.MethodName)) ∈ lw_all := lw_g (lw_at lw_m4 23 rfl) rfl
theorem q1659 : (Jvm.Cond.static ({ cls := "java/util/Arrays", name := "copyOf", desc := "([BI)[B" } : Jvm.MethodName)) ∈ lw_all := lw_g (lw_at lw_m7 151 rfl) rfl
theorem q1660 : (Jvm.Cond.code ({ cls := "java/util/Arrays", name := "copyOf", desc := "([BI)[B" } : Jvm.MethodName) prog_48_method_121_code (3 : Nat) (Option.some (Jvm.ClassFile.FieldType.array Jvm.ClassFile.FieldType.byte))) ∈ lw_all := lw_g (lw_at lw_m7 152 rfl) rfl
theorem q1661 : (Jvm.Cond.methodLink "java/util/Arrays" (310 : Nat) ({ cls := "[B", name := "clone", desc := "()Ljava/lang/Object;" } : Jvm.MethodName)) ∈ lw_all := lw_g (lw_at lw_m7 153 rfl) rfl
theorem q1667 : (Jvm.Cond.classLink "java/util/Arrays" (311 : Nat) "[B") ∈ lw_all := lw_g (lw_at lw_m7 159 rfl) rfl
theorem q1672 : (Jvm.Cond.static ({ cls := "java/util/Arrays", name := "fill", desc := "([BIIB)V" } : Jvm.MethodName)) ∈ lw_all := lw_g (lw_at lw_m7 164 rfl) rfl
theorem q1673 : (Jvm.Cond.code ({ cls := "java/util/Arrays", name := "fill", desc := "([BIIB)V" } : Jvm.MethodName) prog_48_method_110_code (5 : Nat) (Option.none : Option Jvm.ClassFile.FieldType)) ∈ lw_all := lw_g (lw_at lw_m7 165 rfl) rfl
theorem q1674 : (Jvm.Cond.methodLink "java/util/Arrays" (13 : Nat) ({ cls := "java/util/Arrays", name := "rangeCheck", desc := "(III)V" } : Jvm.MethodName)) ∈ lw_all := lw_g (lw_at lw_m7 166 rfl) rfl
theorem q1675 : (Jvm.Cond.static ({ cls := "java/util/Arrays", name := "rangeCheck", desc := "(III)V" } : Jvm.MethodName)) ∈ lw_all := lw_g (lw_at lw_m7 167 rfl) rfl
theorem q1676 : (Jvm.Cond.code ({ cls := "java/util/Arrays", name := "rangeCheck", desc := "(III)V" } : Jvm.MethodName) prog_48_method_30_code (3 : Nat) (Option.none : Option Jvm.ClassFile.FieldType)) ∈ lw_all := lw_g (lw_at lw_m7 168 rfl) rfl
theorem q1677 : (Jvm.Cond.classLink "java/util/Arrays" (68 : Nat) "java/lang/ArrayIndexOutOfBoundsException") ∈ lw_all := lw_g (lw_at lw_m7 169 rfl) rfl
theorem q1688 : (Jvm.Cond.methodLink "java/util/Arrays" (70 : Nat) ({ cls := "java/lang/ArrayIndexOutOfBoundsException", name := "<init>", desc := "(I)V" } : Jvm.MethodName)) ∈ lw_all := lw_g (lw_at lw_m7 180 rfl) rfl
theorem q1808 : (Jvm.Cond.static ({ cls := "java/util/Arrays", name := "copyOfRange", desc := "([BII)[B" } : Jvm.MethodName)) ∈ lw_all := lw_g (lw_at lw_m8 60 rfl) rfl
theorem q1809 : (Jvm.Cond.code ({ cls := "java/util/Arrays", name := "copyOfRange", desc := "([BII)[B" } : Jvm.MethodName) prog_48_method_132_code (3 : Nat) (Option.some (Jvm.ClassFile.FieldType.array Jvm.ClassFile.FieldType.byte))) ∈ lw_all := lw_g (lw_at lw_m8 61 rfl) rfl
theorem q1810 : (Jvm.Cond.methodLink "java/util/Arrays" (339 : Nat) ({ cls := "java/util/Arrays", name := "copyOfRangeByte", desc := "([BII)[B" } : Jvm.MethodName)) ∈ lw_all := lw_g (lw_at lw_m8 62 rfl) rfl
theorem q1811 : (Jvm.Cond.static ({ cls := "java/util/Arrays", name := "copyOfRangeByte", desc := "([BII)[B" } : Jvm.MethodName)) ∈ lw_all := lw_g (lw_at lw_m8 63 rfl) rfl
theorem q1812 : (Jvm.Cond.code ({ cls := "java/util/Arrays", name := "copyOfRangeByte", desc := "([BII)[B" } : Jvm.MethodName) prog_48_method_133_code (5 : Nat) (Option.some (Jvm.ClassFile.FieldType.array Jvm.ClassFile.FieldType.byte))) ∈ lw_all := lw_g (lw_at lw_m8 64 rfl) rfl
theorem q1813 : (Jvm.Cond.methodLink "java/util/Arrays" (343 : Nat) ({ cls := "java/util/Arrays", name := "checkLength", desc := "(II)V" } : Jvm.MethodName)) ∈ lw_all := lw_g (lw_at lw_m8 65 rfl) rfl
theorem q1814 : (Jvm.Cond.static ({ cls := "java/util/Arrays", name := "checkLength", desc := "(II)V" } : Jvm.MethodName)) ∈ lw_all := lw_g (lw_at lw_m8 66 rfl) rfl
theorem q1815 : (Jvm.Cond.code ({ cls := "java/util/Arrays", name := "checkLength", desc := "(II)V" } : Jvm.MethodName) prog_48_method_131_code (2 : Nat) (Option.none : Option Jvm.ClassFile.FieldType)) ∈ lw_all := lw_g (lw_at lw_m8 67 rfl) rfl
/-! java/lang/Integer -/
set_option maxRecDepth 100000
def RJ19 : String := "java/lang/Integer"
abbrev cJ19_compare : ByteArray := prog_26_method_40_code
def yJ19_compare : MethodName := ⟨RJ19, "compare", "(II)I"⟩
def dkwJ19_compare_0 : List UInt8 := [26, 27, 162, 0, 7, 2, 167, 0, 13, 26, 27, 160, 0, 7, 3, 167, 0, 4, 4, 172]
abbrev dktJ19_compare_0 : List UInt8 := dkwJ19_compare_0 ++ []
theorem dksJ19_compare_0 : cJ19_compare.data.toList.drop 0 = dktJ19_compare_0 := by decide +kernel
theorem dJ19_compare_0 : decode cJ19_compare 0 = .ok (.iload_n 0, 1) := dk_26 (dk_at dksJ19_compare_0 0 rfl rfl)
theorem dJ19_compare_1 : decode cJ19_compare 1 = .ok (.iload_n 1, 1) := dk_27 (dk_at dksJ19_compare_0 1 rfl rfl)
theorem dJ19_compare_2 : decode cJ19_compare 2 = .ok (.if_icmp .ge 7, 3) := dk_162 0 7 (dk_at dksJ19_compare_0 2 rfl rfl)
theorem dJ19_compare_5 : decode cJ19_compare 5 = .ok (.iconst (-1), 1) := dk_2 (dk_at dksJ19_compare_0 5 rfl rfl)
theorem dJ19_compare_6 : decode cJ19_compare 6 = .ok (.goto 13, 3) := dk_167 0 13 (dk_at dksJ19_compare_0 6 rfl rfl)
theorem dJ19_compare_9 : decode cJ19_compare 9 = .ok (.iload_n 0, 1) := dk_26 (dk_at dksJ19_compare_0 9 rfl rfl)
theorem dJ19_compare_10 : decode cJ19_compare 10 = .ok (.iload_n 1, 1) := dk_27 (dk_at dksJ19_compare_0 10 rfl rfl)
theorem dJ19_compare_11 : decode cJ19_compare 11 = .ok (.if_icmp .ne 7, 3) := dk_160 0 7 (dk_at dksJ19_compare_0 11 rfl rfl)
theorem dJ19_compare_14 : decode cJ19_compare 14 = .ok (.iconst 0, 1) := dk_3 (dk_at dksJ19_compare_0 14 rfl rfl)
theorem dJ19_compare_15 : decode cJ19_compare 15 = .ok (.goto 4, 3) := dk_167 0 4 (dk_at dksJ19_compare_0 15 rfl rfl)
theorem dJ19_compare_18 : decode cJ19_compare 18 = .ok (.iconst 1, 1) := dk_4 (dk_at dksJ19_compare_0 18 rfl rfl)
theorem dJ19_compare_19 : decode cJ19_compare 19 = .ok (.ireturn, 1) := dk_172 (dk_at dksJ19_compare_0 19 rfl rfl)
abbrev cJ19_numberOfLeadingZeros : ByteArray := prog_26_method_47_code
def yJ19_numberOfLeadingZeros : MethodName := ⟨RJ19, "numberOfLeadingZeros", "(I)I"⟩
def dkwJ19_numberOfLeadingZeros_3 : List UInt8 := [5, 124, 59, 27, 26, 4, 124, 100, 172]
abbrev dktJ19_numberOfLeadingZeros_3 : List UInt8 := dkwJ19_numberOfLeadingZeros_3 ++ []
def dkwJ19_numberOfLeadingZeros_2 : List UInt8 := [124, 59, 26, 16, 16, 161, 0, 10, 132, 1, 252, 26, 7, 124, 59, 26, 7, 161, 0, 10, 132, 1, 254, 26]
abbrev dktJ19_numberOfLeadingZeros_2 : List UInt8 := dkwJ19_numberOfLeadingZeros_2 ++ dktJ19_numberOfLeadingZeros_3
def dkwJ19_numberOfLeadingZeros_1 : List UInt8 := [161, 0, 11, 132, 1, 240, 26, 16, 16, 124, 59, 26, 17, 1, 0, 161, 0, 11, 132, 1, 248, 26, 16, 8]
abbrev dktJ19_numberOfLeadingZeros_1 : List UInt8 := dkwJ19_numberOfLeadingZeros_1 ++ dktJ19_numberOfLeadingZeros_2
def dkwJ19_numberOfLeadingZeros_0 : List UInt8 := [26, 157, 0, 14, 26, 154, 0, 8, 16, 32, 167, 0, 4, 3, 172, 16, 31, 60, 26, 19, 1, 8]
abbrev dktJ19_numberOfLeadingZeros_0 : List UInt8 := dkwJ19_numberOfLeadingZeros_0 ++ dktJ19_numberOfLeadingZeros_1
theorem dksJ19_numberOfLeadingZeros_0 : cJ19_numberOfLeadingZeros.data.toList.drop 0 = dktJ19_numberOfLeadingZeros_0 := by decide +kernel
theorem dksJ19_numberOfLeadingZeros_1 : cJ19_numberOfLeadingZeros.data.toList.drop 22 = dktJ19_numberOfLeadingZeros_1 := dk_seg dksJ19_numberOfLeadingZeros_0 22 rfl rfl
theorem dksJ19_numberOfLeadingZeros_2 : cJ19_numberOfLeadingZeros.data.toList.drop 46 = dktJ19_numberOfLeadingZeros_2 := dk_seg dksJ19_numberOfLeadingZeros_1 24 rfl rfl
theorem dksJ19_numberOfLeadingZeros_3 : cJ19_numberOfLeadingZeros.data.toList.drop 70 = dktJ19_numberOfLeadingZeros_3 := dk_seg dksJ19_numberOfLeadingZeros_2 24 rfl rfl
theorem dJ19_numberOfLeadingZeros_0 : decode cJ19_numberOfLeadingZeros 0 = .ok (.iload_n 0, 1) := dk_26 (dk_at dksJ19_numberOfLeadingZeros_0 0 rfl rfl)
theorem dJ19_numberOfLeadingZeros_1 : decode cJ19_numberOfLeadingZeros 1 = .ok (.ifCond .gt 14, 3) := dk_157 0 14 (dk_at dksJ19_numberOfLeadingZeros_0 1 rfl rfl)
theorem dJ19_numberOfLeadingZeros_4 : decode cJ19_numberOfLeadingZeros 4 = .ok (.iload_n 0, 1) := dk_26 (dk_at dksJ19_numberOfLeadingZeros_0 4 rfl rfl)
theorem dJ19_numberOfLeadingZeros_5 : decode cJ19_numberOfLeadingZeros 5 = .ok (.ifCond .ne 8, 3) := dk_154 0 8 (dk_at dksJ19_numberOfLeadingZeros_0 5 rfl rfl)
theorem dJ19_numberOfLeadingZeros_8 : decode cJ19_numberOfLeadingZeros 8 = .ok (.bipush 32, 2) := dk_16 32 (dk_at dksJ19_numberOfLeadingZeros_0 8 rfl rfl)
theorem dJ19_numberOfLeadingZeros_10 : decode cJ19_numberOfLeadingZeros 10 = .ok (.goto 4, 3) := dk_167 0 4 (dk_at dksJ19_numberOfLeadingZeros_0 10 rfl rfl)
theorem dJ19_numberOfLeadingZeros_13 : decode cJ19_numberOfLeadingZeros 13 = .ok (.iconst 0, 1) := dk_3 (dk_at dksJ19_numberOfLeadingZeros_0 13 rfl rfl)
theorem dJ19_numberOfLeadingZeros_14 : decode cJ19_numberOfLeadingZeros 14 = .ok (.ireturn, 1) := dk_172 (dk_at dksJ19_numberOfLeadingZeros_0 14 rfl rfl)
theorem dJ19_numberOfLeadingZeros_15 : decode cJ19_numberOfLeadingZeros 15 = .ok (.bipush 31, 2) := dk_16 31 (dk_at dksJ19_numberOfLeadingZeros_0 15 rfl rfl)
theorem dJ19_numberOfLeadingZeros_17 : decode cJ19_numberOfLeadingZeros 17 = .ok (.istore_n 1, 1) := dk_60 (dk_at dksJ19_numberOfLeadingZeros_0 17 rfl rfl)
theorem dJ19_numberOfLeadingZeros_18 : decode cJ19_numberOfLeadingZeros 18 = .ok (.iload_n 0, 1) := dk_26 (dk_at dksJ19_numberOfLeadingZeros_0 18 rfl rfl)
theorem dJ19_numberOfLeadingZeros_19 : decode cJ19_numberOfLeadingZeros 19 = .ok (.ldc_w 264, 3) := dk_19 1 8 (dk_at dksJ19_numberOfLeadingZeros_0 19 rfl rfl)
theorem dJ19_numberOfLeadingZeros_22 : decode cJ19_numberOfLeadingZeros 22 = .ok (.if_icmp .lt 11, 3) := dk_161 0 11 (dk_at dksJ19_numberOfLeadingZeros_1 0 rfl rfl)
theorem dJ19_numberOfLeadingZeros_25 : decode cJ19_numberOfLeadingZeros 25 = .ok (.iinc 1 (-16), 3) := dk_132 1 240 (dk_at dksJ19_numberOfLeadingZeros_1 3 rfl rfl)
theorem dJ19_numberOfLeadingZeros_28 : decode cJ19_numberOfLeadingZeros 28 = .ok (.iload_n 0, 1) := dk_26 (dk_at dksJ19_numberOfLeadingZeros_1 6 rfl rfl)
theorem dJ19_numberOfLeadingZeros_29 : decode cJ19_numberOfLeadingZeros 29 = .ok (.bipush 16, 2) := dk_16 16 (dk_at dksJ19_numberOfLeadingZeros_1 7 rfl rfl)
theorem dJ19_numberOfLeadingZeros_31 : decode cJ19_numberOfLeadingZeros 31 = .ok (.iushr, 1) := dk_124 (dk_at dksJ19_numberOfLeadingZeros_1 9 rfl rfl)
theorem dJ19_numberOfLeadingZeros_32 : decode cJ19_numberOfLeadingZeros 32 = .ok (.istore_n 0, 1) := dk_59 (dk_at dksJ19_numberOfLeadingZeros_1 10 rfl rfl)
theorem dJ19_numberOfLeadingZeros_33 : decode cJ19_numberOfLeadingZeros 33 = .ok (.iload_n 0, 1) := dk_26 (dk_at dksJ19_numberOfLeadingZeros_1 11 rfl rfl)
theorem dJ19_numberOfLeadingZeros_34 : decode cJ19_numberOfLeadingZeros 34 = .ok (.sipush 256, 3) := dk_17 1 0 (dk_at dksJ19_numberOfLeadingZeros_1 12 rfl rfl)
theorem dJ19_numberOfLeadingZeros_37 : decode cJ19_numberOfLeadingZeros 37 = .ok (.if_icmp .lt 11, 3) := dk_161 0 11 (dk_at dksJ19_numberOfLeadingZeros_1 15 rfl rfl)
theorem dJ19_numberOfLeadingZeros_40 : decode cJ19_numberOfLeadingZeros 40 = .ok (.iinc 1 (-8), 3) := dk_132 1 248 (dk_at dksJ19_numberOfLeadingZeros_1 18 rfl rfl)
theorem dJ19_numberOfLeadingZeros_43 : decode cJ19_numberOfLeadingZeros 43 = .ok (.iload_n 0, 1) := dk_26 (dk_at dksJ19_numberOfLeadingZeros_1 21 rfl rfl)
theorem dJ19_numberOfLeadingZeros_44 : decode cJ19_numberOfLeadingZeros 44 = .ok (.bipush 8, 2) := dk_16 8 (dk_at dksJ19_numberOfLeadingZeros_1 22 rfl rfl)
theorem dJ19_numberOfLeadingZeros_46 : decode cJ19_numberOfLeadingZeros 46 = .ok (.iushr, 1) := dk_124 (dk_at dksJ19_numberOfLeadingZeros_2 0 rfl rfl)
theorem dJ19_numberOfLeadingZeros_47 : decode cJ19_numberOfLeadingZeros 47 = .ok (.istore_n 0, 1) := dk_59 (dk_at dksJ19_numberOfLeadingZeros_2 1 rfl rfl)
theorem dJ19_numberOfLeadingZeros_48 : decode cJ19_numberOfLeadingZeros 48 = .ok (.iload_n 0, 1) := dk_26 (dk_at dksJ19_numberOfLeadingZeros_2 2 rfl rfl)
theorem dJ19_numberOfLeadingZeros_49 : decode cJ19_numberOfLeadingZeros 49 = .ok (.bipush 16, 2) := dk_16 16 (dk_at dksJ19_numberOfLeadingZeros_2 3 rfl rfl)
theorem dJ19_numberOfLeadingZeros_51 : decode cJ19_numberOfLeadingZeros 51 = .ok (.if_icmp .lt 10, 3) := dk_161 0 10 (dk_at dksJ19_numberOfLeadingZeros_2 5 rfl rfl)
theorem dJ19_numberOfLeadingZeros_54 : decode cJ19_numberOfLeadingZeros 54 = .ok (.iinc 1 (-4), 3) := dk_132 1 252 (dk_at dksJ19_numberOfLeadingZeros_2 8 rfl rfl)
theorem dJ19_numberOfLeadingZeros_57 : decode cJ19_numberOfLeadingZeros 57 = .ok (.iload_n 0, 1) := dk_26 (dk_at dksJ19_numberOfLeadingZeros_2 11 rfl rfl)
theorem dJ19_numberOfLeadingZeros_58 : decode cJ19_numberOfLeadingZeros 58 = .ok (.iconst 4, 1) := dk_7 (dk_at dksJ19_numberOfLeadingZeros_2 12 rfl rfl)
theorem dJ19_numberOfLeadingZeros_59 : decode cJ19_numberOfLeadingZeros 59 = .ok (.iushr, 1) := dk_124 (dk_at dksJ19_numberOfLeadingZeros_2 13 rfl rfl)
theorem dJ19_numberOfLeadingZeros_60 : decode cJ19_numberOfLeadingZeros 60 = .ok (.istore_n 0, 1) := dk_59 (dk_at dksJ19_numberOfLeadingZeros_2 14 rfl rfl)
theorem dJ19_numberOfLeadingZeros_61 : decode cJ19_numberOfLeadingZeros 61 = .ok (.iload_n 0, 1) := dk_26 (dk_at dksJ19_numberOfLeadingZeros_2 15 rfl rfl)
theorem dJ19_numberOfLeadingZeros_62 : decode cJ19_numberOfLeadingZeros 62 = .ok (.iconst 4, 1) := dk_7 (dk_at dksJ19_numberOfLeadingZeros_2 16 rfl rfl)
theorem dJ19_numberOfLeadingZeros_63 : decode cJ19_numberOfLeadingZeros 63 = .ok (.if_icmp .lt 10, 3) := dk_161 0 10 (dk_at dksJ19_numberOfLeadingZeros_2 17 rfl rfl)
theorem dJ19_numberOfLeadingZeros_66 : decode cJ19_numberOfLeadingZeros 66 = .ok (.iinc 1 (-2), 3) := dk_132 1 254 (dk_at dksJ19_numberOfLeadingZeros_2 20 rfl rfl)
theorem dJ19_numberOfLeadingZeros_69 : decode cJ19_numberOfLeadingZeros 69 = .ok (.iload_n 0, 1) := dk_26 (dk_at dksJ19_numberOfLeadingZeros_2 23 rfl rfl)
theorem dJ19_numberOfLeadingZeros_70 : decode cJ19_numberOfLeadingZeros 70 = .ok (.iconst 2, 1) := dk_5 (dk_at dksJ19_numberOfLeadingZeros_3 0 rfl rfl)
theorem dJ19_numberOfLeadingZeros_71 : decode cJ19_numberOfLeadingZeros 71 = .ok (.iushr, 1) := dk_124 (dk_at dksJ19_numberOfLeadingZeros_3 1 rfl rfl)
theorem dJ19_numberOfLeadingZeros_72 : decode cJ19_numberOfLeadingZeros 72 = .ok (.istore_n 0, 1) := dk_59 (dk_at dksJ19_numberOfLeadingZeros_3 2 rfl rfl)
theorem dJ19_numberOfLeadingZeros_73 : decode cJ19_numberOfLeadingZeros 73 = .ok (.iload_n 1, 1) := dk_27 (dk_at dksJ19_numberOfLeadingZeros_3 3 rfl rfl)
theorem dJ19_numberOfLeadingZeros_74 : decode cJ19_numberOfLeadingZeros 74 = .ok (.iload_n 0, 1) := dk_26 (dk_at dksJ19_numberOfLeadingZeros_3 4 rfl rfl)
theorem dJ19_numberOfLeadingZeros_75 : decode cJ19_numberOfLeadingZeros 75 = .ok (.iconst 1, 1) := dk_4 (dk_at dksJ19_numberOfLeadingZeros_3 5 rfl rfl)
theorem dJ19_numberOfLeadingZeros_76 : decode cJ19_numberOfLeadingZeros 76 = .ok (.iushr, 1) := dk_124 (dk_at dksJ19_numberOfLeadingZeros_3 6 rfl rfl)
theorem dJ19_numberOfLeadingZeros_77 : decode cJ19_numberOfLeadingZeros 77 = .ok (.isub, 1) := dk_100 (dk_at dksJ19_numberOfLeadingZeros_3 7 rfl rfl)
theorem dJ19_numberOfLeadingZeros_78 : decode cJ19_numberOfLeadingZeros 78 = .ok (.ireturn, 1) := dk_172 (dk_at dksJ19_numberOfLeadingZeros_3 8 rfl rfl)
abbrev cJ19_numberOfTrailingZeros : ByteArray := prog_26_method_48_code
def yJ19_numberOfTrailingZeros : MethodName := ⟨RJ19, "numberOfTrailingZeros", "(I)I"⟩
def dkwJ19_numberOfTrailingZeros_3 : List UInt8 := [5, 124, 59, 27, 26, 4, 124, 96, 172]
abbrev dktJ19_numberOfTrailingZeros_3 : List UInt8 := dkwJ19_numberOfTrailingZeros_3 ++ []
def dkwJ19_numberOfTrailingZeros_2 : List UInt8 := [124, 59, 26, 16, 16, 164, 0, 10, 132, 1, 4, 26, 7, 124, 59, 26, 7, 164, 0, 10, 132, 1, 2, 26]
abbrev dktJ19_numberOfTrailingZeros_2 : List UInt8 := dkwJ19_numberOfTrailingZeros_2 ++ dktJ19_numberOfTrailingZeros_3
def dkwJ19_numberOfTrailingZeros_1 : List UInt8 := [164, 0, 11, 132, 1, 16, 26, 16, 16, 124, 59, 26, 17, 1, 0, 164, 0, 11, 132, 1, 8, 26, 16, 8]
abbrev dktJ19_numberOfTrailingZeros_1 : List UInt8 := dkwJ19_numberOfTrailingZeros_1 ++ dktJ19_numberOfTrailingZeros_2
def dkwJ19_numberOfTrailingZeros_0 : List UInt8 := [26, 2, 130, 26, 4, 100, 126, 59, 26, 157, 0, 8, 26, 16, 32, 126, 172, 4, 60, 26, 19, 1, 8]
abbrev dktJ19_numberOfTrailingZeros_0 : List UInt8 := dkwJ19_numberOfTrailingZeros_0 ++ dktJ19_numberOfTrailingZeros_1
theorem dksJ19_numberOfTrailingZeros_0 : cJ19_numberOfTrailingZeros.data.toList.drop 0 = dktJ19_numberOfTrailingZeros_0 := by decide +kernel
theorem dksJ19_numberOfTrailingZeros_1 : cJ19_numberOfTrailingZeros.data.toList.drop 23 = dktJ19_numberOfTrailingZeros_1 := dk_seg dksJ19_numberOfTrailingZeros_0 23 rfl rfl
theorem dksJ19_numberOfTrailingZeros_2 : cJ19_numberOfTrailingZeros.data.toList.drop 47 = dktJ19_numberOfTrailingZeros_2 := dk_seg dksJ19_numberOfTrailingZeros_1 24 rfl rfl
theorem dksJ19_numberOfTrailingZeros_3 : cJ19_numberOfTrailingZeros.data.toList.drop 71 = dktJ19_numberOfTrailingZeros_3 := dk_seg dksJ19_numberOfTrailingZeros_2 24 rfl rfl
theorem dJ19_numberOfTrailingZeros_0 : decode cJ19_numberOfTrailingZeros 0 = .ok (.iload_n 0, 1) := dk_26 (dk_at dksJ19_numberOfTrailingZeros_0 0 rfl rfl)
theorem dJ19_numberOfTrailingZeros_1 : decode cJ19_numberOfTrailingZeros 1 = .ok (.iconst (-1), 1) := dk_2 (dk_at dksJ19_numberOfTrailingZeros_0 1 rfl rfl)
theorem dJ19_numberOfTrailingZeros_2 : decode cJ19_numberOfTrailingZeros 2 = .ok (.ixor, 1) := dk_130 (dk_at dksJ19_numberOfTrailingZeros_0 2 rfl rfl)
theorem dJ19_numberOfTrailingZeros_3 : decode cJ19_numberOfTrailingZeros 3 = .ok (.iload_n 0, 1) := dk_26 (dk_at dksJ19_numberOfTrailingZeros_0 3 rfl rfl)
theorem dJ19_numberOfTrailingZeros_4 : decode cJ19_numberOfTrailingZeros 4 = .ok (.iconst 1, 1) := dk_4 (dk_at dksJ19_numberOfTrailingZeros_0 4 rfl rfl)
theorem dJ19_numberOfTrailingZeros_5 : decode cJ19_numberOfTrailingZeros 5 = .ok (.isub, 1) := dk_100 (dk_at dksJ19_numberOfTrailingZeros_0 5 rfl rfl)
theorem dJ19_numberOfTrailingZeros_6 : decode cJ19_numberOfTrailingZeros 6 = .ok (.iand, 1) := dk_126 (dk_at dksJ19_numberOfTrailingZeros_0 6 rfl rfl)
theorem dJ19_numberOfTrailingZeros_7 : decode cJ19_numberOfTrailingZeros 7 = .ok (.istore_n 0, 1) := dk_59 (dk_at dksJ19_numberOfTrailingZeros_0 7 rfl rfl)
theorem dJ19_numberOfTrailingZeros_8 : decode cJ19_numberOfTrailingZeros 8 = .ok (.iload_n 0, 1) := dk_26 (dk_at dksJ19_numberOfTrailingZeros_0 8 rfl rfl)
theorem dJ19_numberOfTrailingZeros_9 : decode cJ19_numberOfTrailingZeros 9 = .ok (.ifCond .gt 8, 3) := dk_157 0 8 (dk_at dksJ19_numberOfTrailingZeros_0 9 rfl rfl)
theorem dJ19_numberOfTrailingZeros_12 : decode cJ19_numberOfTrailingZeros 12 = .ok (.iload_n 0, 1) := dk_26 (dk_at dksJ19_numberOfTrailingZeros_0 12 rfl rfl)
theorem dJ19_numberOfTrailingZeros_13 : decode cJ19_numberOfTrailingZeros 13 = .ok (.bipush 32, 2) := dk_16 32 (dk_at dksJ19_numberOfTrailingZeros_0 13 rfl rfl)
theorem dJ19_numberOfTrailingZeros_15 : decode cJ19_numberOfTrailingZeros 15 = .ok (.iand, 1) := dk_126 (dk_at dksJ19_numberOfTrailingZeros_0 15 rfl rfl)
theorem dJ19_numberOfTrailingZeros_16 : decode cJ19_numberOfTrailingZeros 16 = .ok (.ireturn, 1) := dk_172 (dk_at dksJ19_numberOfTrailingZeros_0 16 rfl rfl)
theorem dJ19_numberOfTrailingZeros_17 : decode cJ19_numberOfTrailingZeros 17 = .ok (.iconst 1, 1) := dk_4 (dk_at dksJ19_numberOfTrailingZeros_0 17 rfl rfl)
theorem dJ19_numberOfTrailingZeros_18 : decode cJ19_numberOfTrailingZeros 18 = .ok (.istore_n 1, 1) := dk_60 (dk_at dksJ19_numberOfTrailingZeros_0 18 rfl rfl)
theorem dJ19_numberOfTrailingZeros_19 : decode cJ19_numberOfTrailingZeros 19 = .ok (.iload_n 0, 1) := dk_26 (dk_at dksJ19_numberOfTrailingZeros_0 19 rfl rfl)
theorem dJ19_numberOfTrailingZeros_20 : decode cJ19_numberOfTrailingZeros 20 = .ok (.ldc_w 264, 3) := dk_19 1 8 (dk_at dksJ19_numberOfTrailingZeros_0 20 rfl rfl)
theorem dJ19_numberOfTrailingZeros_23 : decode cJ19_numberOfTrailingZeros 23 = .ok (.if_icmp .le 11, 3) := dk_164 0 11 (dk_at dksJ19_numberOfTrailingZeros_1 0 rfl rfl)
theorem dJ19_numberOfTrailingZeros_26 : decode cJ19_numberOfTrailingZeros 26 = .ok (.iinc 1 16, 3) := dk_132 1 16 (dk_at dksJ19_numberOfTrailingZeros_1 3 rfl rfl)
theorem dJ19_numberOfTrailingZeros_29 : decode cJ19_numberOfTrailingZeros 29 = .ok (.iload_n 0, 1) := dk_26 (dk_at dksJ19_numberOfTrailingZeros_1 6 rfl rfl)
theorem dJ19_numberOfTrailingZeros_30 : decode cJ19_numberOfTrailingZeros 30 = .ok (.bipush 16, 2) := dk_16 16 (dk_at dksJ19_numberOfTrailingZeros_1 7 rfl rfl)
theorem dJ19_numberOfTrailingZeros_32 : decode cJ19_numberOfTrailingZeros 32 = .ok (.iushr, 1) := dk_124 (dk_at dksJ19_numberOfTrailingZeros_1 9 rfl rfl)
theorem dJ19_numberOfTrailingZeros_33 : decode cJ19_numberOfTrailingZeros 33 = .ok (.istore_n 0, 1) := dk_59 (dk_at dksJ19_numberOfTrailingZeros_1 10 rfl rfl)
theorem dJ19_numberOfTrailingZeros_34 : decode cJ19_numberOfTrailingZeros 34 = .ok (.iload_n 0, 1) := dk_26 (dk_at dksJ19_numberOfTrailingZeros_1 11 rfl rfl)
theorem dJ19_numberOfTrailingZeros_35 : decode cJ19_numberOfTrailingZeros 35 = .ok (.sipush 256, 3) := dk_17 1 0 (dk_at dksJ19_numberOfTrailingZeros_1 12 rfl rfl)
theorem dJ19_numberOfTrailingZeros_38 : decode cJ19_numberOfTrailingZeros 38 = .ok (.if_icmp .le 11, 3) := dk_164 0 11 (dk_at dksJ19_numberOfTrailingZeros_1 15 rfl rfl)
theorem dJ19_numberOfTrailingZeros_41 : decode cJ19_numberOfTrailingZeros 41 = .ok (.iinc 1 8, 3) := dk_132 1 8 (dk_at dksJ19_numberOfTrailingZeros_1 18 rfl rfl)
theorem dJ19_numberOfTrailingZeros_44 : decode cJ19_numberOfTrailingZeros 44 = .ok (.iload_n 0, 1) := dk_26 (dk_at dksJ19_numberOfTrailingZeros_1 21 rfl rfl)
theorem dJ19_numberOfTrailingZeros_45 : decode cJ19_numberOfTrailingZeros 45 = .ok (.bipush 8, 2) := dk_16 8 (dk_at dksJ19_numberOfTrailingZeros_1 22 rfl rfl)
theorem dJ19_numberOfTrailingZeros_47 : decode cJ19_numberOfTrailingZeros 47 = .ok (.iushr, 1) := dk_124 (dk_at dksJ19_numberOfTrailingZeros_2 0 rfl rfl)
theorem dJ19_numberOfTrailingZeros_48 : decode cJ19_numberOfTrailingZeros 48 = .ok (.istore_n 0, 1) := dk_59 (dk_at dksJ19_numberOfTrailingZeros_2 1 rfl rfl)
theorem dJ19_numberOfTrailingZeros_49 : decode cJ19_numberOfTrailingZeros 49 = .ok (.iload_n 0, 1) := dk_26 (dk_at dksJ19_numberOfTrailingZeros_2 2 rfl rfl)
theorem dJ19_numberOfTrailingZeros_50 : decode cJ19_numberOfTrailingZeros 50 = .ok (.bipush 16, 2) := dk_16 16 (dk_at dksJ19_numberOfTrailingZeros_2 3 rfl rfl)
theorem dJ19_numberOfTrailingZeros_52 : decode cJ19_numberOfTrailingZeros 52 = .ok (.if_icmp .le 10, 3) := dk_164 0 10 (dk_at dksJ19_numberOfTrailingZeros_2 5 rfl rfl)
theorem dJ19_numberOfTrailingZeros_55 : decode cJ19_numberOfTrailingZeros 55 = .ok (.iinc 1 4, 3) := dk_132 1 4 (dk_at dksJ19_numberOfTrailingZeros_2 8 rfl rfl)
theorem dJ19_numberOfTrailingZeros_58 : decode cJ19_numberOfTrailingZeros 58 = .ok (.iload_n 0, 1) := dk_26 (dk_at dksJ19_numberOfTrailingZeros_2 11 rfl rfl)
theorem dJ19_numberOfTrailingZeros_59 : decode cJ19_numberOfTrailingZeros 59 = .ok (.iconst 4, 1) := dk_7 (dk_at dksJ19_numberOfTrailingZeros_2 12 rfl rfl)
theorem dJ19_numberOfTrailingZeros_60 : decode cJ19_numberOfTrailingZeros 60 = .ok (.iushr, 1) := dk_124 (dk_at dksJ19_numberOfTrailingZeros_2 13 rfl rfl)
theorem dJ19_numberOfTrailingZeros_61 : decode cJ19_numberOfTrailingZeros 61 = .ok (.istore_n 0, 1) := dk_59 (dk_at dksJ19_numberOfTrailingZeros_2 14 rfl rfl)
theorem dJ19_numberOfTrailingZeros_62 : decode cJ19_numberOfTrailingZeros 62 = .ok (.iload_n 0, 1) := dk_26 (dk_at dksJ19_numberOfTrailingZeros_2 15 rfl rfl)
theorem dJ19_numberOfTrailingZeros_63 : decode cJ19_numberOfTrailingZeros 63 = .ok (.iconst 4, 1) := dk_7 (dk_at dksJ19_numberOfTrailingZeros_2 16 rfl rfl)
theorem dJ19_numberOfTrailingZeros_64 : decode cJ19_numberOfTrailingZeros 64 = .ok (.if_icmp .le 10, 3) := dk_164 0 10 (dk_at dksJ19_numberOfTrailingZeros_2 17 rfl rfl)
theorem dJ19_numberOfTrailingZeros_67 : decode cJ19_numberOfTrailingZeros 67 = .ok (.iinc 1 2, 3) := dk_132 1 2 (dk_at dksJ19_numberOfTrailingZeros_2 20 rfl rfl)
theorem dJ19_numberOfTrailingZeros_70 : decode cJ19_numberOfTrailingZeros 70 = .ok (.iload_n 0, 1) := dk_26 (dk_at dksJ19_numberOfTrailingZeros_2 23 rfl rfl)
theorem dJ19_numberOfTrailingZeros_71 : decode cJ19_numberOfTrailingZeros 71 = .ok (.iconst 2, 1) := dk_5 (dk_at dksJ19_numberOfTrailingZeros_3 0 rfl rfl)
theorem dJ19_numberOfTrailingZeros_72 : decode cJ19_numberOfTrailingZeros 72 = .ok (.iushr, 1) := dk_124 (dk_at dksJ19_numberOfTrailingZeros_3 1 rfl rfl)
theorem dJ19_numberOfTrailingZeros_73 : decode cJ19_numberOfTrailingZeros 73 = .ok (.istore_n 0, 1) := dk_59 (dk_at dksJ19_numberOfTrailingZeros_3 2 rfl rfl)
theorem dJ19_numberOfTrailingZeros_74 : decode cJ19_numberOfTrailingZeros 74 = .ok (.iload_n 1, 1) := dk_27 (dk_at dksJ19_numberOfTrailingZeros_3 3 rfl rfl)
theorem dJ19_numberOfTrailingZeros_75 : decode cJ19_numberOfTrailingZeros 75 = .ok (.iload_n 0, 1) := dk_26 (dk_at dksJ19_numberOfTrailingZeros_3 4 rfl rfl)
theorem dJ19_numberOfTrailingZeros_76 : decode cJ19_numberOfTrailingZeros 76 = .ok (.iconst 1, 1) := dk_4 (dk_at dksJ19_numberOfTrailingZeros_3 5 rfl rfl)
theorem dJ19_numberOfTrailingZeros_77 : decode cJ19_numberOfTrailingZeros 77 = .ok (.iushr, 1) := dk_124 (dk_at dksJ19_numberOfTrailingZeros_3 6 rfl rfl)
theorem dJ19_numberOfTrailingZeros_78 : decode cJ19_numberOfTrailingZeros 78 = .ok (.iadd, 1) := dk_96 (dk_at dksJ19_numberOfTrailingZeros_3 7 rfl rfl)
theorem dJ19_numberOfTrailingZeros_79 : decode cJ19_numberOfTrailingZeros 79 = .ok (.ireturn, 1) := dk_172 (dk_at dksJ19_numberOfTrailingZeros_3 8 rfl rfl)
abbrev cJ19_stringSize : ByteArray := prog_26_method_13_code
def yJ19_stringSize : MethodName := ⟨RJ19, "stringSize", "(I)I"⟩
def dkwJ19_stringSize_1 : List UInt8 := [164, 0, 7, 29, 27, 96, 172, 16, 10, 28, 104, 61, 132, 3, 1, 167, 255, 233, 16, 10, 27, 96, 172]
abbrev dktJ19_stringSize_1 : List UInt8 := dkwJ19_stringSize_1 ++ []
def dkwJ19_stringSize_0 : List UInt8 := [4, 60, 26, 155, 0, 8, 3, 60, 26, 116, 59, 16, 246, 61, 4, 62, 29, 16, 10, 162, 0, 23, 26, 28]
abbrev dktJ19_stringSize_0 : List UInt8 := dkwJ19_stringSize_0 ++ dktJ19_stringSize_1
theorem dksJ19_stringSize_0 : cJ19_stringSize.data.toList.drop 0 = dktJ19_stringSize_0 := by decide +kernel
theorem dksJ19_stringSize_1 : cJ19_stringSize.data.toList.drop 24 = dktJ19_stringSize_1 := dk_seg dksJ19_stringSize_0 24 rfl rfl
theorem dJ19_stringSize_0 : decode cJ19_stringSize 0 = .ok (.iconst 1, 1) := dk_4 (dk_at dksJ19_stringSize_0 0 rfl rfl)
theorem dJ19_stringSize_1 : decode cJ19_stringSize 1 = .ok (.istore_n 1, 1) := dk_60 (dk_at dksJ19_stringSize_0 1 rfl rfl)
theorem dJ19_stringSize_2 : decode cJ19_stringSize 2 = .ok (.iload_n 0, 1) := dk_26 (dk_at dksJ19_stringSize_0 2 rfl rfl)
theorem dJ19_stringSize_3 : decode cJ19_stringSize 3 = .ok (.ifCond .lt 8, 3) := dk_155 0 8 (dk_at dksJ19_stringSize_0 3 rfl rfl)
theorem dJ19_stringSize_6 : decode cJ19_stringSize 6 = .ok (.iconst 0, 1) := dk_3 (dk_at dksJ19_stringSize_0 6 rfl rfl)
theorem dJ19_stringSize_7 : decode cJ19_stringSize 7 = .ok (.istore_n 1, 1) := dk_60 (dk_at dksJ19_stringSize_0 7 rfl rfl)
theorem dJ19_stringSize_8 : decode cJ19_stringSize 8 = .ok (.iload_n 0, 1) := dk_26 (dk_at dksJ19_stringSize_0 8 rfl rfl)
theorem dJ19_stringSize_9 : decode cJ19_stringSize 9 = .ok (.ineg, 1) := dk_116 (dk_at dksJ19_stringSize_0 9 rfl rfl)
theorem dJ19_stringSize_10 : decode cJ19_stringSize 10 = .ok (.istore_n 0, 1) := dk_59 (dk_at dksJ19_stringSize_0 10 rfl rfl)
theorem dJ19_stringSize_11 : decode cJ19_stringSize 11 = .ok (.bipush (-10), 2) := dk_16 246 (dk_at dksJ19_stringSize_0 11 rfl rfl)
theorem dJ19_stringSize_13 : decode cJ19_stringSize 13 = .ok (.istore_n 2, 1) := dk_61 (dk_at dksJ19_stringSize_0 13 rfl rfl)
theorem dJ19_stringSize_14 : decode cJ19_stringSize 14 = .ok (.iconst 1, 1) := dk_4 (dk_at dksJ19_stringSize_0 14 rfl rfl)
theorem dJ19_stringSize_15 : decode cJ19_stringSize 15 = .ok (.istore_n 3, 1) := dk_62 (dk_at dksJ19_stringSize_0 15 rfl rfl)
theorem dJ19_stringSize_16 : decode cJ19_stringSize 16 = .ok (.iload_n 3, 1) := dk_29 (dk_at dksJ19_stringSize_0 16 rfl rfl)
theorem dJ19_stringSize_17 : decode cJ19_stringSize 17 = .ok (.bipush 10, 2) := dk_16 10 (dk_at dksJ19_stringSize_0 17 rfl rfl)
theorem dJ19_stringSize_19 : decode cJ19_stringSize 19 = .ok (.if_icmp .ge 23, 3) := dk_162 0 23 (dk_at dksJ19_stringSize_0 19 rfl rfl)
theorem dJ19_stringSize_22 : decode cJ19_stringSize 22 = .ok (.iload_n 0, 1) := dk_26 (dk_at dksJ19_stringSize_0 22 rfl rfl)
theorem dJ19_stringSize_23 : decode cJ19_stringSize 23 = .ok (.iload_n 2, 1) := dk_28 (dk_at dksJ19_stringSize_0 23 rfl rfl)
theorem dJ19_stringSize_24 : decode cJ19_stringSize 24 = .ok (.if_icmp .le 7, 3) := dk_164 0 7 (dk_at dksJ19_stringSize_1 0 rfl rfl)
theorem dJ19_stringSize_27 : decode cJ19_stringSize 27 = .ok (.iload_n 3, 1) := dk_29 (dk_at dksJ19_stringSize_1 3 rfl rfl)
theorem dJ19_stringSize_28 : decode cJ19_stringSize 28 = .ok (.iload_n 1, 1) := dk_27 (dk_at dksJ19_stringSize_1 4 rfl rfl)
theorem dJ19_stringSize_29 : decode cJ19_stringSize 29 = .ok (.iadd, 1) := dk_96 (dk_at dksJ19_stringSize_1 5 rfl rfl)
theorem dJ19_stringSize_30 : decode cJ19_stringSize 30 = .ok (.ireturn, 1) := dk_172 (dk_at dksJ19_stringSize_1 6 rfl rfl)
theorem dJ19_stringSize_31 : decode cJ19_stringSize 31 = .ok (.bipush 10, 2) := dk_16 10 (dk_at dksJ19_stringSize_1 7 rfl rfl)
theorem dJ19_stringSize_33 : decode cJ19_stringSize 33 = .ok (.iload_n 2, 1) := dk_28 (dk_at dksJ19_stringSize_1 9 rfl rfl)
theorem dJ19_stringSize_34 : decode cJ19_stringSize 34 = .ok (.imul, 1) := dk_104 (dk_at dksJ19_stringSize_1 10 rfl rfl)
theorem dJ19_stringSize_35 : decode cJ19_stringSize 35 = .ok (.istore_n 2, 1) := dk_61 (dk_at dksJ19_stringSize_1 11 rfl rfl)
theorem dJ19_stringSize_36 : decode cJ19_stringSize 36 = .ok (.iinc 3 1, 3) := dk_132 3 1 (dk_at dksJ19_stringSize_1 12 rfl rfl)
theorem dJ19_stringSize_39 : decode cJ19_stringSize 39 = .ok (.goto (-23), 3) := dk_167 255 233 (dk_at dksJ19_stringSize_1 15 rfl rfl)
theorem dJ19_stringSize_42 : decode cJ19_stringSize 42 = .ok (.bipush 10, 2) := dk_16 10 (dk_at dksJ19_stringSize_1 18 rfl rfl)
theorem dJ19_stringSize_44 : decode cJ19_stringSize 44 = .ok (.iload_n 1, 1) := dk_27 (dk_at dksJ19_stringSize_1 20 rfl rfl)
theorem dJ19_stringSize_45 : decode cJ19_stringSize 45 = .ok (.iadd, 1) := dk_96 (dk_at dksJ19_stringSize_1 21 rfl rfl)
theorem dJ19_stringSize_46 : decode cJ19_stringSize 46 = .ok (.ireturn, 1) := dk_172 (dk_at dksJ19_stringSize_1 22 rfl rfl)
abbrev cJ19_getChars : ByteArray := prog_26_method_12_code
def yJ19_getChars : MethodName := ⟨RJ19, "getChars", "(II[B)I"⟩
def dkwJ19_getChars_5 : List UInt8 := [16, 45, 84, 21, 5, 172]
abbrev dktJ19_getChars_5 : List UInt8 := dkwJ19_getChars_5 ++ []
def dkwJ19_getChars_4 : List UInt8 := [132, 5, 255, 21, 5, 178, 0, 87, 26, 116, 51, 84, 21, 6, 153, 0, 12, 44, 132, 5, 255, 21, 5]
abbrev dktJ19_getChars_4 : List UInt8 := dkwJ19_getChars_4 ++ dktJ19_getChars_5
def dkwJ19_getChars_3 : List UInt8 := [167, 255, 209, 44, 132, 5, 255, 21, 5, 178, 0, 83, 26, 116, 51, 84, 26, 16, 247, 162, 0, 16, 44]
abbrev dktJ19_getChars_3 : List UInt8 := dkwJ19_getChars_3 ++ dktJ19_getChars_4
def dkwJ19_getChars_2 : List UInt8 := [21, 5, 178, 0, 83, 21, 4, 51, 84, 44, 132, 5, 255, 21, 5, 178, 0, 87, 21, 4, 51, 84]
abbrev dktJ19_getChars_2 : List UInt8 := dkwJ19_getChars_2 ++ dktJ19_getChars_3
def dkwJ19_getChars_1 : List UInt8 := [16, 156, 163, 0, 47, 26, 16, 100, 108, 62, 29, 16, 100, 104, 26, 100, 54, 4, 29, 59, 44, 132, 5, 255]
abbrev dktJ19_getChars_1 : List UInt8 := dkwJ19_getChars_1 ++ dktJ19_getChars_2
def dkwJ19_getChars_0 : List UInt8 := [27, 54, 5, 26, 156, 0, 7, 4, 167, 0, 4, 3, 54, 6, 21, 6, 154, 0, 6, 26, 116, 59, 26]
abbrev dktJ19_getChars_0 : List UInt8 := dkwJ19_getChars_0 ++ dktJ19_getChars_1
theorem dksJ19_getChars_0 : cJ19_getChars.data.toList.drop 0 = dktJ19_getChars_0 := by decide +kernel
theorem dksJ19_getChars_1 : cJ19_getChars.data.toList.drop 23 = dktJ19_getChars_1 := dk_seg dksJ19_getChars_0 23 rfl rfl
theorem dksJ19_getChars_2 : cJ19_getChars.data.toList.drop 47 = dktJ19_getChars_2 := dk_seg dksJ19_getChars_1 24 rfl rfl
theorem dksJ19_getChars_3 : cJ19_getChars.data.toList.drop 69 = dktJ19_getChars_3 := dk_seg dksJ19_getChars_2 22 rfl rfl
theorem dksJ19_getChars_4 : cJ19_getChars.data.toList.drop 92 = dktJ19_getChars_4 := dk_seg dksJ19_getChars_3 23 rfl rfl
theorem dksJ19_getChars_5 : cJ19_getChars.data.toList.drop 115 = dktJ19_getChars_5 := dk_seg dksJ19_getChars_4 23 rfl rfl
theorem dJ19_getChars_0 : decode cJ19_getChars 0 = .ok (.iload_n 1, 1) := dk_27 (dk_at dksJ19_getChars_0 0 rfl rfl)
theorem dJ19_getChars_1 : decode cJ19_getChars 1 = .ok (.istore 5, 2) := dk_54 5 (dk_at dksJ19_getChars_0 1 rfl rfl)
theorem dJ19_getChars_3 : decode cJ19_getChars 3 = .ok (.iload_n 0, 1) := dk_26 (dk_at dksJ19_getChars_0 3 rfl rfl)
theorem dJ19_getChars_4 : decode cJ19_getChars 4 = .ok (.ifCond .ge 7, 3) := dk_156 0 7 (dk_at dksJ19_getChars_0 4 rfl rfl)
theorem dJ19_getChars_7 : decode cJ19_getChars 7 = .ok (.iconst 1, 1) := dk_4 (dk_at dksJ19_getChars_0 7 rfl rfl)
theorem dJ19_getChars_8 : decode cJ19_getChars 8 = .ok (.goto 4, 3) := dk_167 0 4 (dk_at dksJ19_getChars_0 8 rfl rfl)
theorem dJ19_getChars_11 : decode cJ19_getChars 11 = .ok (.iconst 0, 1) := dk_3 (dk_at dksJ19_getChars_0 11 rfl rfl)
theorem dJ19_getChars_12 : decode cJ19_getChars 12 = .ok (.istore 6, 2) := dk_54 6 (dk_at dksJ19_getChars_0 12 rfl rfl)
theorem dJ19_getChars_14 : decode cJ19_getChars 14 = .ok (.iload 6, 2) := dk_21 6 (dk_at dksJ19_getChars_0 14 rfl rfl)
theorem dJ19_getChars_16 : decode cJ19_getChars 16 = .ok (.ifCond .ne 6, 3) := dk_154 0 6 (dk_at dksJ19_getChars_0 16 rfl rfl)
theorem dJ19_getChars_19 : decode cJ19_getChars 19 = .ok (.iload_n 0, 1) := dk_26 (dk_at dksJ19_getChars_0 19 rfl rfl)
theorem dJ19_getChars_20 : decode cJ19_getChars 20 = .ok (.ineg, 1) := dk_116 (dk_at dksJ19_getChars_0 20 rfl rfl)
theorem dJ19_getChars_21 : decode cJ19_getChars 21 = .ok (.istore_n 0, 1) := dk_59 (dk_at dksJ19_getChars_0 21 rfl rfl)
theorem dJ19_getChars_22 : decode cJ19_getChars 22 = .ok (.iload_n 0, 1) := dk_26 (dk_at dksJ19_getChars_0 22 rfl rfl)
theorem dJ19_getChars_23 : decode cJ19_getChars 23 = .ok (.bipush (-100), 2) := dk_16 156 (dk_at dksJ19_getChars_1 0 rfl rfl)
theorem dJ19_getChars_25 : decode cJ19_getChars 25 = .ok (.if_icmp .gt 47, 3) := dk_163 0 47 (dk_at dksJ19_getChars_1 2 rfl rfl)
theorem dJ19_getChars_28 : decode cJ19_getChars 28 = .ok (.iload_n 0, 1) := dk_26 (dk_at dksJ19_getChars_1 5 rfl rfl)
theorem dJ19_getChars_29 : decode cJ19_getChars 29 = .ok (.bipush 100, 2) := dk_16 100 (dk_at dksJ19_getChars_1 6 rfl rfl)
theorem dJ19_getChars_31 : decode cJ19_getChars 31 = .ok (.idiv, 1) := dk_108 (dk_at dksJ19_getChars_1 8 rfl rfl)
theorem dJ19_getChars_32 : decode cJ19_getChars 32 = .ok (.istore_n 3, 1) := dk_62 (dk_at dksJ19_getChars_1 9 rfl rfl)
theorem dJ19_getChars_33 : decode cJ19_getChars 33 = .ok (.iload_n 3, 1) := dk_29 (dk_at dksJ19_getChars_1 10 rfl rfl)
theorem dJ19_getChars_34 : decode cJ19_getChars 34 = .ok (.bipush 100, 2) := dk_16 100 (dk_at dksJ19_getChars_1 11 rfl rfl)
theorem dJ19_getChars_36 : decode cJ19_getChars 36 = .ok (.imul, 1) := dk_104 (dk_at dksJ19_getChars_1 13 rfl rfl)
theorem dJ19_getChars_37 : decode cJ19_getChars 37 = .ok (.iload_n 0, 1) := dk_26 (dk_at dksJ19_getChars_1 14 rfl rfl)
theorem dJ19_getChars_38 : decode cJ19_getChars 38 = .ok (.isub, 1) := dk_100 (dk_at dksJ19_getChars_1 15 rfl rfl)
theorem dJ19_getChars_39 : decode cJ19_getChars 39 = .ok (.istore 4, 2) := dk_54 4 (dk_at dksJ19_getChars_1 16 rfl rfl)
theorem dJ19_getChars_41 : decode cJ19_getChars 41 = .ok (.iload_n 3, 1) := dk_29 (dk_at dksJ19_getChars_1 18 rfl rfl)
theorem dJ19_getChars_42 : decode cJ19_getChars 42 = .ok (.istore_n 0, 1) := dk_59 (dk_at dksJ19_getChars_1 19 rfl rfl)
theorem dJ19_getChars_43 : decode cJ19_getChars 43 = .ok (.aload_n 2, 1) := dk_44 (dk_at dksJ19_getChars_1 20 rfl rfl)
theorem dJ19_getChars_44 : decode cJ19_getChars 44 = .ok (.iinc 5 (-1), 3) := dk_132 5 255 (dk_at dksJ19_getChars_1 21 rfl rfl)
theorem dJ19_getChars_47 : decode cJ19_getChars 47 = .ok (.iload 5, 2) := dk_21 5 (dk_at dksJ19_getChars_2 0 rfl rfl)
theorem dJ19_getChars_49 : decode cJ19_getChars 49 = .ok (.getstatic 83, 3) := dk_178 0 83 (dk_at dksJ19_getChars_2 2 rfl rfl)
theorem dJ19_getChars_52 : decode cJ19_getChars 52 = .ok (.iload 4, 2) := dk_21 4 (dk_at dksJ19_getChars_2 5 rfl rfl)
theorem dJ19_getChars_54 : decode cJ19_getChars 54 = .ok (.baload, 1) := dk_51 (dk_at dksJ19_getChars_2 7 rfl rfl)
theorem dJ19_getChars_55 : decode cJ19_getChars 55 = .ok (.bastore, 1) := dk_84 (dk_at dksJ19_getChars_2 8 rfl rfl)
theorem dJ19_getChars_56 : decode cJ19_getChars 56 = .ok (.aload_n 2, 1) := dk_44 (dk_at dksJ19_getChars_2 9 rfl rfl)
theorem dJ19_getChars_57 : decode cJ19_getChars 57 = .ok (.iinc 5 (-1), 3) := dk_132 5 255 (dk_at dksJ19_getChars_2 10 rfl rfl)
theorem dJ19_getChars_60 : decode cJ19_getChars 60 = .ok (.iload 5, 2) := dk_21 5 (dk_at dksJ19_getChars_2 13 rfl rfl)
theorem dJ19_getChars_62 : decode cJ19_getChars 62 = .ok (.getstatic 87, 3) := dk_178 0 87 (dk_at dksJ19_getChars_2 15 rfl rfl)
theorem dJ19_getChars_65 : decode cJ19_getChars 65 = .ok (.iload 4, 2) := dk_21 4 (dk_at dksJ19_getChars_2 18 rfl rfl)
theorem dJ19_getChars_67 : decode cJ19_getChars 67 = .ok (.baload, 1) := dk_51 (dk_at dksJ19_getChars_2 20 rfl rfl)
theorem dJ19_getChars_68 : decode cJ19_getChars 68 = .ok (.bastore, 1) := dk_84 (dk_at dksJ19_getChars_2 21 rfl rfl)
theorem dJ19_getChars_69 : decode cJ19_getChars 69 = .ok (.goto (-47), 3) := dk_167 255 209 (dk_at dksJ19_getChars_3 0 rfl rfl)
theorem dJ19_getChars_72 : decode cJ19_getChars 72 = .ok (.aload_n 2, 1) := dk_44 (dk_at dksJ19_getChars_3 3 rfl rfl)
theorem dJ19_getChars_73 : decode cJ19_getChars 73 = .ok (.iinc 5 (-1), 3) := dk_132 5 255 (dk_at dksJ19_getChars_3 4 rfl rfl)
theorem dJ19_getChars_76 : decode cJ19_getChars 76 = .ok (.iload 5, 2) := dk_21 5 (dk_at dksJ19_getChars_3 7 rfl rfl)
theorem dJ19_getChars_78 : decode cJ19_getChars 78 = .ok (.getstatic 83, 3) := dk_178 0 83 (dk_at dksJ19_getChars_3 9 rfl rfl)
theorem dJ19_getChars_81 : decode cJ19_getChars 81 = .ok (.iload_n 0, 1) := dk_26 (dk_at dksJ19_getChars_3 12 rfl rfl)
theorem dJ19_getChars_82 : decode cJ19_getChars 82 = .ok (.ineg, 1) := dk_116 (dk_at dksJ19_getChars_3 13 rfl rfl)
theorem dJ19_getChars_83 : decode cJ19_getChars 83 = .ok (.baload, 1) := dk_51 (dk_at dksJ19_getChars_3 14 rfl rfl)
theorem dJ19_getChars_84 : decode cJ19_getChars 84 = .ok (.bastore, 1) := dk_84 (dk_at dksJ19_getChars_3 15 rfl rfl)
theorem dJ19_getChars_85 : decode cJ19_getChars 85 = .ok (.iload_n 0, 1) := dk_26 (dk_at dksJ19_getChars_3 16 rfl rfl)
theorem dJ19_getChars_86 : decode cJ19_getChars 86 = .ok (.bipush (-9), 2) := dk_16 247 (dk_at dksJ19_getChars_3 17 rfl rfl)
theorem dJ19_getChars_88 : decode cJ19_getChars 88 = .ok (.if_icmp .ge 16, 3) := dk_162 0 16 (dk_at dksJ19_getChars_3 19 rfl rfl)
theorem dJ19_getChars_91 : decode cJ19_getChars 91 = .ok (.aload_n 2, 1) := dk_44 (dk_at dksJ19_getChars_3 22 rfl rfl)
theorem dJ19_getChars_92 : decode cJ19_getChars 92 = .ok (.iinc 5 (-1), 3) := dk_132 5 255 (dk_at dksJ19_getChars_4 0 rfl rfl)
theorem dJ19_getChars_95 : decode cJ19_getChars 95 = .ok (.iload 5, 2) := dk_21 5 (dk_at dksJ19_getChars_4 3 rfl rfl)
theorem dJ19_getChars_97 : decode cJ19_getChars 97 = .ok (.getstatic 87, 3) := dk_178 0 87 (dk_at dksJ19_getChars_4 5 rfl rfl)
theorem dJ19_getChars_100 : decode cJ19_getChars 100 = .ok (.iload_n 0, 1) := dk_26 (dk_at dksJ19_getChars_4 8 rfl rfl)
theorem dJ19_getChars_101 : decode cJ19_getChars 101 = .ok (.ineg, 1) := dk_116 (dk_at dksJ19_getChars_4 9 rfl rfl)
theorem dJ19_getChars_102 : decode cJ19_getChars 102 = .ok (.baload, 1) := dk_51 (dk_at dksJ19_getChars_4 10 rfl rfl)
theorem dJ19_getChars_103 : decode cJ19_getChars 103 = .ok (.bastore, 1) := dk_84 (dk_at dksJ19_getChars_4 11 rfl rfl)
theorem dJ19_getChars_104 : decode cJ19_getChars 104 = .ok (.iload 6, 2) := dk_21 6 (dk_at dksJ19_getChars_4 12 rfl rfl)
theorem dJ19_getChars_106 : decode cJ19_getChars 106 = .ok (.ifCond .eq 12, 3) := dk_153 0 12 (dk_at dksJ19_getChars_4 14 rfl rfl)
theorem dJ19_getChars_109 : decode cJ19_getChars 109 = .ok (.aload_n 2, 1) := dk_44 (dk_at dksJ19_getChars_4 17 rfl rfl)
theorem dJ19_getChars_110 : decode cJ19_getChars 110 = .ok (.iinc 5 (-1), 3) := dk_132 5 255 (dk_at dksJ19_getChars_4 18 rfl rfl)
theorem dJ19_getChars_113 : decode cJ19_getChars 113 = .ok (.iload 5, 2) := dk_21 5 (dk_at dksJ19_getChars_4 21 rfl rfl)
theorem dJ19_getChars_115 : decode cJ19_getChars 115 = .ok (.bipush 45, 2) := dk_16 45 (dk_at dksJ19_getChars_5 0 rfl rfl)
theorem dJ19_getChars_117 : decode cJ19_getChars 117 = .ok (.bastore, 1) := dk_84 (dk_at dksJ19_getChars_5 2 rfl rfl)
theorem dJ19_getChars_118 : decode cJ19_getChars 118 = .ok (.iload 5, 2) := dk_21 5 (dk_at dksJ19_getChars_5 3 rfl rfl)
theorem dJ19_getChars_120 : decode cJ19_getChars 120 = .ok (.ireturn, 1) := dk_172 (dk_at dksJ19_getChars_5 5 rfl rfl)
theorem q99 : (Jvm.Cond.initialized "java/lang/Integer") ∈ lw_all := lw_g (lw_at lw_m1 31 rfl) rfl
theorem q835 : (Jvm.Cond.static ({ cls := "java/lang/Integer", name := "compare", desc := "(II)I" } : Jvm.MethodName)) ∈ lw_all := lw_g (lw_at lw_m4 47 rfl) rfl
theorem q836 : (Jvm.Cond.code ({ cls := "java/lang/Integer", name := "compare", desc := "(II)I" } : Jvm.MethodName) prog_26_method_40_code (2 : Nat) (Option.some Jvm.ClassFile.FieldType.int)) ∈ lw_all := lw_g (lw_at lw_m4 48 rfl) rfl
theorem q964 : (Jvm.Cond.static ({ cls := "java/lang/Integer", name := "numberOfLeadingZeros", desc := "(I)I" } : Jvm.MethodName)) ∈ lw_all := lw_g (lw_at lw_m4 176 rfl) rfl
theorem q965 : (Jvm.Cond.code ({ cls := "java/lang/Integer", name := "numberOfLeadingZeros", desc := "(I)I" } : Jvm.MethodName) prog_26_method_47_code (2 : Nat) (Option.some Jvm.ClassFile.FieldType.int)) ∈ lw_all := lw_g (lw_at lw_m4 177 rfl) rfl
theorem q966 : (Jvm.Cond.constant "java/lang/Integer" (264 : Nat) (65536 : Int32)) ∈ lw_all := lw_g (lw_at lw_m4 178 rfl) rfl
theorem q973 : (Jvm.Cond.static ({ cls := "java/lang/Integer", name := "numberOfTrailingZeros", desc := "(I)I" } : Jvm.MethodName)) ∈ lw_all := lw_g (lw_at lw_m4 185 rfl) rfl
theorem q974 : (Jvm.Cond.code ({ cls := "java/lang/Integer", name := "numberOfTrailingZeros", desc := "(I)I" } : Jvm.MethodName) prog_26_method_48_code (2 : Nat) (Option.some Jvm.ClassFile.FieldType.int)) ∈ lw_all := lw_g (lw_at lw_m4 186 rfl) rfl
theorem q1763 : (Jvm.Cond.static ({ cls := "java/lang/Integer", name := "stringSize", desc := "(I)I" } : Jvm.MethodName)) ∈ lw_all := lw_g (lw_at lw_m8 15 rfl) rfl
theorem q1764 : (Jvm.Cond.code ({ cls := "java/lang/Integer", name := "stringSize", desc := "(I)I" } : Jvm.MethodName) prog_26_method_13_code (4 : Nat) (Option.some Jvm.ClassFile.FieldType.int)) ∈ lw_all := lw_g (lw_at lw_m8 16 rfl) rfl
theorem q1766 : (Jvm.Cond.static ({ cls := "java/lang/Integer", name := "getChars", desc := "(II[B)I" } : Jvm.MethodName)) ∈ lw_all := lw_g (lw_at lw_m8 18 rfl) rfl
theorem q1767 : (Jvm.Cond.code ({ cls := "java/lang/Integer", name := "getChars", desc := "(II[B)I" } : Jvm.MethodName) prog_26_method_12_code (7 : Nat) (Option.some Jvm.ClassFile.FieldType.int)) ∈ lw_all := lw_g (lw_at lw_m8 19 rfl) rfl
theorem q1768 : (Jvm.Cond.fieldLink "java/lang/Integer" (83 : Nat) "java/lang/Integer" "DigitOnes" "[B") ∈ lw_all := lw_g (lw_at lw_m8 20 rfl) rfl
theorem q1769 : (Jvm.Cond.laysStatic "java/lang/Integer" "DigitOnes" "[B") ∈ lw_tbl := lw_at lw_m8 21 rfl
theorem q1770 : (Jvm.Cond.fieldLink "java/lang/Integer" (87 : Nat) "java/lang/Integer" "DigitTens" "[B") ∈ lw_all := lw_g (lw_at lw_m8 22 rfl) rfl
theorem q1771 : (Jvm.Cond.laysStatic "java/lang/Integer" "DigitTens" "[B") ∈ lw_tbl := lw_at lw_m8 23 rfl
/-! java/util/TreeSet -/
set_option maxRecDepth 100000
def RJ2 : String := "java/util/TreeSet"
def TJ2 : u_T := fun k => match k with
  | _ => ("java/util/TreeSet", "m", "Ljava/util/NavigableMap;", false)
def tyJ2 : Nat → FieldType := fun k => match k with
  | _ => .object "java/util/NavigableMap"
abbrev wsJ20 : List Cond := u_ws RJ2 TJ2 1
theorem nmJ2 : ∀ a, a < 1 → ∀ b, b < 1 → a ≠ b → (TJ2 a).2.1 ≠ (TJ2 b).2.1 := by decide +kernel
theorem tyJ2_ok : ∀ k, k < 1 → parseFieldDescriptor (TJ2 k).2.2.1 = some (tyJ2 k) := by decide +kernel
abbrev cJ2_init : ByteArray := prog_75_method_2_code
def yJ2_init : MethodName := ⟨RJ2, "<init>", "()V"⟩
def dkwJ2_init_0 : List UInt8 := [42, 187, 0, 13, 89, 183, 0, 15, 183, 0, 16, 177]
abbrev dktJ2_init_0 : List UInt8 := dkwJ2_init_0 ++ []
theorem dksJ2_init_0 : cJ2_init.data.toList.drop 0 = dktJ2_init_0 := by decide +kernel
theorem dJ2_init_0 : decode cJ2_init 0 = .ok (.aload_n 0, 1) := dk_42 (dk_at dksJ2_init_0 0 rfl rfl)
theorem dJ2_init_1 : decode cJ2_init 1 = .ok (.new 13, 3) := dk_187 0 13 (dk_at dksJ2_init_0 1 rfl rfl)
theorem dJ2_init_4 : decode cJ2_init 4 = .ok (.dup, 1) := dk_89 (dk_at dksJ2_init_0 4 rfl rfl)
theorem dJ2_init_5 : decode cJ2_init 5 = .ok (.invokespecial 15, 3) := dk_183 0 15 (dk_at dksJ2_init_0 5 rfl rfl)
theorem dJ2_init_8 : decode cJ2_init 8 = .ok (.invokespecial 16, 3) := dk_183 0 16 (dk_at dksJ2_init_0 8 rfl rfl)
theorem dJ2_init_11 : decode cJ2_init 11 = .ok (.return_, 1) := dk_177 (dk_at dksJ2_init_0 11 rfl rfl)
abbrev cJ2_init_2 : ByteArray := prog_75_method_1_code
def yJ2_init_2 : MethodName := ⟨RJ2, "<init>", "(Ljava/util/NavigableMap;)V"⟩
def dkwJ2_init_2_0 : List UInt8 := [42, 183, 0, 1, 42, 43, 181, 0, 7, 177]
abbrev dktJ2_init_2_0 : List UInt8 := dkwJ2_init_2_0 ++ []
theorem dksJ2_init_2_0 : cJ2_init_2.data.toList.drop 0 = dktJ2_init_2_0 := by decide +kernel
theorem dJ2_init_2_0 : decode cJ2_init_2 0 = .ok (.aload_n 0, 1) := dk_42 (dk_at dksJ2_init_2_0 0 rfl rfl)
theorem dJ2_init_2_1 : decode cJ2_init_2 1 = .ok (.invokespecial 1, 3) := dk_183 0 1 (dk_at dksJ2_init_2_0 1 rfl rfl)
theorem dJ2_init_2_4 : decode cJ2_init_2 4 = .ok (.aload_n 0, 1) := dk_42 (dk_at dksJ2_init_2_0 4 rfl rfl)
theorem dJ2_init_2_5 : decode cJ2_init_2 5 = .ok (.aload_n 1, 1) := dk_43 (dk_at dksJ2_init_2_0 5 rfl rfl)
theorem dJ2_init_2_6 : decode cJ2_init_2 6 = .ok (.putfield 7, 3) := dk_181 0 7 (dk_at dksJ2_init_2_0 6 rfl rfl)
theorem dJ2_init_2_9 : decode cJ2_init_2 9 = .ok (.return_, 1) := dk_177 (dk_at dksJ2_init_2_0 9 rfl rfl)
abbrev cJ2_iterator : ByteArray := prog_75_method_6_code
def yJ2_iterator : MethodName := ⟨RJ2, "iterator", "()Ljava/util/Iterator;"⟩
def dkwJ2_iterator_0 : List UInt8 := [42, 180, 0, 7, 185, 0, 34, 1, 0, 185, 0, 40, 1, 0, 176]
abbrev dktJ2_iterator_0 : List UInt8 := dkwJ2_iterator_0 ++ []
theorem dksJ2_iterator_0 : cJ2_iterator.data.toList.drop 0 = dktJ2_iterator_0 := by decide +kernel
theorem dJ2_iterator_0 : decode cJ2_iterator 0 = .ok (.aload_n 0, 1) := dk_42 (dk_at dksJ2_iterator_0 0 rfl rfl)
theorem dJ2_iterator_1 : decode cJ2_iterator 1 = .ok (.getfield 7, 3) := dk_180 0 7 (dk_at dksJ2_iterator_0 1 rfl rfl)
theorem dJ2_iterator_4 : decode cJ2_iterator 4 = .ok (.invokeinterface 34 1, 5) := by decide +kernel
theorem dJ2_iterator_9 : decode cJ2_iterator 9 = .ok (.invokeinterface 40 1, 5) := by decide +kernel
theorem dJ2_iterator_14 : decode cJ2_iterator 14 = .ok (.areturn, 1) := dk_176 (dk_at dksJ2_iterator_0 14 rfl rfl)
abbrev cJ2_contains : ByteArray := prog_75_method_11_code
def yJ2_contains : MethodName := ⟨RJ2, "contains", "(Ljava/lang/Object;)Z"⟩
def dkwJ2_contains_0 : List UInt8 := [42, 180, 0, 7, 43, 185, 0, 61, 2, 0, 172]
abbrev dktJ2_contains_0 : List UInt8 := dkwJ2_contains_0 ++ []
theorem dksJ2_contains_0 : cJ2_contains.data.toList.drop 0 = dktJ2_contains_0 := by decide +kernel
theorem dJ2_contains_0 : decode cJ2_contains 0 = .ok (.aload_n 0, 1) := dk_42 (dk_at dksJ2_contains_0 0 rfl rfl)
theorem dJ2_contains_1 : decode cJ2_contains 1 = .ok (.getfield 7, 3) := dk_180 0 7 (dk_at dksJ2_contains_0 1 rfl rfl)
theorem dJ2_contains_4 : decode cJ2_contains 4 = .ok (.aload_n 1, 1) := dk_43 (dk_at dksJ2_contains_0 4 rfl rfl)
theorem dJ2_contains_5 : decode cJ2_contains 5 = .ok (.invokeinterface 61 2, 5) := by decide +kernel
theorem dJ2_contains_10 : decode cJ2_contains 10 = .ok (.ireturn, 1) := dk_172 (dk_at dksJ2_contains_0 10 rfl rfl)
abbrev cJ2_size : ByteArray := prog_75_method_9_code
def yJ2_size : MethodName := ⟨RJ2, "size", "()I"⟩
def dkwJ2_size_0 : List UInt8 := [42, 180, 0, 7, 185, 0, 53, 1, 0, 172]
abbrev dktJ2_size_0 : List UInt8 := dkwJ2_size_0 ++ []
theorem dksJ2_size_0 : cJ2_size.data.toList.drop 0 = dktJ2_size_0 := by decide +kernel
theorem dJ2_size_0 : decode cJ2_size 0 = .ok (.aload_n 0, 1) := dk_42 (dk_at dksJ2_size_0 0 rfl rfl)
theorem dJ2_size_1 : decode cJ2_size 1 = .ok (.getfield 7, 3) := dk_180 0 7 (dk_at dksJ2_size_0 1 rfl rfl)
theorem dJ2_size_4 : decode cJ2_size 4 = .ok (.invokeinterface 53 1, 5) := by decide +kernel
theorem dJ2_size_9 : decode cJ2_size 9 = .ok (.ireturn, 1) := dk_172 (dk_at dksJ2_size_0 9 rfl rfl)
abbrev cJ2_add : ByteArray := prog_75_method_12_code
def yJ2_add : MethodName := ⟨RJ2, "add", "(Ljava/lang/Object;)Z"⟩
def dkwJ2_add_0 : List UInt8 := [42, 180, 0, 7, 43, 178, 0, 65, 185, 0, 69, 3, 0, 199, 0, 7, 4, 167, 0, 4, 3, 172]
abbrev dktJ2_add_0 : List UInt8 := dkwJ2_add_0 ++ []
theorem dksJ2_add_0 : cJ2_add.data.toList.drop 0 = dktJ2_add_0 := by decide +kernel
theorem dJ2_add_0 : decode cJ2_add 0 = .ok (.aload_n 0, 1) := dk_42 (dk_at dksJ2_add_0 0 rfl rfl)
theorem dJ2_add_1 : decode cJ2_add 1 = .ok (.getfield 7, 3) := dk_180 0 7 (dk_at dksJ2_add_0 1 rfl rfl)
theorem dJ2_add_4 : decode cJ2_add 4 = .ok (.aload_n 1, 1) := dk_43 (dk_at dksJ2_add_0 4 rfl rfl)
theorem dJ2_add_5 : decode cJ2_add 5 = .ok (.getstatic 65, 3) := dk_178 0 65 (dk_at dksJ2_add_0 5 rfl rfl)
theorem dJ2_add_8 : decode cJ2_add 8 = .ok (.invokeinterface 69 3, 5) := by decide +kernel
theorem dJ2_add_13 : decode cJ2_add 13 = .ok (.ifnonnull 7, 3) := dk_199 0 7 (dk_at dksJ2_add_0 13 rfl rfl)
theorem dJ2_add_16 : decode cJ2_add 16 = .ok (.iconst 1, 1) := dk_4 (dk_at dksJ2_add_0 16 rfl rfl)
theorem dJ2_add_17 : decode cJ2_add 17 = .ok (.goto 4, 3) := dk_167 0 4 (dk_at dksJ2_add_0 17 rfl rfl)
theorem dJ2_add_20 : decode cJ2_add 20 = .ok (.iconst 0, 1) := dk_3 (dk_at dksJ2_add_0 20 rfl rfl)
theorem dJ2_add_21 : decode cJ2_add 21 = .ok (.ireturn, 1) := dk_172 (dk_at dksJ2_add_0 21 rfl rfl)
abbrev cJ2_remove : ByteArray := prog_75_method_13_code
def yJ2_remove : MethodName := ⟨RJ2, "remove", "(Ljava/lang/Object;)Z"⟩
def dkwJ2_remove_0 : List UInt8 := [42, 180, 0, 7, 43, 185, 0, 73, 2, 0, 178, 0, 65, 166, 0, 7, 4, 167, 0, 4, 3, 172]
abbrev dktJ2_remove_0 : List UInt8 := dkwJ2_remove_0 ++ []
theorem dksJ2_remove_0 : cJ2_remove.data.toList.drop 0 = dktJ2_remove_0 := by decide +kernel
theorem dJ2_remove_0 : decode cJ2_remove 0 = .ok (.aload_n 0, 1) := dk_42 (dk_at dksJ2_remove_0 0 rfl rfl)
theorem dJ2_remove_1 : decode cJ2_remove 1 = .ok (.getfield 7, 3) := dk_180 0 7 (dk_at dksJ2_remove_0 1 rfl rfl)
theorem dJ2_remove_4 : decode cJ2_remove 4 = .ok (.aload_n 1, 1) := dk_43 (dk_at dksJ2_remove_0 4 rfl rfl)
theorem dJ2_remove_5 : decode cJ2_remove 5 = .ok (.invokeinterface 73 2, 5) := by decide +kernel
theorem dJ2_remove_10 : decode cJ2_remove 10 = .ok (.getstatic 65, 3) := dk_178 0 65 (dk_at dksJ2_remove_0 10 rfl rfl)
theorem dJ2_remove_13 : decode cJ2_remove 13 = .ok (.if_acmp .ne 7, 3) := dk_166 0 7 (dk_at dksJ2_remove_0 13 rfl rfl)
theorem dJ2_remove_16 : decode cJ2_remove 16 = .ok (.iconst 1, 1) := dk_4 (dk_at dksJ2_remove_0 16 rfl rfl)
theorem dJ2_remove_17 : decode cJ2_remove 17 = .ok (.goto 4, 3) := dk_167 0 4 (dk_at dksJ2_remove_0 17 rfl rfl)
theorem dJ2_remove_20 : decode cJ2_remove 20 = .ok (.iconst 0, 1) := dk_3 (dk_at dksJ2_remove_0 20 rfl rfl)
theorem dJ2_remove_21 : decode cJ2_remove 21 = .ok (.ireturn, 1) := dk_172 (dk_at dksJ2_remove_0 21 rfl rfl)
abbrev cJ2_clear : ByteArray := prog_75_method_14_code
def yJ2_clear : MethodName := ⟨RJ2, "clear", "()V"⟩
def dkwJ2_clear_0 : List UInt8 := [42, 180, 0, 7, 185, 0, 77, 1, 0, 177]
abbrev dktJ2_clear_0 : List UInt8 := dkwJ2_clear_0 ++ []
theorem dksJ2_clear_0 : cJ2_clear.data.toList.drop 0 = dktJ2_clear_0 := by decide +kernel
theorem dJ2_clear_0 : decode cJ2_clear 0 = .ok (.aload_n 0, 1) := dk_42 (dk_at dksJ2_clear_0 0 rfl rfl)
theorem dJ2_clear_1 : decode cJ2_clear 1 = .ok (.getfield 7, 3) := dk_180 0 7 (dk_at dksJ2_clear_0 1 rfl rfl)
theorem dJ2_clear_4 : decode cJ2_clear 4 = .ok (.invokeinterface 77 1, 5) := by decide +kernel
theorem dJ2_clear_9 : decode cJ2_clear 9 = .ok (.return_, 1) := dk_177 (dk_at dksJ2_clear_0 9 rfl rfl)
theorem q73 : (Jvm.Cond.initialized "java/util/TreeSet") ∈ lw_all := lw_g (lw_at lw_m1 5 rfl) rfl
theorem q132 : (Jvm.Cond.instantiable "java/util/TreeSet" (1 : Nat)) ∈ lw_all := lw_g (lw_at lw_m1 64 rfl) rfl
theorem q134 : (Jvm.Cond.instanceMethod ({ cls := "java/util/TreeSet", name := "<init>", desc := "()V" } : Jvm.MethodName)) ∈ lw_all := lw_g (lw_at lw_m1 66 rfl) rfl
theorem q135 : (Jvm.Cond.code ({ cls := "java/util/TreeSet", name := "<init>", desc := "()V" } : Jvm.MethodName) prog_75_method_2_code (1 : Nat) (Option.none : Option Jvm.ClassFile.FieldType)) ∈ lw_all := lw_g (lw_at lw_m1 67 rfl) rfl
theorem q136 : (Jvm.Cond.classLink "java/util/TreeSet" (13 : Nat) "java/util/TreeMap") ∈ lw_all := lw_g (lw_at lw_m1 68 rfl) rfl
theorem q138 : (Jvm.Cond.methodLink "java/util/TreeSet" (15 : Nat) ({ cls := "java/util/TreeMap", name := "<init>", desc := "()V" } : Jvm.MethodName)) ∈ lw_all := lw_g (lw_at lw_m1 70 rfl) rfl
theorem q172 : (Jvm.Cond.methodLink "java/util/TreeSet" (16 : Nat) ({ cls := "java/util/TreeSet", name := "<init>", desc := "(Ljava/util/NavigableMap;)V" } : Jvm.MethodName)) ∈ lw_all := lw_g (lw_at lw_m1 104 rfl) rfl
theorem q173 : (Jvm.Cond.instanceMethod ({ cls := "java/util/TreeSet", name := "<init>", desc := "(Ljava/util/NavigableMap;)V" } : Jvm.MethodName)) ∈ lw_all := lw_g (lw_at lw_m1 105 rfl) rfl
theorem q174 : (Jvm.Cond.code ({ cls := "java/util/TreeSet", name := "<init>", desc := "(Ljava/util/NavigableMap;)V" } : Jvm.MethodName) prog_75_method_1_code (2 : Nat) (Option.none : Option Jvm.ClassFile.FieldType)) ∈ lw_all := lw_g (lw_at lw_m1 106 rfl) rfl
theorem q175 : (Jvm.Cond.methodLink "java/util/TreeSet" (1 : Nat) ({ cls := "java/util/AbstractSet", name := "<init>", desc := "()V" } : Jvm.MethodName)) ∈ lw_all := lw_g (lw_at lw_m1 107 rfl) rfl
theorem q182 : (Jvm.Cond.fieldLink "java/util/TreeSet" (7 : Nat) "java/util/TreeSet" "m" "Ljava/util/NavigableMap;") ∈ lw_all := lw_g (lw_at lw_m1 114 rfl) rfl
theorem q183 : (Jvm.Cond.lays "java/util/TreeSet" "java/util/TreeSet" "m" "Ljava/util/NavigableMap;") ∈ lw_all := lw_g (lw_at lw_m1 115 rfl) rfl
theorem q184 : (Jvm.Cond.soleField "java/util/TreeSet" "m") ∈ lw_all := lw_g (lw_at lw_m1 116 rfl) rfl
theorem q185 : (Jvm.Cond.superclass "java/util/TreeSet" "java/util/AbstractSet") ∈ lw_all := lw_g (lw_at lw_m1 117 rfl) rfl
theorem q800 : (Jvm.Cond.selects "java/util/TreeSet" ({ cls := "java/lang/Object", name := "getClass", desc := "()Ljava/lang/Class;" } : Jvm.MethodName) ({ cls := "java/lang/Object", name := "getClass", desc := "()Ljava/lang/Class;" } : Jvm.MethodName)) ∈ lw_all := lw_g (lw_at lw_m4 12 rfl) rfl
theorem q1314 : (Jvm.Cond.castable "java/util/TreeSet" "java/util/Set") ∈ lw_tbl := lw_at lw_m6 46 rfl
theorem q1315 : (Jvm.Cond.selects "java/util/TreeSet" ({ cls := "java/util/Set", name := "iterator", desc := "()Ljava/util/Iterator;" } : Jvm.MethodName) ({ cls := "java/util/TreeSet", name := "iterator", desc := "()Ljava/util/Iterator;" } : Jvm.MethodName)) ∈ lw_all := lw_g (lw_at lw_m6 47 rfl) rfl
theorem q1316 : (Jvm.Cond.unhidden "java/util/TreeSet" "iterator" "()Ljava/util/Iterator;") ∈ lw_tbl := lw_at lw_m6 48 rfl
theorem q1317 : (Jvm.Cond.instanceMethod ({ cls := "java/util/TreeSet", name := "iterator", desc := "()Ljava/util/Iterator;" } : Jvm.MethodName)) ∈ lw_all := lw_g (lw_at lw_m6 49 rfl) rfl
theorem q1318 : (Jvm.Cond.publicMethod ({ cls := "java/util/TreeSet", name := "iterator", desc := "()Ljava/util/Iterator;" } : Jvm.MethodName)) ∈ lw_tbl := lw_at lw_m6 50 rfl
theorem q1319 : (Jvm.Cond.code ({ cls := "java/util/TreeSet", name := "iterator", desc := "()Ljava/util/Iterator;" } : Jvm.MethodName) prog_75_method_6_code (1 : Nat) (Option.some (Jvm.ClassFile.FieldType.object "java/util/Iterator"))) ∈ lw_all := lw_g (lw_at lw_m6 51 rfl) rfl
theorem q1320 : (Jvm.Cond.interfaceEntry "java/util/TreeSet" (34 : Nat)) ∈ lw_tbl := lw_at lw_m6 52 rfl
theorem q1321 : (Jvm.Cond.methodLink "java/util/TreeSet" (34 : Nat) ({ cls := "java/util/NavigableMap", name := "navigableKeySet", desc := "()Ljava/util/NavigableSet;" } : Jvm.MethodName)) ∈ lw_all := lw_g (lw_at lw_m6 53 rfl) rfl
theorem q1340 : (Jvm.Cond.interfaceEntry "java/util/TreeSet" (40 : Nat)) ∈ lw_tbl := lw_at lw_m6 72 rfl
theorem q1341 : (Jvm.Cond.methodLink "java/util/TreeSet" (40 : Nat) ({ cls := "java/util/NavigableSet", name := "iterator", desc := "()Ljava/util/Iterator;" } : Jvm.MethodName)) ∈ lw_all := lw_g (lw_at lw_m6 73 rfl) rfl
theorem q1346 : (Jvm.Cond.castable "java/util/TreeSet" "java/util/NavigableSet") ∈ lw_tbl := lw_at lw_m6 78 rfl
theorem q1347 : (Jvm.Cond.selects "java/util/TreeSet" ({ cls := "java/util/NavigableSet", name := "iterator", desc := "()Ljava/util/Iterator;" } : Jvm.MethodName) ({ cls := "java/util/TreeSet", name := "iterator", desc := "()Ljava/util/Iterator;" } : Jvm.MethodName)) ∈ lw_all := lw_g (lw_at lw_m6 79 rfl) rfl
theorem q1497 : (Jvm.Cond.instanceMethod ({ cls := "java/util/TreeSet", name := "contains", desc := "(Ljava/lang/Object;)Z" } : Jvm.MethodName)) ∈ lw_all := lw_g (lw_at lw_m6 229 rfl) rfl
theorem q1498 : (Jvm.Cond.selects "java/util/TreeSet" ({ cls := "java/util/TreeSet", name := "contains", desc := "(Ljava/lang/Object;)Z" } : Jvm.MethodName) ({ cls := "java/util/TreeSet", name := "contains", desc := "(Ljava/lang/Object;)Z" } : Jvm.MethodName)) ∈ lw_all := lw_g (lw_at lw_m6 230 rfl) rfl
theorem q1499 : (Jvm.Cond.code ({ cls := "java/util/TreeSet", name := "contains", desc := "(Ljava/lang/Object;)Z" } : Jvm.MethodName) prog_75_method_11_code (2 : Nat) (Option.some Jvm.ClassFile.FieldType.boolean)) ∈ lw_all := lw_g (lw_at lw_m6 231 rfl) rfl
theorem q1500 : (Jvm.Cond.interfaceEntry "java/util/TreeSet" (61 : Nat)) ∈ lw_tbl := lw_at lw_m6 232 rfl
theorem q1509 : (Jvm.Cond.instanceMethod ({ cls := "java/util/TreeSet", name := "size", desc := "()I" } : Jvm.MethodName)) ∈ lw_all := lw_g (lw_at lw_m7 1 rfl) rfl
theorem q1510 : (Jvm.Cond.selects "java/util/TreeSet" ({ cls := "java/util/TreeSet", name := "size", desc := "()I" } : Jvm.MethodName) ({ cls := "java/util/TreeSet", name := "size", desc := "()I" } : Jvm.MethodName)) ∈ lw_all := lw_g (lw_at lw_m7 2 rfl) rfl
theorem q1511 : (Jvm.Cond.code ({ cls := "java/util/TreeSet", name := "size", desc := "()I" } : Jvm.MethodName) prog_75_method_9_code (1 : Nat) (Option.some Jvm.ClassFile.FieldType.int)) ∈ lw_all := lw_g (lw_at lw_m7 3 rfl) rfl
theorem q1512 : (Jvm.Cond.interfaceEntry "java/util/TreeSet" (53 : Nat)) ∈ lw_tbl := lw_at lw_m7 4 rfl
theorem q1519 : (Jvm.Cond.instanceMethod ({ cls := "java/util/TreeSet", name := "add", desc := "(Ljava/lang/Object;)Z" } : Jvm.MethodName)) ∈ lw_all := lw_g (lw_at lw_m7 11 rfl) rfl
theorem q1520 : (Jvm.Cond.selects "java/util/TreeSet" ({ cls := "java/util/TreeSet", name := "add", desc := "(Ljava/lang/Object;)Z" } : Jvm.MethodName) ({ cls := "java/util/TreeSet", name := "add", desc := "(Ljava/lang/Object;)Z" } : Jvm.MethodName)) ∈ lw_all := lw_g (lw_at lw_m7 12 rfl) rfl
theorem q1521 : (Jvm.Cond.code ({ cls := "java/util/TreeSet", name := "add", desc := "(Ljava/lang/Object;)Z" } : Jvm.MethodName) prog_75_method_12_code (2 : Nat) (Option.some Jvm.ClassFile.FieldType.boolean)) ∈ lw_all := lw_g (lw_at lw_m7 13 rfl) rfl
theorem q1522 : (Jvm.Cond.fieldLink "java/util/TreeSet" (65 : Nat) "java/util/TreeSet" "PRESENT" "Ljava/lang/Object;") ∈ lw_all := lw_g (lw_at lw_m7 14 rfl) rfl
theorem q1523 : (Jvm.Cond.laysStatic "java/util/TreeSet" "PRESENT" "Ljava/lang/Object;") ∈ lw_tbl := lw_at lw_m7 15 rfl
theorem q1524 : (Jvm.Cond.interfaceEntry "java/util/TreeSet" (69 : Nat)) ∈ lw_tbl := lw_at lw_m7 16 rfl
theorem q1535 : (Jvm.Cond.instanceMethod ({ cls := "java/util/TreeSet", name := "remove", desc := "(Ljava/lang/Object;)Z" } : Jvm.MethodName)) ∈ lw_all := lw_g (lw_at lw_m7 27 rfl) rfl
theorem q1536 : (Jvm.Cond.selects "java/util/TreeSet" ({ cls := "java/util/TreeSet", name := "remove", desc := "(Ljava/lang/Object;)Z" } : Jvm.MethodName) ({ cls := "java/util/TreeSet", name := "remove", desc := "(Ljava/lang/Object;)Z" } : Jvm.MethodName)) ∈ lw_all := lw_g (lw_at lw_m7 28 rfl) rfl
theorem q1537 : (Jvm.Cond.code ({ cls := "java/util/TreeSet", name := "remove", desc := "(Ljava/lang/Object;)Z" } : Jvm.MethodName) prog_75_method_13_code (2 : Nat) (Option.some Jvm.ClassFile.FieldType.boolean)) ∈ lw_all := lw_g (lw_at lw_m7 29 rfl) rfl
theorem q1538 : (Jvm.Cond.interfaceEntry "java/util/TreeSet" (73 : Nat)) ∈ lw_tbl := lw_at lw_m7 30 rfl
theorem q1582 : (Jvm.Cond.instanceMethod ({ cls := "java/util/TreeSet", name := "clear", desc := "()V" } : Jvm.MethodName)) ∈ lw_all := lw_g (lw_at lw_m7 74 rfl) rfl
theorem q1583 : (Jvm.Cond.selects "java/util/TreeSet" ({ cls := "java/util/TreeSet", name := "clear", desc := "()V" } : Jvm.MethodName) ({ cls := "java/util/TreeSet", name := "clear", desc := "()V" } : Jvm.MethodName)) ∈ lw_all := lw_g (lw_at lw_m7 75 rfl) rfl
theorem q1584 : (Jvm.Cond.code ({ cls := "java/util/TreeSet", name := "clear", desc := "()V" } : Jvm.MethodName) prog_75_method_14_code (1 : Nat) (Option.none : Option Jvm.ClassFile.FieldType)) ∈ lw_all := lw_g (lw_at lw_m7 76 rfl) rfl
theorem q1585 : (Jvm.Cond.interfaceEntry "java/util/TreeSet" (77 : Nat)) ∈ lw_tbl := lw_at lw_m7 77 rfl
theorem q2346 : (Jvm.Cond.selects "java/util/TreeSet" ({ cls := "java/util/TreeSet", name := "iterator", desc := "()Ljava/util/Iterator;" } : Jvm.MethodName) ({ cls := "java/util/TreeSet", name := "iterator", desc := "()Ljava/util/Iterator;" } : Jvm.MethodName)) ∈ lw_all := lw_g (lw_at lw_m10 118 rfl) rfl
theorem q2367 : (Jvm.Cond.castable "java/util/TreeSet" "java/lang/Object") ∈ lw_tbl := lw_at lw_m10 139 rfl
theorem in_J2 : ∀ w ∈ wsJ20, w ∈ lw_all := lw_in wsJ20 [183] (by decide +kernel) (by decide +kernel)
/-! java/lang/StringLatin1 -/
set_option maxRecDepth 100000
def RJ20 : String := "java/lang/StringLatin1"
abbrev cJ20_compareTo : ByteArray := prog_36_method_14_code
def yJ20_compareTo : MethodName := ⟨RJ20, "compareTo", "([B[B)I"⟩
def dkwJ20_compareTo_0 : List UInt8 := [42, 190, 61, 43, 190, 62, 42, 43, 28, 29, 184, 0, 34, 172]
abbrev dktJ20_compareTo_0 : List UInt8 := dkwJ20_compareTo_0 ++ []
theorem dksJ20_compareTo_0 : cJ20_compareTo.data.toList.drop 0 = dktJ20_compareTo_0 := by decide +kernel
theorem dJ20_compareTo_0 : decode cJ20_compareTo 0 = .ok (.aload_n 0, 1) := dk_42 (dk_at dksJ20_compareTo_0 0 rfl rfl)
theorem dJ20_compareTo_1 : decode cJ20_compareTo 1 = .ok (.arraylength, 1) := dk_190 (dk_at dksJ20_compareTo_0 1 rfl rfl)
theorem dJ20_compareTo_2 : decode cJ20_compareTo 2 = .ok (.istore_n 2, 1) := dk_61 (dk_at dksJ20_compareTo_0 2 rfl rfl)
theorem dJ20_compareTo_3 : decode cJ20_compareTo 3 = .ok (.aload_n 1, 1) := dk_43 (dk_at dksJ20_compareTo_0 3 rfl rfl)
theorem dJ20_compareTo_4 : decode cJ20_compareTo 4 = .ok (.arraylength, 1) := dk_190 (dk_at dksJ20_compareTo_0 4 rfl rfl)
theorem dJ20_compareTo_5 : decode cJ20_compareTo 5 = .ok (.istore_n 3, 1) := dk_62 (dk_at dksJ20_compareTo_0 5 rfl rfl)
theorem dJ20_compareTo_6 : decode cJ20_compareTo 6 = .ok (.aload_n 0, 1) := dk_42 (dk_at dksJ20_compareTo_0 6 rfl rfl)
theorem dJ20_compareTo_7 : decode cJ20_compareTo 7 = .ok (.aload_n 1, 1) := dk_43 (dk_at dksJ20_compareTo_0 7 rfl rfl)
theorem dJ20_compareTo_8 : decode cJ20_compareTo 8 = .ok (.iload_n 2, 1) := dk_28 (dk_at dksJ20_compareTo_0 8 rfl rfl)
theorem dJ20_compareTo_9 : decode cJ20_compareTo 9 = .ok (.iload_n 3, 1) := dk_29 (dk_at dksJ20_compareTo_0 9 rfl rfl)
theorem dJ20_compareTo_10 : decode cJ20_compareTo 10 = .ok (.invokestatic 34, 3) := dk_184 0 34 (dk_at dksJ20_compareTo_0 10 rfl rfl)
theorem dJ20_compareTo_13 : decode cJ20_compareTo 13 = .ok (.ireturn, 1) := dk_172 (dk_at dksJ20_compareTo_0 13 rfl rfl)
abbrev cJ20_compareTo_2 : ByteArray := prog_36_method_15_code
def yJ20_compareTo_2 : MethodName := ⟨RJ20, "compareTo", "([B[BII)I"⟩
def dkwJ20_compareTo_2_1 : List UInt8 := [167, 0, 16, 42, 21, 5, 184, 0, 50, 43, 21, 5, 184, 0, 50, 100, 172]
abbrev dktJ20_compareTo_2_1 : List UInt8 := dkwJ20_compareTo_2_1 ++ []
def dkwJ20_compareTo_2_0 : List UInt8 := [28, 29, 184, 0, 38, 54, 4, 42, 43, 21, 4, 184, 0, 44, 54, 5, 21, 5, 156, 0, 9, 28, 29, 100]
abbrev dktJ20_compareTo_2_0 : List UInt8 := dkwJ20_compareTo_2_0 ++ dktJ20_compareTo_2_1
theorem dksJ20_compareTo_2_0 : cJ20_compareTo_2.data.toList.drop 0 = dktJ20_compareTo_2_0 := by decide +kernel
theorem dksJ20_compareTo_2_1 : cJ20_compareTo_2.data.toList.drop 24 = dktJ20_compareTo_2_1 := dk_seg dksJ20_compareTo_2_0 24 rfl rfl
theorem dJ20_compareTo_2_0 : decode cJ20_compareTo_2 0 = .ok (.iload_n 2, 1) := dk_28 (dk_at dksJ20_compareTo_2_0 0 rfl rfl)
theorem dJ20_compareTo_2_1 : decode cJ20_compareTo_2 1 = .ok (.iload_n 3, 1) := dk_29 (dk_at dksJ20_compareTo_2_0 1 rfl rfl)
theorem dJ20_compareTo_2_2 : decode cJ20_compareTo_2 2 = .ok (.invokestatic 38, 3) := dk_184 0 38 (dk_at dksJ20_compareTo_2_0 2 rfl rfl)
theorem dJ20_compareTo_2_5 : decode cJ20_compareTo_2 5 = .ok (.istore 4, 2) := dk_54 4 (dk_at dksJ20_compareTo_2_0 5 rfl rfl)
theorem dJ20_compareTo_2_7 : decode cJ20_compareTo_2 7 = .ok (.aload_n 0, 1) := dk_42 (dk_at dksJ20_compareTo_2_0 7 rfl rfl)
theorem dJ20_compareTo_2_8 : decode cJ20_compareTo_2 8 = .ok (.aload_n 1, 1) := dk_43 (dk_at dksJ20_compareTo_2_0 8 rfl rfl)
theorem dJ20_compareTo_2_9 : decode cJ20_compareTo_2 9 = .ok (.iload 4, 2) := dk_21 4 (dk_at dksJ20_compareTo_2_0 9 rfl rfl)
theorem dJ20_compareTo_2_11 : decode cJ20_compareTo_2 11 = .ok (.invokestatic 44, 3) := dk_184 0 44 (dk_at dksJ20_compareTo_2_0 11 rfl rfl)
theorem dJ20_compareTo_2_14 : decode cJ20_compareTo_2 14 = .ok (.istore 5, 2) := dk_54 5 (dk_at dksJ20_compareTo_2_0 14 rfl rfl)
theorem dJ20_compareTo_2_16 : decode cJ20_compareTo_2 16 = .ok (.iload 5, 2) := dk_21 5 (dk_at dksJ20_compareTo_2_0 16 rfl rfl)
theorem dJ20_compareTo_2_18 : decode cJ20_compareTo_2 18 = .ok (.ifCond .ge 9, 3) := dk_156 0 9 (dk_at dksJ20_compareTo_2_0 18 rfl rfl)
theorem dJ20_compareTo_2_21 : decode cJ20_compareTo_2 21 = .ok (.iload_n 2, 1) := dk_28 (dk_at dksJ20_compareTo_2_0 21 rfl rfl)
theorem dJ20_compareTo_2_22 : decode cJ20_compareTo_2 22 = .ok (.iload_n 3, 1) := dk_29 (dk_at dksJ20_compareTo_2_0 22 rfl rfl)
theorem dJ20_compareTo_2_23 : decode cJ20_compareTo_2 23 = .ok (.isub, 1) := dk_100 (dk_at dksJ20_compareTo_2_0 23 rfl rfl)
theorem dJ20_compareTo_2_24 : decode cJ20_compareTo_2 24 = .ok (.goto 16, 3) := dk_167 0 16 (dk_at dksJ20_compareTo_2_1 0 rfl rfl)
theorem dJ20_compareTo_2_27 : decode cJ20_compareTo_2 27 = .ok (.aload_n 0, 1) := dk_42 (dk_at dksJ20_compareTo_2_1 3 rfl rfl)
theorem dJ20_compareTo_2_28 : decode cJ20_compareTo_2 28 = .ok (.iload 5, 2) := dk_21 5 (dk_at dksJ20_compareTo_2_1 4 rfl rfl)
theorem dJ20_compareTo_2_30 : decode cJ20_compareTo_2 30 = .ok (.invokestatic 50, 3) := dk_184 0 50 (dk_at dksJ20_compareTo_2_1 6 rfl rfl)
theorem dJ20_compareTo_2_33 : decode cJ20_compareTo_2 33 = .ok (.aload_n 1, 1) := dk_43 (dk_at dksJ20_compareTo_2_1 9 rfl rfl)
theorem dJ20_compareTo_2_34 : decode cJ20_compareTo_2 34 = .ok (.iload 5, 2) := dk_21 5 (dk_at dksJ20_compareTo_2_1 10 rfl rfl)
theorem dJ20_compareTo_2_36 : decode cJ20_compareTo_2 36 = .ok (.invokestatic 50, 3) := dk_184 0 50 (dk_at dksJ20_compareTo_2_1 12 rfl rfl)
theorem dJ20_compareTo_2_39 : decode cJ20_compareTo_2 39 = .ok (.isub, 1) := dk_100 (dk_at dksJ20_compareTo_2_1 15 rfl rfl)
theorem dJ20_compareTo_2_40 : decode cJ20_compareTo_2 40 = .ok (.ireturn, 1) := dk_172 (dk_at dksJ20_compareTo_2_1 16 rfl rfl)
abbrev cJ20_getChar : ByteArray := prog_36_method_44_code
def yJ20_getChar : MethodName := ⟨RJ20, "getChar", "([BI)C"⟩
def dkwJ20_getChar_0 : List UInt8 := [42, 27, 51, 17, 0, 255, 126, 146, 172]
abbrev dktJ20_getChar_0 : List UInt8 := dkwJ20_getChar_0 ++ []
theorem dksJ20_getChar_0 : cJ20_getChar.data.toList.drop 0 = dktJ20_getChar_0 := by decide +kernel
theorem dJ20_getChar_0 : decode cJ20_getChar 0 = .ok (.aload_n 0, 1) := dk_42 (dk_at dksJ20_getChar_0 0 rfl rfl)
theorem dJ20_getChar_1 : decode cJ20_getChar 1 = .ok (.iload_n 1, 1) := dk_27 (dk_at dksJ20_getChar_0 1 rfl rfl)
theorem dJ20_getChar_2 : decode cJ20_getChar 2 = .ok (.baload, 1) := dk_51 (dk_at dksJ20_getChar_0 2 rfl rfl)
theorem dJ20_getChar_3 : decode cJ20_getChar 3 = .ok (.sipush 255, 3) := dk_17 0 255 (dk_at dksJ20_getChar_0 3 rfl rfl)
theorem dJ20_getChar_6 : decode cJ20_getChar 6 = .ok (.iand, 1) := dk_126 (dk_at dksJ20_getChar_0 6 rfl rfl)
theorem dJ20_getChar_7 : decode cJ20_getChar 7 = .ok (.i2c, 1) := dk_146 (dk_at dksJ20_getChar_0 7 rfl rfl)
theorem dJ20_getChar_8 : decode cJ20_getChar 8 = .ok (.ireturn, 1) := dk_172 (dk_at dksJ20_getChar_0 8 rfl rfl)
abbrev cJ20_compareToUTF16 : ByteArray := prog_36_method_16_code
def yJ20_compareToUTF16 : MethodName := ⟨RJ20, "compareToUTF16", "([B[B)I"⟩
def dkwJ20_compareToUTF16_0 : List UInt8 := [42, 184, 0, 54, 61, 43, 184, 0, 58, 62, 42, 43, 28, 29, 184, 0, 59, 172]
abbrev dktJ20_compareToUTF16_0 : List UInt8 := dkwJ20_compareToUTF16_0 ++ []
theorem dksJ20_compareToUTF16_0 : cJ20_compareToUTF16.data.toList.drop 0 = dktJ20_compareToUTF16_0 := by decide +kernel
theorem dJ20_compareToUTF16_0 : decode cJ20_compareToUTF16 0 = .ok (.aload_n 0, 1) := dk_42 (dk_at dksJ20_compareToUTF16_0 0 rfl rfl)
theorem dJ20_compareToUTF16_1 : decode cJ20_compareToUTF16 1 = .ok (.invokestatic 54, 3) := dk_184 0 54 (dk_at dksJ20_compareToUTF16_0 1 rfl rfl)
theorem dJ20_compareToUTF16_4 : decode cJ20_compareToUTF16 4 = .ok (.istore_n 2, 1) := dk_61 (dk_at dksJ20_compareToUTF16_0 4 rfl rfl)
theorem dJ20_compareToUTF16_5 : decode cJ20_compareToUTF16 5 = .ok (.aload_n 1, 1) := dk_43 (dk_at dksJ20_compareToUTF16_0 5 rfl rfl)
theorem dJ20_compareToUTF16_6 : decode cJ20_compareToUTF16 6 = .ok (.invokestatic 58, 3) := dk_184 0 58 (dk_at dksJ20_compareToUTF16_0 6 rfl rfl)
theorem dJ20_compareToUTF16_9 : decode cJ20_compareToUTF16 9 = .ok (.istore_n 3, 1) := dk_62 (dk_at dksJ20_compareToUTF16_0 9 rfl rfl)
theorem dJ20_compareToUTF16_10 : decode cJ20_compareToUTF16 10 = .ok (.aload_n 0, 1) := dk_42 (dk_at dksJ20_compareToUTF16_0 10 rfl rfl)
theorem dJ20_compareToUTF16_11 : decode cJ20_compareToUTF16 11 = .ok (.aload_n 1, 1) := dk_43 (dk_at dksJ20_compareToUTF16_0 11 rfl rfl)
theorem dJ20_compareToUTF16_12 : decode cJ20_compareToUTF16 12 = .ok (.iload_n 2, 1) := dk_28 (dk_at dksJ20_compareToUTF16_0 12 rfl rfl)
theorem dJ20_compareToUTF16_13 : decode cJ20_compareToUTF16 13 = .ok (.iload_n 3, 1) := dk_29 (dk_at dksJ20_compareToUTF16_0 13 rfl rfl)
theorem dJ20_compareToUTF16_14 : decode cJ20_compareToUTF16 14 = .ok (.invokestatic 59, 3) := dk_184 0 59 (dk_at dksJ20_compareToUTF16_0 14 rfl rfl)
theorem dJ20_compareToUTF16_17 : decode cJ20_compareToUTF16 17 = .ok (.ireturn, 1) := dk_172 (dk_at dksJ20_compareToUTF16_0 17 rfl rfl)
abbrev cJ20_length : ByteArray := prog_36_method_5_code
def yJ20_length : MethodName := ⟨RJ20, "length", "([B)I"⟩
theorem dJ20_length_0 : decode cJ20_length 0 = .ok (.aload_n 0, 1) := by decide +kernel
theorem dJ20_length_1 : decode cJ20_length 1 = .ok (.arraylength, 1) := by decide +kernel
theorem dJ20_length_2 : decode cJ20_length 2 = .ok (.ireturn, 1) := by decide +kernel
abbrev cJ20_compareToUTF16Values : ByteArray := prog_36_method_18_code
def yJ20_compareToUTF16Values : MethodName := ⟨RJ20, "compareToUTF16Values", "([B[BII)I"⟩
def dkwJ20_compareToUTF16Values_2 : List UInt8 := [132, 5, 1, 167, 255, 217, 28, 29, 100, 172]
abbrev dktJ20_compareToUTF16Values_2 : List UInt8 := dkwJ20_compareToUTF16Values_2 ++ []
def dkwJ20_compareToUTF16Values_1 : List UInt8 := [54, 6, 43, 21, 5, 184, 0, 65, 54, 7, 21, 6, 21, 7, 159, 0, 9, 21, 6, 21, 7, 100, 172]
abbrev dktJ20_compareToUTF16Values_1 : List UInt8 := dkwJ20_compareToUTF16Values_1 ++ dktJ20_compareToUTF16Values_2
def dkwJ20_compareToUTF16Values_0 : List UInt8 := [28, 29, 184, 0, 38, 54, 4, 3, 54, 5, 21, 5, 21, 4, 162, 0, 38, 42, 21, 5, 184, 0, 50]
abbrev dktJ20_compareToUTF16Values_0 : List UInt8 := dkwJ20_compareToUTF16Values_0 ++ dktJ20_compareToUTF16Values_1
theorem dksJ20_compareToUTF16Values_0 : cJ20_compareToUTF16Values.data.toList.drop 0 = dktJ20_compareToUTF16Values_0 := by decide +kernel
theorem dksJ20_compareToUTF16Values_1 : cJ20_compareToUTF16Values.data.toList.drop 23 = dktJ20_compareToUTF16Values_1 := dk_seg dksJ20_compareToUTF16Values_0 23 rfl rfl
theorem dksJ20_compareToUTF16Values_2 : cJ20_compareToUTF16Values.data.toList.drop 46 = dktJ20_compareToUTF16Values_2 := dk_seg dksJ20_compareToUTF16Values_1 23 rfl rfl
theorem dJ20_compareToUTF16Values_0 : decode cJ20_compareToUTF16Values 0 = .ok (.iload_n 2, 1) := dk_28 (dk_at dksJ20_compareToUTF16Values_0 0 rfl rfl)
theorem dJ20_compareToUTF16Values_1 : decode cJ20_compareToUTF16Values 1 = .ok (.iload_n 3, 1) := dk_29 (dk_at dksJ20_compareToUTF16Values_0 1 rfl rfl)
theorem dJ20_compareToUTF16Values_2 : decode cJ20_compareToUTF16Values 2 = .ok (.invokestatic 38, 3) := dk_184 0 38 (dk_at dksJ20_compareToUTF16Values_0 2 rfl rfl)
theorem dJ20_compareToUTF16Values_5 : decode cJ20_compareToUTF16Values 5 = .ok (.istore 4, 2) := dk_54 4 (dk_at dksJ20_compareToUTF16Values_0 5 rfl rfl)
theorem dJ20_compareToUTF16Values_7 : decode cJ20_compareToUTF16Values 7 = .ok (.iconst 0, 1) := dk_3 (dk_at dksJ20_compareToUTF16Values_0 7 rfl rfl)
theorem dJ20_compareToUTF16Values_8 : decode cJ20_compareToUTF16Values 8 = .ok (.istore 5, 2) := dk_54 5 (dk_at dksJ20_compareToUTF16Values_0 8 rfl rfl)
theorem dJ20_compareToUTF16Values_10 : decode cJ20_compareToUTF16Values 10 = .ok (.iload 5, 2) := dk_21 5 (dk_at dksJ20_compareToUTF16Values_0 10 rfl rfl)
theorem dJ20_compareToUTF16Values_12 : decode cJ20_compareToUTF16Values 12 = .ok (.iload 4, 2) := dk_21 4 (dk_at dksJ20_compareToUTF16Values_0 12 rfl rfl)
theorem dJ20_compareToUTF16Values_14 : decode cJ20_compareToUTF16Values 14 = .ok (.if_icmp .ge 38, 3) := dk_162 0 38 (dk_at dksJ20_compareToUTF16Values_0 14 rfl rfl)
theorem dJ20_compareToUTF16Values_17 : decode cJ20_compareToUTF16Values 17 = .ok (.aload_n 0, 1) := dk_42 (dk_at dksJ20_compareToUTF16Values_0 17 rfl rfl)
theorem dJ20_compareToUTF16Values_18 : decode cJ20_compareToUTF16Values 18 = .ok (.iload 5, 2) := dk_21 5 (dk_at dksJ20_compareToUTF16Values_0 18 rfl rfl)
theorem dJ20_compareToUTF16Values_20 : decode cJ20_compareToUTF16Values 20 = .ok (.invokestatic 50, 3) := dk_184 0 50 (dk_at dksJ20_compareToUTF16Values_0 20 rfl rfl)
theorem dJ20_compareToUTF16Values_23 : decode cJ20_compareToUTF16Values 23 = .ok (.istore 6, 2) := dk_54 6 (dk_at dksJ20_compareToUTF16Values_1 0 rfl rfl)
theorem dJ20_compareToUTF16Values_25 : decode cJ20_compareToUTF16Values 25 = .ok (.aload_n 1, 1) := dk_43 (dk_at dksJ20_compareToUTF16Values_1 2 rfl rfl)
theorem dJ20_compareToUTF16Values_26 : decode cJ20_compareToUTF16Values 26 = .ok (.iload 5, 2) := dk_21 5 (dk_at dksJ20_compareToUTF16Values_1 3 rfl rfl)
theorem dJ20_compareToUTF16Values_28 : decode cJ20_compareToUTF16Values 28 = .ok (.invokestatic 65, 3) := dk_184 0 65 (dk_at dksJ20_compareToUTF16Values_1 5 rfl rfl)
theorem dJ20_compareToUTF16Values_31 : decode cJ20_compareToUTF16Values 31 = .ok (.istore 7, 2) := dk_54 7 (dk_at dksJ20_compareToUTF16Values_1 8 rfl rfl)
theorem dJ20_compareToUTF16Values_33 : decode cJ20_compareToUTF16Values 33 = .ok (.iload 6, 2) := dk_21 6 (dk_at dksJ20_compareToUTF16Values_1 10 rfl rfl)
theorem dJ20_compareToUTF16Values_35 : decode cJ20_compareToUTF16Values 35 = .ok (.iload 7, 2) := dk_21 7 (dk_at dksJ20_compareToUTF16Values_1 12 rfl rfl)
theorem dJ20_compareToUTF16Values_37 : decode cJ20_compareToUTF16Values 37 = .ok (.if_icmp .eq 9, 3) := dk_159 0 9 (dk_at dksJ20_compareToUTF16Values_1 14 rfl rfl)
theorem dJ20_compareToUTF16Values_40 : decode cJ20_compareToUTF16Values 40 = .ok (.iload 6, 2) := dk_21 6 (dk_at dksJ20_compareToUTF16Values_1 17 rfl rfl)
theorem dJ20_compareToUTF16Values_42 : decode cJ20_compareToUTF16Values 42 = .ok (.iload 7, 2) := dk_21 7 (dk_at dksJ20_compareToUTF16Values_1 19 rfl rfl)
theorem dJ20_compareToUTF16Values_44 : decode cJ20_compareToUTF16Values 44 = .ok (.isub, 1) := dk_100 (dk_at dksJ20_compareToUTF16Values_1 21 rfl rfl)
theorem dJ20_compareToUTF16Values_45 : decode cJ20_compareToUTF16Values 45 = .ok (.ireturn, 1) := dk_172 (dk_at dksJ20_compareToUTF16Values_1 22 rfl rfl)
theorem dJ20_compareToUTF16Values_46 : decode cJ20_compareToUTF16Values 46 = .ok (.iinc 5 1, 3) := dk_132 5 1 (dk_at dksJ20_compareToUTF16Values_2 0 rfl rfl)
theorem dJ20_compareToUTF16Values_49 : decode cJ20_compareToUTF16Values 49 = .ok (.goto (-39), 3) := dk_167 255 217 (dk_at dksJ20_compareToUTF16Values_2 3 rfl rfl)
theorem dJ20_compareToUTF16Values_52 : decode cJ20_compareToUTF16Values 52 = .ok (.iload_n 2, 1) := dk_28 (dk_at dksJ20_compareToUTF16Values_2 6 rfl rfl)
theorem dJ20_compareToUTF16Values_53 : decode cJ20_compareToUTF16Values 53 = .ok (.iload_n 3, 1) := dk_29 (dk_at dksJ20_compareToUTF16Values_2 7 rfl rfl)
theorem dJ20_compareToUTF16Values_54 : decode cJ20_compareToUTF16Values 54 = .ok (.isub, 1) := dk_100 (dk_at dksJ20_compareToUTF16Values_2 8 rfl rfl)
theorem dJ20_compareToUTF16Values_55 : decode cJ20_compareToUTF16Values 55 = .ok (.ireturn, 1) := dk_172 (dk_at dksJ20_compareToUTF16Values_2 9 rfl rfl)
abbrev cJ20_compareToUTF16_2 : ByteArray := prog_36_method_17_code
def yJ20_compareToUTF16_2 : MethodName := ⟨RJ20, "compareToUTF16", "([B[BII)I"⟩
def dkwJ20_compareToUTF16_2_0 : List UInt8 := [28, 42, 184, 0, 54, 184, 0, 62, 29, 43, 184, 0, 58, 184, 0, 62, 42, 43, 28, 29, 184, 0, 59, 172]
abbrev dktJ20_compareToUTF16_2_0 : List UInt8 := dkwJ20_compareToUTF16_2_0 ++ []
theorem dksJ20_compareToUTF16_2_0 : cJ20_compareToUTF16_2.data.toList.drop 0 = dktJ20_compareToUTF16_2_0 := by decide +kernel
theorem dJ20_compareToUTF16_2_0 : decode cJ20_compareToUTF16_2 0 = .ok (.iload_n 2, 1) := dk_28 (dk_at dksJ20_compareToUTF16_2_0 0 rfl rfl)
theorem dJ20_compareToUTF16_2_1 : decode cJ20_compareToUTF16_2 1 = .ok (.aload_n 0, 1) := dk_42 (dk_at dksJ20_compareToUTF16_2_0 1 rfl rfl)
theorem dJ20_compareToUTF16_2_2 : decode cJ20_compareToUTF16_2 2 = .ok (.invokestatic 54, 3) := dk_184 0 54 (dk_at dksJ20_compareToUTF16_2_0 2 rfl rfl)
theorem dJ20_compareToUTF16_2_5 : decode cJ20_compareToUTF16_2 5 = .ok (.invokestatic 62, 3) := dk_184 0 62 (dk_at dksJ20_compareToUTF16_2_0 5 rfl rfl)
theorem dJ20_compareToUTF16_2_8 : decode cJ20_compareToUTF16_2 8 = .ok (.iload_n 3, 1) := dk_29 (dk_at dksJ20_compareToUTF16_2_0 8 rfl rfl)
theorem dJ20_compareToUTF16_2_9 : decode cJ20_compareToUTF16_2 9 = .ok (.aload_n 1, 1) := dk_43 (dk_at dksJ20_compareToUTF16_2_0 9 rfl rfl)
theorem dJ20_compareToUTF16_2_10 : decode cJ20_compareToUTF16_2 10 = .ok (.invokestatic 58, 3) := dk_184 0 58 (dk_at dksJ20_compareToUTF16_2_0 10 rfl rfl)
theorem dJ20_compareToUTF16_2_13 : decode cJ20_compareToUTF16_2 13 = .ok (.invokestatic 62, 3) := dk_184 0 62 (dk_at dksJ20_compareToUTF16_2_0 13 rfl rfl)
theorem dJ20_compareToUTF16_2_16 : decode cJ20_compareToUTF16_2 16 = .ok (.aload_n 0, 1) := dk_42 (dk_at dksJ20_compareToUTF16_2_0 16 rfl rfl)
theorem dJ20_compareToUTF16_2_17 : decode cJ20_compareToUTF16_2 17 = .ok (.aload_n 1, 1) := dk_43 (dk_at dksJ20_compareToUTF16_2_0 17 rfl rfl)
theorem dJ20_compareToUTF16_2_18 : decode cJ20_compareToUTF16_2 18 = .ok (.iload_n 2, 1) := dk_28 (dk_at dksJ20_compareToUTF16_2_0 18 rfl rfl)
theorem dJ20_compareToUTF16_2_19 : decode cJ20_compareToUTF16_2 19 = .ok (.iload_n 3, 1) := dk_29 (dk_at dksJ20_compareToUTF16_2_0 19 rfl rfl)
theorem dJ20_compareToUTF16_2_20 : decode cJ20_compareToUTF16_2 20 = .ok (.invokestatic 59, 3) := dk_184 0 59 (dk_at dksJ20_compareToUTF16_2_0 20 rfl rfl)
theorem dJ20_compareToUTF16_2_23 : decode cJ20_compareToUTF16_2 23 = .ok (.ireturn, 1) := dk_172 (dk_at dksJ20_compareToUTF16_2_0 23 rfl rfl)
abbrev cJ20_fillNull : ByteArray := prog_36_method_48_code
def yJ20_fillNull : MethodName := ⟨RJ20, "fillNull", "([BII)V"⟩
def dkwJ20_fillNull_0 : List UInt8 := [42, 27, 28, 3, 184, 0, 236, 177]
abbrev dktJ20_fillNull_0 : List UInt8 := dkwJ20_fillNull_0 ++ []
theorem dksJ20_fillNull_0 : cJ20_fillNull.data.toList.drop 0 = dktJ20_fillNull_0 := by decide +kernel
theorem dJ20_fillNull_0 : decode cJ20_fillNull 0 = .ok (.aload_n 0, 1) := dk_42 (dk_at dksJ20_fillNull_0 0 rfl rfl)
theorem dJ20_fillNull_1 : decode cJ20_fillNull 1 = .ok (.iload_n 1, 1) := dk_27 (dk_at dksJ20_fillNull_0 1 rfl rfl)
theorem dJ20_fillNull_2 : decode cJ20_fillNull 2 = .ok (.iload_n 2, 1) := dk_28 (dk_at dksJ20_fillNull_0 2 rfl rfl)
theorem dJ20_fillNull_3 : decode cJ20_fillNull 3 = .ok (.iconst 0, 1) := dk_3 (dk_at dksJ20_fillNull_0 3 rfl rfl)
theorem dJ20_fillNull_4 : decode cJ20_fillNull 4 = .ok (.invokestatic 236, 3) := dk_184 0 236 (dk_at dksJ20_fillNull_0 4 rfl rfl)
theorem dJ20_fillNull_7 : decode cJ20_fillNull 7 = .ok (.return_, 1) := dk_177 (dk_at dksJ20_fillNull_0 7 rfl rfl)
abbrev cJ20_inflate : ByteArray := prog_36_method_50_code
def yJ20_inflate : MethodName := ⟨RJ20, "inflate", "([BI[BII)V"⟩
def dkwJ20_inflate_0 : List UInt8 := [42, 27, 44, 29, 21, 4, 184, 0, 240, 177]
abbrev dktJ20_inflate_0 : List UInt8 := dkwJ20_inflate_0 ++ []
theorem dksJ20_inflate_0 : cJ20_inflate.data.toList.drop 0 = dktJ20_inflate_0 := by decide +kernel
theorem dJ20_inflate_0 : decode cJ20_inflate 0 = .ok (.aload_n 0, 1) := dk_42 (dk_at dksJ20_inflate_0 0 rfl rfl)
theorem dJ20_inflate_1 : decode cJ20_inflate 1 = .ok (.iload_n 1, 1) := dk_27 (dk_at dksJ20_inflate_0 1 rfl rfl)
theorem dJ20_inflate_2 : decode cJ20_inflate 2 = .ok (.aload_n 2, 1) := dk_44 (dk_at dksJ20_inflate_0 2 rfl rfl)
theorem dJ20_inflate_3 : decode cJ20_inflate 3 = .ok (.iload_n 3, 1) := dk_29 (dk_at dksJ20_inflate_0 3 rfl rfl)
theorem dJ20_inflate_4 : decode cJ20_inflate 4 = .ok (.iload 4, 2) := dk_21 4 (dk_at dksJ20_inflate_0 4 rfl rfl)
theorem dJ20_inflate_6 : decode cJ20_inflate 6 = .ok (.invokestatic 240, 3) := dk_184 0 240 (dk_at dksJ20_inflate_0 6 rfl rfl)
theorem dJ20_inflate_9 : decode cJ20_inflate 9 = .ok (.return_, 1) := dk_177 (dk_at dksJ20_inflate_0 9 rfl rfl)
abbrev cJ20_canEncode : ByteArray := prog_36_method_3_code
def yJ20_canEncode : MethodName := ⟨RJ20, "canEncode", "(C)Z"⟩
def dkwJ20_canEncode_0 : List UInt8 := [26, 17, 0, 255, 163, 0, 7, 4, 167, 0, 4, 3, 172]
abbrev dktJ20_canEncode_0 : List UInt8 := dkwJ20_canEncode_0 ++ []
theorem dksJ20_canEncode_0 : cJ20_canEncode.data.toList.drop 0 = dktJ20_canEncode_0 := by decide +kernel
theorem dJ20_canEncode_0 : decode cJ20_canEncode 0 = .ok (.iload_n 0, 1) := dk_26 (dk_at dksJ20_canEncode_0 0 rfl rfl)
theorem dJ20_canEncode_1 : decode cJ20_canEncode 1 = .ok (.sipush 255, 3) := dk_17 0 255 (dk_at dksJ20_canEncode_0 1 rfl rfl)
theorem dJ20_canEncode_4 : decode cJ20_canEncode 4 = .ok (.if_icmp .gt 7, 3) := dk_163 0 7 (dk_at dksJ20_canEncode_0 4 rfl rfl)
theorem dJ20_canEncode_7 : decode cJ20_canEncode 7 = .ok (.iconst 1, 1) := dk_4 (dk_at dksJ20_canEncode_0 7 rfl rfl)
theorem dJ20_canEncode_8 : decode cJ20_canEncode 8 = .ok (.goto 4, 3) := dk_167 0 4 (dk_at dksJ20_canEncode_0 8 rfl rfl)
theorem dJ20_canEncode_11 : decode cJ20_canEncode 11 = .ok (.iconst 0, 1) := dk_3 (dk_at dksJ20_canEncode_0 11 rfl rfl)
theorem dJ20_canEncode_12 : decode cJ20_canEncode 12 = .ok (.ireturn, 1) := dk_172 (dk_at dksJ20_canEncode_0 12 rfl rfl)
theorem q100 : (Jvm.Cond.initialized "java/lang/StringLatin1") ∈ lw_all := lw_g (lw_at lw_m1 32 rfl) rfl
theorem q886 : (Jvm.Cond.static ({ cls := "java/lang/StringLatin1", name := "compareTo", desc := "([B[B)I" } : Jvm.MethodName)) ∈ lw_all := lw_g (lw_at lw_m4 98 rfl) rfl
theorem q887 : (Jvm.Cond.code ({ cls := "java/lang/StringLatin1", name := "compareTo", desc := "([B[B)I" } : Jvm.MethodName) prog_36_method_14_code (4 : Nat) (Option.some Jvm.ClassFile.FieldType.int)) ∈ lw_all := lw_g (lw_at lw_m4 99 rfl) rfl
theorem q888 : (Jvm.Cond.methodLink "java/lang/StringLatin1" (34 : Nat) ({ cls := "java/lang/StringLatin1", name := "compareTo", desc := "([B[BII)I" } : Jvm.MethodName)) ∈ lw_all := lw_g (lw_at lw_m4 100 rfl) rfl
theorem q889 : (Jvm.Cond.static ({ cls := "java/lang/StringLatin1", name := "compareTo", desc := "([B[BII)I" } : Jvm.MethodName)) ∈ lw_all := lw_g (lw_at lw_m4 101 rfl) rfl
theorem q890 : (Jvm.Cond.code ({ cls := "java/lang/StringLatin1", name := "compareTo", desc := "([B[BII)I" } : Jvm.MethodName) prog_36_method_15_code (6 : Nat) (Option.some Jvm.ClassFile.FieldType.int)) ∈ lw_all := lw_g (lw_at lw_m4 102 rfl) rfl
theorem q891 : (Jvm.Cond.methodLink "java/lang/StringLatin1" (38 : Nat) ({ cls := "java/lang/Math", name := "min", desc := "(II)I" } : Jvm.MethodName)) ∈ lw_all := lw_g (lw_at lw_m4 103 rfl) rfl
theorem q892 : (Jvm.Cond.methodLink "java/lang/StringLatin1" (44 : Nat) ({ cls := "jdk/internal/util/ArraysSupport", name := "mismatch", desc := "([B[BI)I" } : Jvm.MethodName)) ∈ lw_all := lw_g (lw_at lw_m4 104 rfl) rfl
theorem q996 : (Jvm.Cond.methodLink "java/lang/StringLatin1" (50 : Nat) ({ cls := "java/lang/StringLatin1", name := "getChar", desc := "([BI)C" } : Jvm.MethodName)) ∈ lw_all := lw_g (lw_at lw_m4 208 rfl) rfl
theorem q997 : (Jvm.Cond.static ({ cls := "java/lang/StringLatin1", name := "getChar", desc := "([BI)C" } : Jvm.MethodName)) ∈ lw_all := lw_g (lw_at lw_m4 209 rfl) rfl
theorem q998 : (Jvm.Cond.code ({ cls := "java/lang/StringLatin1", name := "getChar", desc := "([BI)C" } : Jvm.MethodName) prog_36_method_44_code (2 : Nat) (Option.some Jvm.ClassFile.FieldType.char)) ∈ lw_all := lw_g (lw_at lw_m4 210 rfl) rfl
theorem q1019 : (Jvm.Cond.static ({ cls := "java/lang/StringLatin1", name := "compareToUTF16", desc := "([B[B)I" } : Jvm.MethodName)) ∈ lw_all := lw_g (lw_at lw_m4 231 rfl) rfl
theorem q1020 : (Jvm.Cond.code ({ cls := "java/lang/StringLatin1", name := "compareToUTF16", desc := "([B[B)I" } : Jvm.MethodName) prog_36_method_16_code (4 : Nat) (Option.some Jvm.ClassFile.FieldType.int)) ∈ lw_all := lw_g (lw_at lw_m4 232 rfl) rfl
theorem q1021 : (Jvm.Cond.methodLink "java/lang/StringLatin1" (54 : Nat) ({ cls := "java/lang/StringLatin1", name := "length", desc := "([B)I" } : Jvm.MethodName)) ∈ lw_all := lw_g (lw_at lw_m4 233 rfl) rfl
theorem q1022 : (Jvm.Cond.static ({ cls := "java/lang/StringLatin1", name := "length", desc := "([B)I" } : Jvm.MethodName)) ∈ lw_all := lw_g (lw_at lw_m4 234 rfl) rfl
theorem q1023 : (Jvm.Cond.code ({ cls := "java/lang/StringLatin1", name := "length", desc := "([B)I" } : Jvm.MethodName) prog_36_method_5_code (1 : Nat) (Option.some Jvm.ClassFile.FieldType.int)) ∈ lw_all := lw_g (lw_at lw_m4 235 rfl) rfl
theorem q1024 : (Jvm.Cond.methodLink "java/lang/StringLatin1" (58 : Nat) ({ cls := "java/lang/StringUTF16", name := "length", desc := "([B)I" } : Jvm.MethodName)) ∈ lw_all := lw_g (lw_at lw_m4 236 rfl) rfl
theorem q1025 : (Jvm.Cond.methodLink "java/lang/StringLatin1" (59 : Nat) ({ cls := "java/lang/StringLatin1", name := "compareToUTF16Values", desc := "([B[BII)I" } : Jvm.MethodName)) ∈ lw_all := lw_g (lw_at lw_m4 237 rfl) rfl
theorem q1026 : (Jvm.Cond.static ({ cls := "java/lang/StringLatin1", name := "compareToUTF16Values", desc := "([B[BII)I" } : Jvm.MethodName)) ∈ lw_all := lw_g (lw_at lw_m4 238 rfl) rfl
theorem q1027 : (Jvm.Cond.code ({ cls := "java/lang/StringLatin1", name := "compareToUTF16Values", desc := "([B[BII)I" } : Jvm.MethodName) prog_36_method_18_code (8 : Nat) (Option.some Jvm.ClassFile.FieldType.int)) ∈ lw_all := lw_g (lw_at lw_m4 239 rfl) rfl
theorem q1028 : (Jvm.Cond.methodLink "java/lang/StringLatin1" (65 : Nat) ({ cls := "java/lang/StringUTF16", name := "getChar", desc := "([BI)C" } : Jvm.MethodName)) ∈ lw_all := lw_g (lw_at lw_m5 0 rfl) rfl
theorem q1068 : (Jvm.Cond.static ({ cls := "java/lang/StringLatin1", name := "compareToUTF16", desc := "([B[BII)I" } : Jvm.MethodName)) ∈ lw_all := lw_g (lw_at lw_m5 40 rfl) rfl
theorem q1069 : (Jvm.Cond.code ({ cls := "java/lang/StringLatin1", name := "compareToUTF16", desc := "([B[BII)I" } : Jvm.MethodName) prog_36_method_17_code (4 : Nat) (Option.some Jvm.ClassFile.FieldType.int)) ∈ lw_all := lw_g (lw_at lw_m5 41 rfl) rfl
theorem q1070 : (Jvm.Cond.methodLink "java/lang/StringLatin1" (62 : Nat) ({ cls := "java/lang/String", name := "checkOffset", desc := "(II)V" } : Jvm.MethodName)) ∈ lw_all := lw_g (lw_at lw_m5 42 rfl) rfl
theorem q1669 : (Jvm.Cond.static ({ cls := "java/lang/StringLatin1", name := "fillNull", desc := "([BII)V" } : Jvm.MethodName)) ∈ lw_all := lw_g (lw_at lw_m7 161 rfl) rfl
theorem q1670 : (Jvm.Cond.code ({ cls := "java/lang/StringLatin1", name := "fillNull", desc := "([BII)V" } : Jvm.MethodName) prog_36_method_48_code (3 : Nat) (Option.none : Option Jvm.ClassFile.FieldType)) ∈ lw_all := lw_g (lw_at lw_m7 162 rfl) rfl
theorem q1671 : (Jvm.Cond.methodLink "java/lang/StringLatin1" (236 : Nat) ({ cls := "java/util/Arrays", name := "fill", desc := "([BIIB)V" } : Jvm.MethodName)) ∈ lw_all := lw_g (lw_at lw_m7 163 rfl) rfl
theorem q1735 : (Jvm.Cond.static ({ cls := "java/lang/StringLatin1", name := "inflate", desc := "([BI[BII)V" } : Jvm.MethodName)) ∈ lw_all := lw_g (lw_at lw_m7 227 rfl) rfl
theorem q1736 : (Jvm.Cond.code ({ cls := "java/lang/StringLatin1", name := "inflate", desc := "([BI[BII)V" } : Jvm.MethodName) prog_36_method_50_code (5 : Nat) (Option.none : Option Jvm.ClassFile.FieldType)) ∈ lw_all := lw_g (lw_at lw_m7 228 rfl) rfl
theorem q1737 : (Jvm.Cond.methodLink "java/lang/StringLatin1" (240 : Nat) ({ cls := "java/lang/StringUTF16", name := "inflate", desc := "([BI[BII)V" } : Jvm.MethodName)) ∈ lw_all := lw_g (lw_at lw_m7 229 rfl) rfl
theorem q1869 : (Jvm.Cond.static ({ cls := "java/lang/StringLatin1", name := "canEncode", desc := "(C)Z" } : Jvm.MethodName)) ∈ lw_all := lw_g (lw_at lw_m8 121 rfl) rfl
theorem q1870 : (Jvm.Cond.code ({ cls := "java/lang/StringLatin1", name := "canEncode", desc := "(C)Z" } : Jvm.MethodName) prog_36_method_3_code (1 : Nat) (Option.some Jvm.ClassFile.FieldType.boolean)) ∈ lw_all := lw_g (lw_at lw_m8 122 rfl) rfl
/-! jdk/internal/misc/Unsafe -/
set_option maxRecDepth 100000
def RJ21 : String := "jdk/internal/misc/Unsafe"
abbrev cJ21_getLongUnaligned : ByteArray := prog_76_method_334_code
def yJ21_getLongUnaligned : MethodName := ⟨RJ21, "getLongUnaligned", "(Ljava/lang/Object;J)J"⟩
def dkwJ21_getLongUnaligned_7 : List UInt8 := [182, 0, 39, 184, 2, 197, 173]
abbrev dktJ21_getLongUnaligned_7 : List UInt8 := dkwJ21_getLongUnaligned_7 ++ []
def dkwJ21_getLongUnaligned_6 : List UInt8 := [20, 2, 195, 97, 182, 0, 39, 42, 43, 32, 20, 2, 190, 97, 182, 0, 39, 42, 43, 32, 20, 2, 184, 97]
abbrev dktJ21_getLongUnaligned_6 : List UInt8 := dkwJ21_getLongUnaligned_6 ++ dktJ21_getLongUnaligned_7
def dkwJ21_getLongUnaligned_5 : List UInt8 := [43, 32, 20, 1, 93, 97, 182, 0, 39, 42, 43, 32, 20, 0, 205, 97, 182, 0, 39, 42, 43, 32]
abbrev dktJ21_getLongUnaligned_5 : List UInt8 := dkwJ21_getLongUnaligned_5 ++ dktJ21_getLongUnaligned_6
def dkwJ21_getLongUnaligned_4 : List UInt8 := [43, 32, 182, 0, 39, 42, 43, 32, 10, 97, 182, 0, 39, 42, 43, 32, 20, 0, 203, 97, 182, 0, 39, 42]
abbrev dktJ21_getLongUnaligned_4 : List UInt8 := dkwJ21_getLongUnaligned_4 ++ dktJ21_getLongUnaligned_5
def dkwJ21_getLongUnaligned_3 : List UInt8 := [43, 32, 20, 0, 205, 97, 182, 0, 47, 42, 43, 32, 20, 2, 190, 97, 182, 0, 47, 184, 2, 192, 173, 42]
abbrev dktJ21_getLongUnaligned_3 : List UInt8 := dkwJ21_getLongUnaligned_3 ++ dktJ21_getLongUnaligned_4
def dkwJ21_getLongUnaligned_2 : List UInt8 := [10, 127, 9, 148, 154, 0, 43, 42, 43, 32, 182, 0, 47, 42, 43, 32, 20, 0, 203, 97, 182, 0, 47, 42]
abbrev dktJ21_getLongUnaligned_2 : List UInt8 := dkwJ21_getLongUnaligned_2 ++ dktJ21_getLongUnaligned_3
def dkwJ21_getLongUnaligned_1 : List UInt8 := [154, 0, 23, 42, 43, 32, 182, 0, 17, 42, 43, 32, 20, 0, 205, 97, 182, 0, 17, 184, 2, 186, 173, 32]
abbrev dktJ21_getLongUnaligned_1 : List UInt8 := dkwJ21_getLongUnaligned_1 ++ dktJ21_getLongUnaligned_2
def dkwJ21_getLongUnaligned_0 : List UInt8 := [32, 20, 2, 184, 127, 9, 148, 154, 0, 10, 42, 43, 32, 182, 0, 27, 173, 32, 20, 1, 93, 127, 9, 148]
abbrev dktJ21_getLongUnaligned_0 : List UInt8 := dkwJ21_getLongUnaligned_0 ++ dktJ21_getLongUnaligned_1
theorem dksJ21_getLongUnaligned_0 : cJ21_getLongUnaligned.data.toList.drop 0 = dktJ21_getLongUnaligned_0 := by decide +kernel
theorem dksJ21_getLongUnaligned_1 : cJ21_getLongUnaligned.data.toList.drop 24 = dktJ21_getLongUnaligned_1 := dk_seg dksJ21_getLongUnaligned_0 24 rfl rfl
theorem dksJ21_getLongUnaligned_2 : cJ21_getLongUnaligned.data.toList.drop 48 = dktJ21_getLongUnaligned_2 := dk_seg dksJ21_getLongUnaligned_1 24 rfl rfl
theorem dksJ21_getLongUnaligned_3 : cJ21_getLongUnaligned.data.toList.drop 72 = dktJ21_getLongUnaligned_3 := dk_seg dksJ21_getLongUnaligned_2 24 rfl rfl
theorem dksJ21_getLongUnaligned_4 : cJ21_getLongUnaligned.data.toList.drop 96 = dktJ21_getLongUnaligned_4 := dk_seg dksJ21_getLongUnaligned_3 24 rfl rfl
theorem dksJ21_getLongUnaligned_5 : cJ21_getLongUnaligned.data.toList.drop 120 = dktJ21_getLongUnaligned_5 := dk_seg dksJ21_getLongUnaligned_4 24 rfl rfl
theorem dksJ21_getLongUnaligned_6 : cJ21_getLongUnaligned.data.toList.drop 142 = dktJ21_getLongUnaligned_6 := dk_seg dksJ21_getLongUnaligned_5 22 rfl rfl
theorem dksJ21_getLongUnaligned_7 : cJ21_getLongUnaligned.data.toList.drop 166 = dktJ21_getLongUnaligned_7 := dk_seg dksJ21_getLongUnaligned_6 24 rfl rfl
theorem dJ21_getLongUnaligned_0 : decode cJ21_getLongUnaligned 0 = .ok (.lload_n 2, 1) := dk_32 (dk_at dksJ21_getLongUnaligned_0 0 rfl rfl)
theorem dJ21_getLongUnaligned_1 : decode cJ21_getLongUnaligned 1 = .ok (.ldc2_w 696, 3) := dk_20 2 184 (dk_at dksJ21_getLongUnaligned_0 1 rfl rfl)
theorem dJ21_getLongUnaligned_4 : decode cJ21_getLongUnaligned 4 = .ok (.land, 1) := dk_127 (dk_at dksJ21_getLongUnaligned_0 4 rfl rfl)
theorem dJ21_getLongUnaligned_5 : decode cJ21_getLongUnaligned 5 = .ok (.lconst 0, 1) := dk_9 (dk_at dksJ21_getLongUnaligned_0 5 rfl rfl)
theorem dJ21_getLongUnaligned_6 : decode cJ21_getLongUnaligned 6 = .ok (.lcmp, 1) := dk_148 (dk_at dksJ21_getLongUnaligned_0 6 rfl rfl)
theorem dJ21_getLongUnaligned_7 : decode cJ21_getLongUnaligned 7 = .ok (.ifCond .ne 10, 3) := dk_154 0 10 (dk_at dksJ21_getLongUnaligned_0 7 rfl rfl)
theorem dJ21_getLongUnaligned_10 : decode cJ21_getLongUnaligned 10 = .ok (.aload_n 0, 1) := dk_42 (dk_at dksJ21_getLongUnaligned_0 10 rfl rfl)
theorem dJ21_getLongUnaligned_11 : decode cJ21_getLongUnaligned 11 = .ok (.aload_n 1, 1) := dk_43 (dk_at dksJ21_getLongUnaligned_0 11 rfl rfl)
theorem dJ21_getLongUnaligned_12 : decode cJ21_getLongUnaligned 12 = .ok (.lload_n 2, 1) := dk_32 (dk_at dksJ21_getLongUnaligned_0 12 rfl rfl)
theorem dJ21_getLongUnaligned_13 : decode cJ21_getLongUnaligned 13 = .ok (.invokevirtual 27, 3) := dk_182 0 27 (dk_at dksJ21_getLongUnaligned_0 13 rfl rfl)
theorem dJ21_getLongUnaligned_16 : decode cJ21_getLongUnaligned 16 = .ok (.lreturn, 1) := dk_173 (dk_at dksJ21_getLongUnaligned_0 16 rfl rfl)
theorem dJ21_getLongUnaligned_17 : decode cJ21_getLongUnaligned 17 = .ok (.lload_n 2, 1) := dk_32 (dk_at dksJ21_getLongUnaligned_0 17 rfl rfl)
theorem dJ21_getLongUnaligned_18 : decode cJ21_getLongUnaligned 18 = .ok (.ldc2_w 349, 3) := dk_20 1 93 (dk_at dksJ21_getLongUnaligned_0 18 rfl rfl)
theorem dJ21_getLongUnaligned_21 : decode cJ21_getLongUnaligned 21 = .ok (.land, 1) := dk_127 (dk_at dksJ21_getLongUnaligned_0 21 rfl rfl)
theorem dJ21_getLongUnaligned_22 : decode cJ21_getLongUnaligned 22 = .ok (.lconst 0, 1) := dk_9 (dk_at dksJ21_getLongUnaligned_0 22 rfl rfl)
theorem dJ21_getLongUnaligned_23 : decode cJ21_getLongUnaligned 23 = .ok (.lcmp, 1) := dk_148 (dk_at dksJ21_getLongUnaligned_0 23 rfl rfl)
theorem dJ21_getLongUnaligned_24 : decode cJ21_getLongUnaligned 24 = .ok (.ifCond .ne 23, 3) := dk_154 0 23 (dk_at dksJ21_getLongUnaligned_1 0 rfl rfl)
theorem dJ21_getLongUnaligned_27 : decode cJ21_getLongUnaligned 27 = .ok (.aload_n 0, 1) := dk_42 (dk_at dksJ21_getLongUnaligned_1 3 rfl rfl)
theorem dJ21_getLongUnaligned_28 : decode cJ21_getLongUnaligned 28 = .ok (.aload_n 1, 1) := dk_43 (dk_at dksJ21_getLongUnaligned_1 4 rfl rfl)
theorem dJ21_getLongUnaligned_29 : decode cJ21_getLongUnaligned 29 = .ok (.lload_n 2, 1) := dk_32 (dk_at dksJ21_getLongUnaligned_1 5 rfl rfl)
theorem dJ21_getLongUnaligned_30 : decode cJ21_getLongUnaligned 30 = .ok (.invokevirtual 17, 3) := dk_182 0 17 (dk_at dksJ21_getLongUnaligned_1 6 rfl rfl)
theorem dJ21_getLongUnaligned_33 : decode cJ21_getLongUnaligned 33 = .ok (.aload_n 0, 1) := dk_42 (dk_at dksJ21_getLongUnaligned_1 9 rfl rfl)
theorem dJ21_getLongUnaligned_34 : decode cJ21_getLongUnaligned 34 = .ok (.aload_n 1, 1) := dk_43 (dk_at dksJ21_getLongUnaligned_1 10 rfl rfl)
theorem dJ21_getLongUnaligned_35 : decode cJ21_getLongUnaligned 35 = .ok (.lload_n 2, 1) := dk_32 (dk_at dksJ21_getLongUnaligned_1 11 rfl rfl)
theorem dJ21_getLongUnaligned_36 : decode cJ21_getLongUnaligned 36 = .ok (.ldc2_w 205, 3) := dk_20 0 205 (dk_at dksJ21_getLongUnaligned_1 12 rfl rfl)
theorem dJ21_getLongUnaligned_39 : decode cJ21_getLongUnaligned 39 = .ok (.ladd, 1) := dk_97 (dk_at dksJ21_getLongUnaligned_1 15 rfl rfl)
theorem dJ21_getLongUnaligned_40 : decode cJ21_getLongUnaligned 40 = .ok (.invokevirtual 17, 3) := dk_182 0 17 (dk_at dksJ21_getLongUnaligned_1 16 rfl rfl)
theorem dJ21_getLongUnaligned_43 : decode cJ21_getLongUnaligned 43 = .ok (.invokestatic 698, 3) := dk_184 2 186 (dk_at dksJ21_getLongUnaligned_1 19 rfl rfl)
theorem dJ21_getLongUnaligned_46 : decode cJ21_getLongUnaligned 46 = .ok (.lreturn, 1) := dk_173 (dk_at dksJ21_getLongUnaligned_1 22 rfl rfl)
theorem dJ21_getLongUnaligned_47 : decode cJ21_getLongUnaligned 47 = .ok (.lload_n 2, 1) := dk_32 (dk_at dksJ21_getLongUnaligned_1 23 rfl rfl)
theorem dJ21_getLongUnaligned_48 : decode cJ21_getLongUnaligned 48 = .ok (.lconst 1, 1) := dk_10 (dk_at dksJ21_getLongUnaligned_2 0 rfl rfl)
theorem dJ21_getLongUnaligned_49 : decode cJ21_getLongUnaligned 49 = .ok (.land, 1) := dk_127 (dk_at dksJ21_getLongUnaligned_2 1 rfl rfl)
theorem dJ21_getLongUnaligned_50 : decode cJ21_getLongUnaligned 50 = .ok (.lconst 0, 1) := dk_9 (dk_at dksJ21_getLongUnaligned_2 2 rfl rfl)
theorem dJ21_getLongUnaligned_51 : decode cJ21_getLongUnaligned 51 = .ok (.lcmp, 1) := dk_148 (dk_at dksJ21_getLongUnaligned_2 3 rfl rfl)
theorem dJ21_getLongUnaligned_52 : decode cJ21_getLongUnaligned 52 = .ok (.ifCond .ne 43, 3) := dk_154 0 43 (dk_at dksJ21_getLongUnaligned_2 4 rfl rfl)
theorem dJ21_getLongUnaligned_55 : decode cJ21_getLongUnaligned 55 = .ok (.aload_n 0, 1) := dk_42 (dk_at dksJ21_getLongUnaligned_2 7 rfl rfl)
theorem dJ21_getLongUnaligned_56 : decode cJ21_getLongUnaligned 56 = .ok (.aload_n 1, 1) := dk_43 (dk_at dksJ21_getLongUnaligned_2 8 rfl rfl)
theorem dJ21_getLongUnaligned_57 : decode cJ21_getLongUnaligned 57 = .ok (.lload_n 2, 1) := dk_32 (dk_at dksJ21_getLongUnaligned_2 9 rfl rfl)
theorem dJ21_getLongUnaligned_58 : decode cJ21_getLongUnaligned 58 = .ok (.invokevirtual 47, 3) := dk_182 0 47 (dk_at dksJ21_getLongUnaligned_2 10 rfl rfl)
theorem dJ21_getLongUnaligned_61 : decode cJ21_getLongUnaligned 61 = .ok (.aload_n 0, 1) := dk_42 (dk_at dksJ21_getLongUnaligned_2 13 rfl rfl)
theorem dJ21_getLongUnaligned_62 : decode cJ21_getLongUnaligned 62 = .ok (.aload_n 1, 1) := dk_43 (dk_at dksJ21_getLongUnaligned_2 14 rfl rfl)
theorem dJ21_getLongUnaligned_63 : decode cJ21_getLongUnaligned 63 = .ok (.lload_n 2, 1) := dk_32 (dk_at dksJ21_getLongUnaligned_2 15 rfl rfl)
theorem dJ21_getLongUnaligned_64 : decode cJ21_getLongUnaligned 64 = .ok (.ldc2_w 203, 3) := dk_20 0 203 (dk_at dksJ21_getLongUnaligned_2 16 rfl rfl)
theorem dJ21_getLongUnaligned_67 : decode cJ21_getLongUnaligned 67 = .ok (.ladd, 1) := dk_97 (dk_at dksJ21_getLongUnaligned_2 19 rfl rfl)
theorem dJ21_getLongUnaligned_68 : decode cJ21_getLongUnaligned 68 = .ok (.invokevirtual 47, 3) := dk_182 0 47 (dk_at dksJ21_getLongUnaligned_2 20 rfl rfl)
theorem dJ21_getLongUnaligned_71 : decode cJ21_getLongUnaligned 71 = .ok (.aload_n 0, 1) := dk_42 (dk_at dksJ21_getLongUnaligned_2 23 rfl rfl)
theorem dJ21_getLongUnaligned_72 : decode cJ21_getLongUnaligned 72 = .ok (.aload_n 1, 1) := dk_43 (dk_at dksJ21_getLongUnaligned_3 0 rfl rfl)
theorem dJ21_getLongUnaligned_73 : decode cJ21_getLongUnaligned 73 = .ok (.lload_n 2, 1) := dk_32 (dk_at dksJ21_getLongUnaligned_3 1 rfl rfl)
theorem dJ21_getLongUnaligned_74 : decode cJ21_getLongUnaligned 74 = .ok (.ldc2_w 205, 3) := dk_20 0 205 (dk_at dksJ21_getLongUnaligned_3 2 rfl rfl)
theorem dJ21_getLongUnaligned_77 : decode cJ21_getLongUnaligned 77 = .ok (.ladd, 1) := dk_97 (dk_at dksJ21_getLongUnaligned_3 5 rfl rfl)
theorem dJ21_getLongUnaligned_78 : decode cJ21_getLongUnaligned 78 = .ok (.invokevirtual 47, 3) := dk_182 0 47 (dk_at dksJ21_getLongUnaligned_3 6 rfl rfl)
theorem dJ21_getLongUnaligned_81 : decode cJ21_getLongUnaligned 81 = .ok (.aload_n 0, 1) := dk_42 (dk_at dksJ21_getLongUnaligned_3 9 rfl rfl)
theorem dJ21_getLongUnaligned_82 : decode cJ21_getLongUnaligned 82 = .ok (.aload_n 1, 1) := dk_43 (dk_at dksJ21_getLongUnaligned_3 10 rfl rfl)
theorem dJ21_getLongUnaligned_83 : decode cJ21_getLongUnaligned 83 = .ok (.lload_n 2, 1) := dk_32 (dk_at dksJ21_getLongUnaligned_3 11 rfl rfl)
theorem dJ21_getLongUnaligned_84 : decode cJ21_getLongUnaligned 84 = .ok (.ldc2_w 702, 3) := dk_20 2 190 (dk_at dksJ21_getLongUnaligned_3 12 rfl rfl)
theorem dJ21_getLongUnaligned_87 : decode cJ21_getLongUnaligned 87 = .ok (.ladd, 1) := dk_97 (dk_at dksJ21_getLongUnaligned_3 15 rfl rfl)
theorem dJ21_getLongUnaligned_88 : decode cJ21_getLongUnaligned 88 = .ok (.invokevirtual 47, 3) := dk_182 0 47 (dk_at dksJ21_getLongUnaligned_3 16 rfl rfl)
theorem dJ21_getLongUnaligned_91 : decode cJ21_getLongUnaligned 91 = .ok (.invokestatic 704, 3) := dk_184 2 192 (dk_at dksJ21_getLongUnaligned_3 19 rfl rfl)
theorem dJ21_getLongUnaligned_94 : decode cJ21_getLongUnaligned 94 = .ok (.lreturn, 1) := dk_173 (dk_at dksJ21_getLongUnaligned_3 22 rfl rfl)
theorem dJ21_getLongUnaligned_95 : decode cJ21_getLongUnaligned 95 = .ok (.aload_n 0, 1) := dk_42 (dk_at dksJ21_getLongUnaligned_3 23 rfl rfl)
theorem dJ21_getLongUnaligned_96 : decode cJ21_getLongUnaligned 96 = .ok (.aload_n 1, 1) := dk_43 (dk_at dksJ21_getLongUnaligned_4 0 rfl rfl)
theorem dJ21_getLongUnaligned_97 : decode cJ21_getLongUnaligned 97 = .ok (.lload_n 2, 1) := dk_32 (dk_at dksJ21_getLongUnaligned_4 1 rfl rfl)
theorem dJ21_getLongUnaligned_98 : decode cJ21_getLongUnaligned 98 = .ok (.invokevirtual 39, 3) := dk_182 0 39 (dk_at dksJ21_getLongUnaligned_4 2 rfl rfl)
theorem dJ21_getLongUnaligned_101 : decode cJ21_getLongUnaligned 101 = .ok (.aload_n 0, 1) := dk_42 (dk_at dksJ21_getLongUnaligned_4 5 rfl rfl)
theorem dJ21_getLongUnaligned_102 : decode cJ21_getLongUnaligned 102 = .ok (.aload_n 1, 1) := dk_43 (dk_at dksJ21_getLongUnaligned_4 6 rfl rfl)
theorem dJ21_getLongUnaligned_103 : decode cJ21_getLongUnaligned 103 = .ok (.lload_n 2, 1) := dk_32 (dk_at dksJ21_getLongUnaligned_4 7 rfl rfl)
theorem dJ21_getLongUnaligned_104 : decode cJ21_getLongUnaligned 104 = .ok (.lconst 1, 1) := dk_10 (dk_at dksJ21_getLongUnaligned_4 8 rfl rfl)
theorem dJ21_getLongUnaligned_105 : decode cJ21_getLongUnaligned 105 = .ok (.ladd, 1) := dk_97 (dk_at dksJ21_getLongUnaligned_4 9 rfl rfl)
theorem dJ21_getLongUnaligned_106 : decode cJ21_getLongUnaligned 106 = .ok (.invokevirtual 39, 3) := dk_182 0 39 (dk_at dksJ21_getLongUnaligned_4 10 rfl rfl)
theorem dJ21_getLongUnaligned_109 : decode cJ21_getLongUnaligned 109 = .ok (.aload_n 0, 1) := dk_42 (dk_at dksJ21_getLongUnaligned_4 13 rfl rfl)
theorem dJ21_getLongUnaligned_110 : decode cJ21_getLongUnaligned 110 = .ok (.aload_n 1, 1) := dk_43 (dk_at dksJ21_getLongUnaligned_4 14 rfl rfl)
theorem dJ21_getLongUnaligned_111 : decode cJ21_getLongUnaligned 111 = .ok (.lload_n 2, 1) := dk_32 (dk_at dksJ21_getLongUnaligned_4 15 rfl rfl)
theorem dJ21_getLongUnaligned_112 : decode cJ21_getLongUnaligned 112 = .ok (.ldc2_w 203, 3) := dk_20 0 203 (dk_at dksJ21_getLongUnaligned_4 16 rfl rfl)
theorem dJ21_getLongUnaligned_115 : decode cJ21_getLongUnaligned 115 = .ok (.ladd, 1) := dk_97 (dk_at dksJ21_getLongUnaligned_4 19 rfl rfl)
theorem dJ21_getLongUnaligned_116 : decode cJ21_getLongUnaligned 116 = .ok (.invokevirtual 39, 3) := dk_182 0 39 (dk_at dksJ21_getLongUnaligned_4 20 rfl rfl)
theorem dJ21_getLongUnaligned_119 : decode cJ21_getLongUnaligned 119 = .ok (.aload_n 0, 1) := dk_42 (dk_at dksJ21_getLongUnaligned_4 23 rfl rfl)
theorem dJ21_getLongUnaligned_120 : decode cJ21_getLongUnaligned 120 = .ok (.aload_n 1, 1) := dk_43 (dk_at dksJ21_getLongUnaligned_5 0 rfl rfl)
theorem dJ21_getLongUnaligned_121 : decode cJ21_getLongUnaligned 121 = .ok (.lload_n 2, 1) := dk_32 (dk_at dksJ21_getLongUnaligned_5 1 rfl rfl)
theorem dJ21_getLongUnaligned_122 : decode cJ21_getLongUnaligned 122 = .ok (.ldc2_w 349, 3) := dk_20 1 93 (dk_at dksJ21_getLongUnaligned_5 2 rfl rfl)
theorem dJ21_getLongUnaligned_125 : decode cJ21_getLongUnaligned 125 = .ok (.ladd, 1) := dk_97 (dk_at dksJ21_getLongUnaligned_5 5 rfl rfl)
theorem dJ21_getLongUnaligned_126 : decode cJ21_getLongUnaligned 126 = .ok (.invokevirtual 39, 3) := dk_182 0 39 (dk_at dksJ21_getLongUnaligned_5 6 rfl rfl)
theorem dJ21_getLongUnaligned_129 : decode cJ21_getLongUnaligned 129 = .ok (.aload_n 0, 1) := dk_42 (dk_at dksJ21_getLongUnaligned_5 9 rfl rfl)
theorem dJ21_getLongUnaligned_130 : decode cJ21_getLongUnaligned 130 = .ok (.aload_n 1, 1) := dk_43 (dk_at dksJ21_getLongUnaligned_5 10 rfl rfl)
theorem dJ21_getLongUnaligned_131 : decode cJ21_getLongUnaligned 131 = .ok (.lload_n 2, 1) := dk_32 (dk_at dksJ21_getLongUnaligned_5 11 rfl rfl)
theorem dJ21_getLongUnaligned_132 : decode cJ21_getLongUnaligned 132 = .ok (.ldc2_w 205, 3) := dk_20 0 205 (dk_at dksJ21_getLongUnaligned_5 12 rfl rfl)
theorem dJ21_getLongUnaligned_135 : decode cJ21_getLongUnaligned 135 = .ok (.ladd, 1) := dk_97 (dk_at dksJ21_getLongUnaligned_5 15 rfl rfl)
theorem dJ21_getLongUnaligned_136 : decode cJ21_getLongUnaligned 136 = .ok (.invokevirtual 39, 3) := dk_182 0 39 (dk_at dksJ21_getLongUnaligned_5 16 rfl rfl)
theorem dJ21_getLongUnaligned_139 : decode cJ21_getLongUnaligned 139 = .ok (.aload_n 0, 1) := dk_42 (dk_at dksJ21_getLongUnaligned_5 19 rfl rfl)
theorem dJ21_getLongUnaligned_140 : decode cJ21_getLongUnaligned 140 = .ok (.aload_n 1, 1) := dk_43 (dk_at dksJ21_getLongUnaligned_5 20 rfl rfl)
theorem dJ21_getLongUnaligned_141 : decode cJ21_getLongUnaligned 141 = .ok (.lload_n 2, 1) := dk_32 (dk_at dksJ21_getLongUnaligned_5 21 rfl rfl)
theorem dJ21_getLongUnaligned_142 : decode cJ21_getLongUnaligned 142 = .ok (.ldc2_w 707, 3) := dk_20 2 195 (dk_at dksJ21_getLongUnaligned_6 0 rfl rfl)
theorem dJ21_getLongUnaligned_145 : decode cJ21_getLongUnaligned 145 = .ok (.ladd, 1) := dk_97 (dk_at dksJ21_getLongUnaligned_6 3 rfl rfl)
theorem dJ21_getLongUnaligned_146 : decode cJ21_getLongUnaligned 146 = .ok (.invokevirtual 39, 3) := dk_182 0 39 (dk_at dksJ21_getLongUnaligned_6 4 rfl rfl)
theorem dJ21_getLongUnaligned_149 : decode cJ21_getLongUnaligned 149 = .ok (.aload_n 0, 1) := dk_42 (dk_at dksJ21_getLongUnaligned_6 7 rfl rfl)
theorem dJ21_getLongUnaligned_150 : decode cJ21_getLongUnaligned 150 = .ok (.aload_n 1, 1) := dk_43 (dk_at dksJ21_getLongUnaligned_6 8 rfl rfl)
theorem dJ21_getLongUnaligned_151 : decode cJ21_getLongUnaligned 151 = .ok (.lload_n 2, 1) := dk_32 (dk_at dksJ21_getLongUnaligned_6 9 rfl rfl)
theorem dJ21_getLongUnaligned_152 : decode cJ21_getLongUnaligned 152 = .ok (.ldc2_w 702, 3) := dk_20 2 190 (dk_at dksJ21_getLongUnaligned_6 10 rfl rfl)
theorem dJ21_getLongUnaligned_155 : decode cJ21_getLongUnaligned 155 = .ok (.ladd, 1) := dk_97 (dk_at dksJ21_getLongUnaligned_6 13 rfl rfl)
theorem dJ21_getLongUnaligned_156 : decode cJ21_getLongUnaligned 156 = .ok (.invokevirtual 39, 3) := dk_182 0 39 (dk_at dksJ21_getLongUnaligned_6 14 rfl rfl)
theorem dJ21_getLongUnaligned_159 : decode cJ21_getLongUnaligned 159 = .ok (.aload_n 0, 1) := dk_42 (dk_at dksJ21_getLongUnaligned_6 17 rfl rfl)
theorem dJ21_getLongUnaligned_160 : decode cJ21_getLongUnaligned 160 = .ok (.aload_n 1, 1) := dk_43 (dk_at dksJ21_getLongUnaligned_6 18 rfl rfl)
theorem dJ21_getLongUnaligned_161 : decode cJ21_getLongUnaligned 161 = .ok (.lload_n 2, 1) := dk_32 (dk_at dksJ21_getLongUnaligned_6 19 rfl rfl)
theorem dJ21_getLongUnaligned_162 : decode cJ21_getLongUnaligned 162 = .ok (.ldc2_w 696, 3) := dk_20 2 184 (dk_at dksJ21_getLongUnaligned_6 20 rfl rfl)
theorem dJ21_getLongUnaligned_165 : decode cJ21_getLongUnaligned 165 = .ok (.ladd, 1) := dk_97 (dk_at dksJ21_getLongUnaligned_6 23 rfl rfl)
theorem dJ21_getLongUnaligned_166 : decode cJ21_getLongUnaligned 166 = .ok (.invokevirtual 39, 3) := dk_182 0 39 (dk_at dksJ21_getLongUnaligned_7 0 rfl rfl)
theorem dJ21_getLongUnaligned_169 : decode cJ21_getLongUnaligned 169 = .ok (.invokestatic 709, 3) := dk_184 2 197 (dk_at dksJ21_getLongUnaligned_7 3 rfl rfl)
theorem dJ21_getLongUnaligned_172 : decode cJ21_getLongUnaligned 172 = .ok (.lreturn, 1) := dk_173 (dk_at dksJ21_getLongUnaligned_7 6 rfl rfl)
abbrev cJ21_makeLong : ByteArray := prog_76_method_353_code
def yJ21_makeLong : MethodName := ⟨RJ21, "makeLong", "(II)J"⟩
def dkwJ21_makeLong_1 : List UInt8 := [173]
abbrev dktJ21_makeLong_1 : List UInt8 := dkwJ21_makeLong_1 ++ []
def dkwJ21_makeLong_0 : List UInt8 := [26, 184, 3, 23, 16, 32, 3, 184, 3, 16, 121, 27, 184, 3, 23, 16, 32, 16, 32, 184, 3, 16, 121, 129]
abbrev dktJ21_makeLong_0 : List UInt8 := dkwJ21_makeLong_0 ++ dktJ21_makeLong_1
theorem dksJ21_makeLong_0 : cJ21_makeLong.data.toList.drop 0 = dktJ21_makeLong_0 := by decide +kernel
theorem dksJ21_makeLong_1 : cJ21_makeLong.data.toList.drop 24 = dktJ21_makeLong_1 := dk_seg dksJ21_makeLong_0 24 rfl rfl
theorem dJ21_makeLong_0 : decode cJ21_makeLong 0 = .ok (.iload_n 0, 1) := dk_26 (dk_at dksJ21_makeLong_0 0 rfl rfl)
theorem dJ21_makeLong_1 : decode cJ21_makeLong 1 = .ok (.invokestatic 791, 3) := dk_184 3 23 (dk_at dksJ21_makeLong_0 1 rfl rfl)
theorem dJ21_makeLong_4 : decode cJ21_makeLong 4 = .ok (.bipush 32, 2) := dk_16 32 (dk_at dksJ21_makeLong_0 4 rfl rfl)
theorem dJ21_makeLong_6 : decode cJ21_makeLong 6 = .ok (.iconst 0, 1) := dk_3 (dk_at dksJ21_makeLong_0 6 rfl rfl)
theorem dJ21_makeLong_7 : decode cJ21_makeLong 7 = .ok (.invokestatic 784, 3) := dk_184 3 16 (dk_at dksJ21_makeLong_0 7 rfl rfl)
theorem dJ21_makeLong_10 : decode cJ21_makeLong 10 = .ok (.lshl, 1) := dk_121 (dk_at dksJ21_makeLong_0 10 rfl rfl)
theorem dJ21_makeLong_11 : decode cJ21_makeLong 11 = .ok (.iload_n 1, 1) := dk_27 (dk_at dksJ21_makeLong_0 11 rfl rfl)
theorem dJ21_makeLong_12 : decode cJ21_makeLong 12 = .ok (.invokestatic 791, 3) := dk_184 3 23 (dk_at dksJ21_makeLong_0 12 rfl rfl)
theorem dJ21_makeLong_15 : decode cJ21_makeLong 15 = .ok (.bipush 32, 2) := dk_16 32 (dk_at dksJ21_makeLong_0 15 rfl rfl)
theorem dJ21_makeLong_17 : decode cJ21_makeLong 17 = .ok (.bipush 32, 2) := dk_16 32 (dk_at dksJ21_makeLong_0 17 rfl rfl)
theorem dJ21_makeLong_19 : decode cJ21_makeLong 19 = .ok (.invokestatic 784, 3) := dk_184 3 16 (dk_at dksJ21_makeLong_0 19 rfl rfl)
theorem dJ21_makeLong_22 : decode cJ21_makeLong 22 = .ok (.lshl, 1) := dk_121 (dk_at dksJ21_makeLong_0 22 rfl rfl)
theorem dJ21_makeLong_23 : decode cJ21_makeLong 23 = .ok (.lor, 1) := dk_129 (dk_at dksJ21_makeLong_0 23 rfl rfl)
theorem dJ21_makeLong_24 : decode cJ21_makeLong 24 = .ok (.lreturn, 1) := dk_173 (dk_at dksJ21_makeLong_1 0 rfl rfl)
abbrev cJ21_toUnsignedLong : ByteArray := prog_76_method_370_code
def yJ21_toUnsignedLong : MethodName := ⟨RJ21, "toUnsignedLong", "(I)J"⟩
def dkwJ21_toUnsignedLong_0 : List UInt8 := [26, 133, 20, 3, 44, 127, 173]
abbrev dktJ21_toUnsignedLong_0 : List UInt8 := dkwJ21_toUnsignedLong_0 ++ []
theorem dksJ21_toUnsignedLong_0 : cJ21_toUnsignedLong.data.toList.drop 0 = dktJ21_toUnsignedLong_0 := by decide +kernel
theorem dJ21_toUnsignedLong_0 : decode cJ21_toUnsignedLong 0 = .ok (.iload_n 0, 1) := dk_26 (dk_at dksJ21_toUnsignedLong_0 0 rfl rfl)
theorem dJ21_toUnsignedLong_1 : decode cJ21_toUnsignedLong 1 = .ok (.i2l, 1) := dk_133 (dk_at dksJ21_toUnsignedLong_0 1 rfl rfl)
theorem dJ21_toUnsignedLong_2 : decode cJ21_toUnsignedLong 2 = .ok (.ldc2_w 812, 3) := dk_20 3 44 (dk_at dksJ21_toUnsignedLong_0 2 rfl rfl)
theorem dJ21_toUnsignedLong_5 : decode cJ21_toUnsignedLong 5 = .ok (.land, 1) := dk_127 (dk_at dksJ21_toUnsignedLong_0 5 rfl rfl)
theorem dJ21_toUnsignedLong_6 : decode cJ21_toUnsignedLong 6 = .ok (.lreturn, 1) := dk_173 (dk_at dksJ21_toUnsignedLong_0 6 rfl rfl)
abbrev cJ21_pickPos : ByteArray := prog_76_method_350_code
def yJ21_pickPos : MethodName := ⟨RJ21, "pickPos", "(II)I"⟩
def dkwJ21_pickPos_0 : List UInt8 := [178, 1, 95, 153, 0, 9, 26, 27, 100, 167, 0, 4, 27, 172]
abbrev dktJ21_pickPos_0 : List UInt8 := dkwJ21_pickPos_0 ++ []
theorem dksJ21_pickPos_0 : cJ21_pickPos.data.toList.drop 0 = dktJ21_pickPos_0 := by decide +kernel
theorem dJ21_pickPos_0 : decode cJ21_pickPos 0 = .ok (.getstatic 351, 3) := dk_178 1 95 (dk_at dksJ21_pickPos_0 0 rfl rfl)
theorem dJ21_pickPos_3 : decode cJ21_pickPos 3 = .ok (.ifCond .eq 9, 3) := dk_153 0 9 (dk_at dksJ21_pickPos_0 3 rfl rfl)
theorem dJ21_pickPos_6 : decode cJ21_pickPos 6 = .ok (.iload_n 0, 1) := dk_26 (dk_at dksJ21_pickPos_0 6 rfl rfl)
theorem dJ21_pickPos_7 : decode cJ21_pickPos 7 = .ok (.iload_n 1, 1) := dk_27 (dk_at dksJ21_pickPos_0 7 rfl rfl)
theorem dJ21_pickPos_8 : decode cJ21_pickPos 8 = .ok (.isub, 1) := dk_100 (dk_at dksJ21_pickPos_0 8 rfl rfl)
theorem dJ21_pickPos_9 : decode cJ21_pickPos 9 = .ok (.goto 4, 3) := dk_167 0 4 (dk_at dksJ21_pickPos_0 9 rfl rfl)
theorem dJ21_pickPos_12 : decode cJ21_pickPos 12 = .ok (.iload_n 1, 1) := dk_27 (dk_at dksJ21_pickPos_0 12 rfl rfl)
theorem dJ21_pickPos_13 : decode cJ21_pickPos 13 = .ok (.ireturn, 1) := dk_172 (dk_at dksJ21_pickPos_0 13 rfl rfl)
abbrev cJ21_makeLong_2 : ByteArray := prog_76_method_352_code
def yJ21_makeLong_2 : MethodName := ⟨RJ21, "makeLong", "(SSSS)J"⟩
def dkwJ21_makeLong_2_2 : List UInt8 := [121, 129, 173]
abbrev dktJ21_makeLong_2_2 : List UInt8 := dkwJ21_makeLong_2_2 ++ []
def dkwJ21_makeLong_2_1 : List UInt8 := [28, 184, 3, 20, 16, 48, 16, 32, 184, 3, 16, 121, 129, 29, 184, 3, 20, 16, 48, 16, 48, 184, 3, 16]
abbrev dktJ21_makeLong_2_1 : List UInt8 := dkwJ21_makeLong_2_1 ++ dktJ21_makeLong_2_2
def dkwJ21_makeLong_2_0 : List UInt8 := [26, 184, 3, 20, 16, 48, 3, 184, 3, 16, 121, 27, 184, 3, 20, 16, 48, 16, 16, 184, 3, 16, 121, 129]
abbrev dktJ21_makeLong_2_0 : List UInt8 := dkwJ21_makeLong_2_0 ++ dktJ21_makeLong_2_1
theorem dksJ21_makeLong_2_0 : cJ21_makeLong_2.data.toList.drop 0 = dktJ21_makeLong_2_0 := by decide +kernel
theorem dksJ21_makeLong_2_1 : cJ21_makeLong_2.data.toList.drop 24 = dktJ21_makeLong_2_1 := dk_seg dksJ21_makeLong_2_0 24 rfl rfl
theorem dksJ21_makeLong_2_2 : cJ21_makeLong_2.data.toList.drop 48 = dktJ21_makeLong_2_2 := dk_seg dksJ21_makeLong_2_1 24 rfl rfl
theorem dJ21_makeLong_2_0 : decode cJ21_makeLong_2 0 = .ok (.iload_n 0, 1) := dk_26 (dk_at dksJ21_makeLong_2_0 0 rfl rfl)
theorem dJ21_makeLong_2_1 : decode cJ21_makeLong_2 1 = .ok (.invokestatic 788, 3) := dk_184 3 20 (dk_at dksJ21_makeLong_2_0 1 rfl rfl)
theorem dJ21_makeLong_2_4 : decode cJ21_makeLong_2 4 = .ok (.bipush 48, 2) := dk_16 48 (dk_at dksJ21_makeLong_2_0 4 rfl rfl)
theorem dJ21_makeLong_2_6 : decode cJ21_makeLong_2 6 = .ok (.iconst 0, 1) := dk_3 (dk_at dksJ21_makeLong_2_0 6 rfl rfl)
theorem dJ21_makeLong_2_7 : decode cJ21_makeLong_2 7 = .ok (.invokestatic 784, 3) := dk_184 3 16 (dk_at dksJ21_makeLong_2_0 7 rfl rfl)
theorem dJ21_makeLong_2_10 : decode cJ21_makeLong_2 10 = .ok (.lshl, 1) := dk_121 (dk_at dksJ21_makeLong_2_0 10 rfl rfl)
theorem dJ21_makeLong_2_11 : decode cJ21_makeLong_2 11 = .ok (.iload_n 1, 1) := dk_27 (dk_at dksJ21_makeLong_2_0 11 rfl rfl)
theorem dJ21_makeLong_2_12 : decode cJ21_makeLong_2 12 = .ok (.invokestatic 788, 3) := dk_184 3 20 (dk_at dksJ21_makeLong_2_0 12 rfl rfl)
theorem dJ21_makeLong_2_15 : decode cJ21_makeLong_2 15 = .ok (.bipush 48, 2) := dk_16 48 (dk_at dksJ21_makeLong_2_0 15 rfl rfl)
theorem dJ21_makeLong_2_17 : decode cJ21_makeLong_2 17 = .ok (.bipush 16, 2) := dk_16 16 (dk_at dksJ21_makeLong_2_0 17 rfl rfl)
theorem dJ21_makeLong_2_19 : decode cJ21_makeLong_2 19 = .ok (.invokestatic 784, 3) := dk_184 3 16 (dk_at dksJ21_makeLong_2_0 19 rfl rfl)
theorem dJ21_makeLong_2_22 : decode cJ21_makeLong_2 22 = .ok (.lshl, 1) := dk_121 (dk_at dksJ21_makeLong_2_0 22 rfl rfl)
theorem dJ21_makeLong_2_23 : decode cJ21_makeLong_2 23 = .ok (.lor, 1) := dk_129 (dk_at dksJ21_makeLong_2_0 23 rfl rfl)
theorem dJ21_makeLong_2_24 : decode cJ21_makeLong_2 24 = .ok (.iload_n 2, 1) := dk_28 (dk_at dksJ21_makeLong_2_1 0 rfl rfl)
theorem dJ21_makeLong_2_25 : decode cJ21_makeLong_2 25 = .ok (.invokestatic 788, 3) := dk_184 3 20 (dk_at dksJ21_makeLong_2_1 1 rfl rfl)
theorem dJ21_makeLong_2_28 : decode cJ21_makeLong_2 28 = .ok (.bipush 48, 2) := dk_16 48 (dk_at dksJ21_makeLong_2_1 4 rfl rfl)
theorem dJ21_makeLong_2_30 : decode cJ21_makeLong_2 30 = .ok (.bipush 32, 2) := dk_16 32 (dk_at dksJ21_makeLong_2_1 6 rfl rfl)
theorem dJ21_makeLong_2_32 : decode cJ21_makeLong_2 32 = .ok (.invokestatic 784, 3) := dk_184 3 16 (dk_at dksJ21_makeLong_2_1 8 rfl rfl)
theorem dJ21_makeLong_2_35 : decode cJ21_makeLong_2 35 = .ok (.lshl, 1) := dk_121 (dk_at dksJ21_makeLong_2_1 11 rfl rfl)
theorem dJ21_makeLong_2_36 : decode cJ21_makeLong_2 36 = .ok (.lor, 1) := dk_129 (dk_at dksJ21_makeLong_2_1 12 rfl rfl)
theorem dJ21_makeLong_2_37 : decode cJ21_makeLong_2 37 = .ok (.iload_n 3, 1) := dk_29 (dk_at dksJ21_makeLong_2_1 13 rfl rfl)
theorem dJ21_makeLong_2_38 : decode cJ21_makeLong_2 38 = .ok (.invokestatic 788, 3) := dk_184 3 20 (dk_at dksJ21_makeLong_2_1 14 rfl rfl)
theorem dJ21_makeLong_2_41 : decode cJ21_makeLong_2 41 = .ok (.bipush 48, 2) := dk_16 48 (dk_at dksJ21_makeLong_2_1 17 rfl rfl)
theorem dJ21_makeLong_2_43 : decode cJ21_makeLong_2 43 = .ok (.bipush 48, 2) := dk_16 48 (dk_at dksJ21_makeLong_2_1 19 rfl rfl)
theorem dJ21_makeLong_2_45 : decode cJ21_makeLong_2 45 = .ok (.invokestatic 784, 3) := dk_184 3 16 (dk_at dksJ21_makeLong_2_1 21 rfl rfl)
theorem dJ21_makeLong_2_48 : decode cJ21_makeLong_2 48 = .ok (.lshl, 1) := dk_121 (dk_at dksJ21_makeLong_2_2 0 rfl rfl)
theorem dJ21_makeLong_2_49 : decode cJ21_makeLong_2 49 = .ok (.lor, 1) := dk_129 (dk_at dksJ21_makeLong_2_2 1 rfl rfl)
theorem dJ21_makeLong_2_50 : decode cJ21_makeLong_2 50 = .ok (.lreturn, 1) := dk_173 (dk_at dksJ21_makeLong_2_2 2 rfl rfl)
abbrev cJ21_toUnsignedLong_2 : ByteArray := prog_76_method_369_code
def yJ21_toUnsignedLong_2 : MethodName := ⟨RJ21, "toUnsignedLong", "(S)J"⟩
def dkwJ21_toUnsignedLong_2_0 : List UInt8 := [26, 133, 20, 3, 42, 127, 173]
abbrev dktJ21_toUnsignedLong_2_0 : List UInt8 := dkwJ21_toUnsignedLong_2_0 ++ []
theorem dksJ21_toUnsignedLong_2_0 : cJ21_toUnsignedLong_2.data.toList.drop 0 = dktJ21_toUnsignedLong_2_0 := by decide +kernel
theorem dJ21_toUnsignedLong_2_0 : decode cJ21_toUnsignedLong_2 0 = .ok (.iload_n 0, 1) := dk_26 (dk_at dksJ21_toUnsignedLong_2_0 0 rfl rfl)
theorem dJ21_toUnsignedLong_2_1 : decode cJ21_toUnsignedLong_2 1 = .ok (.i2l, 1) := dk_133 (dk_at dksJ21_toUnsignedLong_2_0 1 rfl rfl)
theorem dJ21_toUnsignedLong_2_2 : decode cJ21_toUnsignedLong_2 2 = .ok (.ldc2_w 810, 3) := dk_20 3 42 (dk_at dksJ21_toUnsignedLong_2_0 2 rfl rfl)
theorem dJ21_toUnsignedLong_2_5 : decode cJ21_toUnsignedLong_2 5 = .ok (.land, 1) := dk_127 (dk_at dksJ21_toUnsignedLong_2_0 5 rfl rfl)
theorem dJ21_toUnsignedLong_2_6 : decode cJ21_toUnsignedLong_2 6 = .ok (.lreturn, 1) := dk_173 (dk_at dksJ21_toUnsignedLong_2_0 6 rfl rfl)
abbrev cJ21_makeLong_3 : ByteArray := prog_76_method_351_code
def yJ21_makeLong_3 : MethodName := ⟨RJ21, "makeLong", "(BBBBBBBB)J"⟩
def dkwJ21_makeLong_3_4 : List UInt8 := [184, 3, 13, 16, 56, 16, 56, 184, 3, 16, 121, 129, 173]
abbrev dktJ21_makeLong_3_4 : List UInt8 := dkwJ21_makeLong_3_4 ++ []
def dkwJ21_makeLong_3_3 : List UInt8 := [16, 40, 184, 3, 16, 121, 129, 21, 6, 184, 3, 13, 16, 56, 16, 48, 184, 3, 16, 121, 129, 21, 7]
abbrev dktJ21_makeLong_3_3 : List UInt8 := dkwJ21_makeLong_3_3 ++ dktJ21_makeLong_3_4
def dkwJ21_makeLong_3_2 : List UInt8 := [121, 129, 21, 4, 184, 3, 13, 16, 56, 16, 32, 184, 3, 16, 121, 129, 21, 5, 184, 3, 13, 16, 56]
abbrev dktJ21_makeLong_3_2 : List UInt8 := dkwJ21_makeLong_3_2 ++ dktJ21_makeLong_3_3
def dkwJ21_makeLong_3_1 : List UInt8 := [28, 184, 3, 13, 16, 56, 16, 16, 184, 3, 16, 121, 129, 29, 184, 3, 13, 16, 56, 16, 24, 184, 3, 16]
abbrev dktJ21_makeLong_3_1 : List UInt8 := dkwJ21_makeLong_3_1 ++ dktJ21_makeLong_3_2
def dkwJ21_makeLong_3_0 : List UInt8 := [26, 184, 3, 13, 16, 56, 3, 184, 3, 16, 121, 27, 184, 3, 13, 16, 56, 16, 8, 184, 3, 16, 121, 129]
abbrev dktJ21_makeLong_3_0 : List UInt8 := dkwJ21_makeLong_3_0 ++ dktJ21_makeLong_3_1
theorem dksJ21_makeLong_3_0 : cJ21_makeLong_3.data.toList.drop 0 = dktJ21_makeLong_3_0 := by decide +kernel
theorem dksJ21_makeLong_3_1 : cJ21_makeLong_3.data.toList.drop 24 = dktJ21_makeLong_3_1 := dk_seg dksJ21_makeLong_3_0 24 rfl rfl
theorem dksJ21_makeLong_3_2 : cJ21_makeLong_3.data.toList.drop 48 = dktJ21_makeLong_3_2 := dk_seg dksJ21_makeLong_3_1 24 rfl rfl
theorem dksJ21_makeLong_3_3 : cJ21_makeLong_3.data.toList.drop 71 = dktJ21_makeLong_3_3 := dk_seg dksJ21_makeLong_3_2 23 rfl rfl
theorem dksJ21_makeLong_3_4 : cJ21_makeLong_3.data.toList.drop 94 = dktJ21_makeLong_3_4 := dk_seg dksJ21_makeLong_3_3 23 rfl rfl
theorem dJ21_makeLong_3_0 : decode cJ21_makeLong_3 0 = .ok (.iload_n 0, 1) := dk_26 (dk_at dksJ21_makeLong_3_0 0 rfl rfl)
theorem dJ21_makeLong_3_1 : decode cJ21_makeLong_3 1 = .ok (.invokestatic 781, 3) := dk_184 3 13 (dk_at dksJ21_makeLong_3_0 1 rfl rfl)
theorem dJ21_makeLong_3_4 : decode cJ21_makeLong_3 4 = .ok (.bipush 56, 2) := dk_16 56 (dk_at dksJ21_makeLong_3_0 4 rfl rfl)
theorem dJ21_makeLong_3_6 : decode cJ21_makeLong_3 6 = .ok (.iconst 0, 1) := dk_3 (dk_at dksJ21_makeLong_3_0 6 rfl rfl)
theorem dJ21_makeLong_3_7 : decode cJ21_makeLong_3 7 = .ok (.invokestatic 784, 3) := dk_184 3 16 (dk_at dksJ21_makeLong_3_0 7 rfl rfl)
theorem dJ21_makeLong_3_10 : decode cJ21_makeLong_3 10 = .ok (.lshl, 1) := dk_121 (dk_at dksJ21_makeLong_3_0 10 rfl rfl)
theorem dJ21_makeLong_3_11 : decode cJ21_makeLong_3 11 = .ok (.iload_n 1, 1) := dk_27 (dk_at dksJ21_makeLong_3_0 11 rfl rfl)
theorem dJ21_makeLong_3_12 : decode cJ21_makeLong_3 12 = .ok (.invokestatic 781, 3) := dk_184 3 13 (dk_at dksJ21_makeLong_3_0 12 rfl rfl)
theorem dJ21_makeLong_3_15 : decode cJ21_makeLong_3 15 = .ok (.bipush 56, 2) := dk_16 56 (dk_at dksJ21_makeLong_3_0 15 rfl rfl)
theorem dJ21_makeLong_3_17 : decode cJ21_makeLong_3 17 = .ok (.bipush 8, 2) := dk_16 8 (dk_at dksJ21_makeLong_3_0 17 rfl rfl)
theorem dJ21_makeLong_3_19 : decode cJ21_makeLong_3 19 = .ok (.invokestatic 784, 3) := dk_184 3 16 (dk_at dksJ21_makeLong_3_0 19 rfl rfl)
theorem dJ21_makeLong_3_22 : decode cJ21_makeLong_3 22 = .ok (.lshl, 1) := dk_121 (dk_at dksJ21_makeLong_3_0 22 rfl rfl)
theorem dJ21_makeLong_3_23 : decode cJ21_makeLong_3 23 = .ok (.lor, 1) := dk_129 (dk_at dksJ21_makeLong_3_0 23 rfl rfl)
theorem dJ21_makeLong_3_24 : decode cJ21_makeLong_3 24 = .ok (.iload_n 2, 1) := dk_28 (dk_at dksJ21_makeLong_3_1 0 rfl rfl)
theorem dJ21_makeLong_3_25 : decode cJ21_makeLong_3 25 = .ok (.invokestatic 781, 3) := dk_184 3 13 (dk_at dksJ21_makeLong_3_1 1 rfl rfl)
theorem dJ21_makeLong_3_28 : decode cJ21_makeLong_3 28 = .ok (.bipush 56, 2) := dk_16 56 (dk_at dksJ21_makeLong_3_1 4 rfl rfl)
theorem dJ21_makeLong_3_30 : decode cJ21_makeLong_3 30 = .ok (.bipush 16, 2) := dk_16 16 (dk_at dksJ21_makeLong_3_1 6 rfl rfl)
theorem dJ21_makeLong_3_32 : decode cJ21_makeLong_3 32 = .ok (.invokestatic 784, 3) := dk_184 3 16 (dk_at dksJ21_makeLong_3_1 8 rfl rfl)
theorem dJ21_makeLong_3_35 : decode cJ21_makeLong_3 35 = .ok (.lshl, 1) := dk_121 (dk_at dksJ21_makeLong_3_1 11 rfl rfl)
theorem dJ21_makeLong_3_36 : decode cJ21_makeLong_3 36 = .ok (.lor, 1) := dk_129 (dk_at dksJ21_makeLong_3_1 12 rfl rfl)
theorem dJ21_makeLong_3_37 : decode cJ21_makeLong_3 37 = .ok (.iload_n 3, 1) := dk_29 (dk_at dksJ21_makeLong_3_1 13 rfl rfl)
theorem dJ21_makeLong_3_38 : decode cJ21_makeLong_3 38 = .ok (.invokestatic 781, 3) := dk_184 3 13 (dk_at dksJ21_makeLong_3_1 14 rfl rfl)
theorem dJ21_makeLong_3_41 : decode cJ21_makeLong_3 41 = .ok (.bipush 56, 2) := dk_16 56 (dk_at dksJ21_makeLong_3_1 17 rfl rfl)
theorem dJ21_makeLong_3_43 : decode cJ21_makeLong_3 43 = .ok (.bipush 24, 2) := dk_16 24 (dk_at dksJ21_makeLong_3_1 19 rfl rfl)
theorem dJ21_makeLong_3_45 : decode cJ21_makeLong_3 45 = .ok (.invokestatic 784, 3) := dk_184 3 16 (dk_at dksJ21_makeLong_3_1 21 rfl rfl)
theorem dJ21_makeLong_3_48 : decode cJ21_makeLong_3 48 = .ok (.lshl, 1) := dk_121 (dk_at dksJ21_makeLong_3_2 0 rfl rfl)
theorem dJ21_makeLong_3_49 : decode cJ21_makeLong_3 49 = .ok (.lor, 1) := dk_129 (dk_at dksJ21_makeLong_3_2 1 rfl rfl)
theorem dJ21_makeLong_3_50 : decode cJ21_makeLong_3 50 = .ok (.iload 4, 2) := dk_21 4 (dk_at dksJ21_makeLong_3_2 2 rfl rfl)
theorem dJ21_makeLong_3_52 : decode cJ21_makeLong_3 52 = .ok (.invokestatic 781, 3) := dk_184 3 13 (dk_at dksJ21_makeLong_3_2 4 rfl rfl)
theorem dJ21_makeLong_3_55 : decode cJ21_makeLong_3 55 = .ok (.bipush 56, 2) := dk_16 56 (dk_at dksJ21_makeLong_3_2 7 rfl rfl)
theorem dJ21_makeLong_3_57 : decode cJ21_makeLong_3 57 = .ok (.bipush 32, 2) := dk_16 32 (dk_at dksJ21_makeLong_3_2 9 rfl rfl)
theorem dJ21_makeLong_3_59 : decode cJ21_makeLong_3 59 = .ok (.invokestatic 784, 3) := dk_184 3 16 (dk_at dksJ21_makeLong_3_2 11 rfl rfl)
theorem dJ21_makeLong_3_62 : decode cJ21_makeLong_3 62 = .ok (.lshl, 1) := dk_121 (dk_at dksJ21_makeLong_3_2 14 rfl rfl)
theorem dJ21_makeLong_3_63 : decode cJ21_makeLong_3 63 = .ok (.lor, 1) := dk_129 (dk_at dksJ21_makeLong_3_2 15 rfl rfl)
theorem dJ21_makeLong_3_64 : decode cJ21_makeLong_3 64 = .ok (.iload 5, 2) := dk_21 5 (dk_at dksJ21_makeLong_3_2 16 rfl rfl)
theorem dJ21_makeLong_3_66 : decode cJ21_makeLong_3 66 = .ok (.invokestatic 781, 3) := dk_184 3 13 (dk_at dksJ21_makeLong_3_2 18 rfl rfl)
theorem dJ21_makeLong_3_69 : decode cJ21_makeLong_3 69 = .ok (.bipush 56, 2) := dk_16 56 (dk_at dksJ21_makeLong_3_2 21 rfl rfl)
theorem dJ21_makeLong_3_71 : decode cJ21_makeLong_3 71 = .ok (.bipush 40, 2) := dk_16 40 (dk_at dksJ21_makeLong_3_3 0 rfl rfl)
theorem dJ21_makeLong_3_73 : decode cJ21_makeLong_3 73 = .ok (.invokestatic 784, 3) := dk_184 3 16 (dk_at dksJ21_makeLong_3_3 2 rfl rfl)
theorem dJ21_makeLong_3_76 : decode cJ21_makeLong_3 76 = .ok (.lshl, 1) := dk_121 (dk_at dksJ21_makeLong_3_3 5 rfl rfl)
theorem dJ21_makeLong_3_77 : decode cJ21_makeLong_3 77 = .ok (.lor, 1) := dk_129 (dk_at dksJ21_makeLong_3_3 6 rfl rfl)
theorem dJ21_makeLong_3_78 : decode cJ21_makeLong_3 78 = .ok (.iload 6, 2) := dk_21 6 (dk_at dksJ21_makeLong_3_3 7 rfl rfl)
theorem dJ21_makeLong_3_80 : decode cJ21_makeLong_3 80 = .ok (.invokestatic 781, 3) := dk_184 3 13 (dk_at dksJ21_makeLong_3_3 9 rfl rfl)
theorem dJ21_makeLong_3_83 : decode cJ21_makeLong_3 83 = .ok (.bipush 56, 2) := dk_16 56 (dk_at dksJ21_makeLong_3_3 12 rfl rfl)
theorem dJ21_makeLong_3_85 : decode cJ21_makeLong_3 85 = .ok (.bipush 48, 2) := dk_16 48 (dk_at dksJ21_makeLong_3_3 14 rfl rfl)
theorem dJ21_makeLong_3_87 : decode cJ21_makeLong_3 87 = .ok (.invokestatic 784, 3) := dk_184 3 16 (dk_at dksJ21_makeLong_3_3 16 rfl rfl)
theorem dJ21_makeLong_3_90 : decode cJ21_makeLong_3 90 = .ok (.lshl, 1) := dk_121 (dk_at dksJ21_makeLong_3_3 19 rfl rfl)
theorem dJ21_makeLong_3_91 : decode cJ21_makeLong_3 91 = .ok (.lor, 1) := dk_129 (dk_at dksJ21_makeLong_3_3 20 rfl rfl)
theorem dJ21_makeLong_3_92 : decode cJ21_makeLong_3 92 = .ok (.iload 7, 2) := dk_21 7 (dk_at dksJ21_makeLong_3_3 21 rfl rfl)
theorem dJ21_makeLong_3_94 : decode cJ21_makeLong_3 94 = .ok (.invokestatic 781, 3) := dk_184 3 13 (dk_at dksJ21_makeLong_3_4 0 rfl rfl)
theorem dJ21_makeLong_3_97 : decode cJ21_makeLong_3 97 = .ok (.bipush 56, 2) := dk_16 56 (dk_at dksJ21_makeLong_3_4 3 rfl rfl)
theorem dJ21_makeLong_3_99 : decode cJ21_makeLong_3 99 = .ok (.bipush 56, 2) := dk_16 56 (dk_at dksJ21_makeLong_3_4 5 rfl rfl)
theorem dJ21_makeLong_3_101 : decode cJ21_makeLong_3 101 = .ok (.invokestatic 784, 3) := dk_184 3 16 (dk_at dksJ21_makeLong_3_4 7 rfl rfl)
theorem dJ21_makeLong_3_104 : decode cJ21_makeLong_3 104 = .ok (.lshl, 1) := dk_121 (dk_at dksJ21_makeLong_3_4 10 rfl rfl)
theorem dJ21_makeLong_3_105 : decode cJ21_makeLong_3 105 = .ok (.lor, 1) := dk_129 (dk_at dksJ21_makeLong_3_4 11 rfl rfl)
theorem dJ21_makeLong_3_106 : decode cJ21_makeLong_3 106 = .ok (.lreturn, 1) := dk_173 (dk_at dksJ21_makeLong_3_4 12 rfl rfl)
abbrev cJ21_toUnsignedLong_3 : ByteArray := prog_76_method_368_code
def yJ21_toUnsignedLong_3 : MethodName := ⟨RJ21, "toUnsignedLong", "(B)J"⟩
def dkwJ21_toUnsignedLong_3_0 : List UInt8 := [26, 133, 20, 3, 40, 127, 173]
abbrev dktJ21_toUnsignedLong_3_0 : List UInt8 := dkwJ21_toUnsignedLong_3_0 ++ []
theorem dksJ21_toUnsignedLong_3_0 : cJ21_toUnsignedLong_3.data.toList.drop 0 = dktJ21_toUnsignedLong_3_0 := by decide +kernel
theorem dJ21_toUnsignedLong_3_0 : decode cJ21_toUnsignedLong_3 0 = .ok (.iload_n 0, 1) := dk_26 (dk_at dksJ21_toUnsignedLong_3_0 0 rfl rfl)
theorem dJ21_toUnsignedLong_3_1 : decode cJ21_toUnsignedLong_3 1 = .ok (.i2l, 1) := dk_133 (dk_at dksJ21_toUnsignedLong_3_0 1 rfl rfl)
theorem dJ21_toUnsignedLong_3_2 : decode cJ21_toUnsignedLong_3 2 = .ok (.ldc2_w 808, 3) := dk_20 3 40 (dk_at dksJ21_toUnsignedLong_3_0 2 rfl rfl)
theorem dJ21_toUnsignedLong_3_5 : decode cJ21_toUnsignedLong_3 5 = .ok (.land, 1) := dk_127 (dk_at dksJ21_toUnsignedLong_3_0 5 rfl rfl)
theorem dJ21_toUnsignedLong_3_6 : decode cJ21_toUnsignedLong_3 6 = .ok (.lreturn, 1) := dk_173 (dk_at dksJ21_toUnsignedLong_3_0 6 rfl rfl)
abbrev cJ21_getIntUnaligned : ByteArray := prog_76_method_336_code
def yJ21_getIntUnaligned : MethodName := ⟨RJ21, "getIntUnaligned", "(Ljava/lang/Object;J)I"⟩
def dkwJ21_getIntUnaligned_3 : List UInt8 := [43, 32, 20, 1, 93, 97, 182, 0, 39, 184, 2, 211, 172]
abbrev dktJ21_getIntUnaligned_3 : List UInt8 := dkwJ21_getIntUnaligned_3 ++ []
def dkwJ21_getIntUnaligned_2 : List UInt8 := [43, 32, 182, 0, 39, 42, 43, 32, 10, 97, 182, 0, 39, 42, 43, 32, 20, 0, 203, 97, 182, 0, 39, 42]
abbrev dktJ21_getIntUnaligned_2 : List UInt8 := dkwJ21_getIntUnaligned_2 ++ dktJ21_getIntUnaligned_3
def dkwJ21_getIntUnaligned_1 : List UInt8 := [154, 0, 23, 42, 43, 32, 182, 0, 47, 42, 43, 32, 20, 0, 203, 97, 182, 0, 47, 184, 2, 207, 172, 42]
abbrev dktJ21_getIntUnaligned_1 : List UInt8 := dkwJ21_getIntUnaligned_1 ++ dktJ21_getIntUnaligned_2
def dkwJ21_getIntUnaligned_0 : List UInt8 := [32, 20, 1, 93, 127, 9, 148, 154, 0, 10, 42, 43, 32, 182, 0, 17, 172, 32, 10, 127, 9, 148]
abbrev dktJ21_getIntUnaligned_0 : List UInt8 := dkwJ21_getIntUnaligned_0 ++ dktJ21_getIntUnaligned_1
theorem dksJ21_getIntUnaligned_0 : cJ21_getIntUnaligned.data.toList.drop 0 = dktJ21_getIntUnaligned_0 := by decide +kernel
theorem dksJ21_getIntUnaligned_1 : cJ21_getIntUnaligned.data.toList.drop 22 = dktJ21_getIntUnaligned_1 := dk_seg dksJ21_getIntUnaligned_0 22 rfl rfl
theorem dksJ21_getIntUnaligned_2 : cJ21_getIntUnaligned.data.toList.drop 46 = dktJ21_getIntUnaligned_2 := dk_seg dksJ21_getIntUnaligned_1 24 rfl rfl
theorem dksJ21_getIntUnaligned_3 : cJ21_getIntUnaligned.data.toList.drop 70 = dktJ21_getIntUnaligned_3 := dk_seg dksJ21_getIntUnaligned_2 24 rfl rfl
theorem dJ21_getIntUnaligned_0 : decode cJ21_getIntUnaligned 0 = .ok (.lload_n 2, 1) := dk_32 (dk_at dksJ21_getIntUnaligned_0 0 rfl rfl)
theorem dJ21_getIntUnaligned_1 : decode cJ21_getIntUnaligned 1 = .ok (.ldc2_w 349, 3) := dk_20 1 93 (dk_at dksJ21_getIntUnaligned_0 1 rfl rfl)
theorem dJ21_getIntUnaligned_4 : decode cJ21_getIntUnaligned 4 = .ok (.land, 1) := dk_127 (dk_at dksJ21_getIntUnaligned_0 4 rfl rfl)
theorem dJ21_getIntUnaligned_5 : decode cJ21_getIntUnaligned 5 = .ok (.lconst 0, 1) := dk_9 (dk_at dksJ21_getIntUnaligned_0 5 rfl rfl)
theorem dJ21_getIntUnaligned_6 : decode cJ21_getIntUnaligned 6 = .ok (.lcmp, 1) := dk_148 (dk_at dksJ21_getIntUnaligned_0 6 rfl rfl)
theorem dJ21_getIntUnaligned_7 : decode cJ21_getIntUnaligned 7 = .ok (.ifCond .ne 10, 3) := dk_154 0 10 (dk_at dksJ21_getIntUnaligned_0 7 rfl rfl)
theorem dJ21_getIntUnaligned_10 : decode cJ21_getIntUnaligned 10 = .ok (.aload_n 0, 1) := dk_42 (dk_at dksJ21_getIntUnaligned_0 10 rfl rfl)
theorem dJ21_getIntUnaligned_11 : decode cJ21_getIntUnaligned 11 = .ok (.aload_n 1, 1) := dk_43 (dk_at dksJ21_getIntUnaligned_0 11 rfl rfl)
theorem dJ21_getIntUnaligned_12 : decode cJ21_getIntUnaligned 12 = .ok (.lload_n 2, 1) := dk_32 (dk_at dksJ21_getIntUnaligned_0 12 rfl rfl)
theorem dJ21_getIntUnaligned_13 : decode cJ21_getIntUnaligned 13 = .ok (.invokevirtual 17, 3) := dk_182 0 17 (dk_at dksJ21_getIntUnaligned_0 13 rfl rfl)
theorem dJ21_getIntUnaligned_16 : decode cJ21_getIntUnaligned 16 = .ok (.ireturn, 1) := dk_172 (dk_at dksJ21_getIntUnaligned_0 16 rfl rfl)
theorem dJ21_getIntUnaligned_17 : decode cJ21_getIntUnaligned 17 = .ok (.lload_n 2, 1) := dk_32 (dk_at dksJ21_getIntUnaligned_0 17 rfl rfl)
theorem dJ21_getIntUnaligned_18 : decode cJ21_getIntUnaligned 18 = .ok (.lconst 1, 1) := dk_10 (dk_at dksJ21_getIntUnaligned_0 18 rfl rfl)
theorem dJ21_getIntUnaligned_19 : decode cJ21_getIntUnaligned 19 = .ok (.land, 1) := dk_127 (dk_at dksJ21_getIntUnaligned_0 19 rfl rfl)
theorem dJ21_getIntUnaligned_20 : decode cJ21_getIntUnaligned 20 = .ok (.lconst 0, 1) := dk_9 (dk_at dksJ21_getIntUnaligned_0 20 rfl rfl)
theorem dJ21_getIntUnaligned_21 : decode cJ21_getIntUnaligned 21 = .ok (.lcmp, 1) := dk_148 (dk_at dksJ21_getIntUnaligned_0 21 rfl rfl)
theorem dJ21_getIntUnaligned_22 : decode cJ21_getIntUnaligned 22 = .ok (.ifCond .ne 23, 3) := dk_154 0 23 (dk_at dksJ21_getIntUnaligned_1 0 rfl rfl)
theorem dJ21_getIntUnaligned_25 : decode cJ21_getIntUnaligned 25 = .ok (.aload_n 0, 1) := dk_42 (dk_at dksJ21_getIntUnaligned_1 3 rfl rfl)
theorem dJ21_getIntUnaligned_26 : decode cJ21_getIntUnaligned 26 = .ok (.aload_n 1, 1) := dk_43 (dk_at dksJ21_getIntUnaligned_1 4 rfl rfl)
theorem dJ21_getIntUnaligned_27 : decode cJ21_getIntUnaligned 27 = .ok (.lload_n 2, 1) := dk_32 (dk_at dksJ21_getIntUnaligned_1 5 rfl rfl)
theorem dJ21_getIntUnaligned_28 : decode cJ21_getIntUnaligned 28 = .ok (.invokevirtual 47, 3) := dk_182 0 47 (dk_at dksJ21_getIntUnaligned_1 6 rfl rfl)
theorem dJ21_getIntUnaligned_31 : decode cJ21_getIntUnaligned 31 = .ok (.aload_n 0, 1) := dk_42 (dk_at dksJ21_getIntUnaligned_1 9 rfl rfl)
theorem dJ21_getIntUnaligned_32 : decode cJ21_getIntUnaligned 32 = .ok (.aload_n 1, 1) := dk_43 (dk_at dksJ21_getIntUnaligned_1 10 rfl rfl)
theorem dJ21_getIntUnaligned_33 : decode cJ21_getIntUnaligned 33 = .ok (.lload_n 2, 1) := dk_32 (dk_at dksJ21_getIntUnaligned_1 11 rfl rfl)
theorem dJ21_getIntUnaligned_34 : decode cJ21_getIntUnaligned 34 = .ok (.ldc2_w 203, 3) := dk_20 0 203 (dk_at dksJ21_getIntUnaligned_1 12 rfl rfl)
theorem dJ21_getIntUnaligned_37 : decode cJ21_getIntUnaligned 37 = .ok (.ladd, 1) := dk_97 (dk_at dksJ21_getIntUnaligned_1 15 rfl rfl)
theorem dJ21_getIntUnaligned_38 : decode cJ21_getIntUnaligned 38 = .ok (.invokevirtual 47, 3) := dk_182 0 47 (dk_at dksJ21_getIntUnaligned_1 16 rfl rfl)
theorem dJ21_getIntUnaligned_41 : decode cJ21_getIntUnaligned 41 = .ok (.invokestatic 719, 3) := dk_184 2 207 (dk_at dksJ21_getIntUnaligned_1 19 rfl rfl)
theorem dJ21_getIntUnaligned_44 : decode cJ21_getIntUnaligned 44 = .ok (.ireturn, 1) := dk_172 (dk_at dksJ21_getIntUnaligned_1 22 rfl rfl)
theorem dJ21_getIntUnaligned_45 : decode cJ21_getIntUnaligned 45 = .ok (.aload_n 0, 1) := dk_42 (dk_at dksJ21_getIntUnaligned_1 23 rfl rfl)
theorem dJ21_getIntUnaligned_46 : decode cJ21_getIntUnaligned 46 = .ok (.aload_n 1, 1) := dk_43 (dk_at dksJ21_getIntUnaligned_2 0 rfl rfl)
theorem dJ21_getIntUnaligned_47 : decode cJ21_getIntUnaligned 47 = .ok (.lload_n 2, 1) := dk_32 (dk_at dksJ21_getIntUnaligned_2 1 rfl rfl)
theorem dJ21_getIntUnaligned_48 : decode cJ21_getIntUnaligned 48 = .ok (.invokevirtual 39, 3) := dk_182 0 39 (dk_at dksJ21_getIntUnaligned_2 2 rfl rfl)
theorem dJ21_getIntUnaligned_51 : decode cJ21_getIntUnaligned 51 = .ok (.aload_n 0, 1) := dk_42 (dk_at dksJ21_getIntUnaligned_2 5 rfl rfl)
theorem dJ21_getIntUnaligned_52 : decode cJ21_getIntUnaligned 52 = .ok (.aload_n 1, 1) := dk_43 (dk_at dksJ21_getIntUnaligned_2 6 rfl rfl)
theorem dJ21_getIntUnaligned_53 : decode cJ21_getIntUnaligned 53 = .ok (.lload_n 2, 1) := dk_32 (dk_at dksJ21_getIntUnaligned_2 7 rfl rfl)
theorem dJ21_getIntUnaligned_54 : decode cJ21_getIntUnaligned 54 = .ok (.lconst 1, 1) := dk_10 (dk_at dksJ21_getIntUnaligned_2 8 rfl rfl)
theorem dJ21_getIntUnaligned_55 : decode cJ21_getIntUnaligned 55 = .ok (.ladd, 1) := dk_97 (dk_at dksJ21_getIntUnaligned_2 9 rfl rfl)
theorem dJ21_getIntUnaligned_56 : decode cJ21_getIntUnaligned 56 = .ok (.invokevirtual 39, 3) := dk_182 0 39 (dk_at dksJ21_getIntUnaligned_2 10 rfl rfl)
theorem dJ21_getIntUnaligned_59 : decode cJ21_getIntUnaligned 59 = .ok (.aload_n 0, 1) := dk_42 (dk_at dksJ21_getIntUnaligned_2 13 rfl rfl)
theorem dJ21_getIntUnaligned_60 : decode cJ21_getIntUnaligned 60 = .ok (.aload_n 1, 1) := dk_43 (dk_at dksJ21_getIntUnaligned_2 14 rfl rfl)
theorem dJ21_getIntUnaligned_61 : decode cJ21_getIntUnaligned 61 = .ok (.lload_n 2, 1) := dk_32 (dk_at dksJ21_getIntUnaligned_2 15 rfl rfl)
theorem dJ21_getIntUnaligned_62 : decode cJ21_getIntUnaligned 62 = .ok (.ldc2_w 203, 3) := dk_20 0 203 (dk_at dksJ21_getIntUnaligned_2 16 rfl rfl)
theorem dJ21_getIntUnaligned_65 : decode cJ21_getIntUnaligned 65 = .ok (.ladd, 1) := dk_97 (dk_at dksJ21_getIntUnaligned_2 19 rfl rfl)
theorem dJ21_getIntUnaligned_66 : decode cJ21_getIntUnaligned 66 = .ok (.invokevirtual 39, 3) := dk_182 0 39 (dk_at dksJ21_getIntUnaligned_2 20 rfl rfl)
theorem dJ21_getIntUnaligned_69 : decode cJ21_getIntUnaligned 69 = .ok (.aload_n 0, 1) := dk_42 (dk_at dksJ21_getIntUnaligned_2 23 rfl rfl)
theorem dJ21_getIntUnaligned_70 : decode cJ21_getIntUnaligned 70 = .ok (.aload_n 1, 1) := dk_43 (dk_at dksJ21_getIntUnaligned_3 0 rfl rfl)
theorem dJ21_getIntUnaligned_71 : decode cJ21_getIntUnaligned 71 = .ok (.lload_n 2, 1) := dk_32 (dk_at dksJ21_getIntUnaligned_3 1 rfl rfl)
theorem dJ21_getIntUnaligned_72 : decode cJ21_getIntUnaligned 72 = .ok (.ldc2_w 349, 3) := dk_20 1 93 (dk_at dksJ21_getIntUnaligned_3 2 rfl rfl)
theorem dJ21_getIntUnaligned_75 : decode cJ21_getIntUnaligned 75 = .ok (.ladd, 1) := dk_97 (dk_at dksJ21_getIntUnaligned_3 5 rfl rfl)
theorem dJ21_getIntUnaligned_76 : decode cJ21_getIntUnaligned 76 = .ok (.invokevirtual 39, 3) := dk_182 0 39 (dk_at dksJ21_getIntUnaligned_3 6 rfl rfl)
theorem dJ21_getIntUnaligned_79 : decode cJ21_getIntUnaligned 79 = .ok (.invokestatic 723, 3) := dk_184 2 211 (dk_at dksJ21_getIntUnaligned_3 9 rfl rfl)
theorem dJ21_getIntUnaligned_82 : decode cJ21_getIntUnaligned 82 = .ok (.ireturn, 1) := dk_172 (dk_at dksJ21_getIntUnaligned_3 12 rfl rfl)
abbrev cJ21_makeInt : ByteArray := prog_76_method_354_code
def yJ21_makeInt : MethodName := ⟨RJ21, "makeInt", "(SS)I"⟩
def dkwJ21_makeInt_1 : List UInt8 := [172]
abbrev dktJ21_makeInt_1 : List UInt8 := dkwJ21_makeInt_1 ++ []
def dkwJ21_makeInt_0 : List UInt8 := [26, 184, 3, 24, 16, 16, 3, 184, 3, 16, 120, 27, 184, 3, 24, 16, 16, 16, 16, 184, 3, 16, 120, 128]
abbrev dktJ21_makeInt_0 : List UInt8 := dkwJ21_makeInt_0 ++ dktJ21_makeInt_1
theorem dksJ21_makeInt_0 : cJ21_makeInt.data.toList.drop 0 = dktJ21_makeInt_0 := by decide +kernel
theorem dksJ21_makeInt_1 : cJ21_makeInt.data.toList.drop 24 = dktJ21_makeInt_1 := dk_seg dksJ21_makeInt_0 24 rfl rfl
theorem dJ21_makeInt_0 : decode cJ21_makeInt 0 = .ok (.iload_n 0, 1) := dk_26 (dk_at dksJ21_makeInt_0 0 rfl rfl)
theorem dJ21_makeInt_1 : decode cJ21_makeInt 1 = .ok (.invokestatic 792, 3) := dk_184 3 24 (dk_at dksJ21_makeInt_0 1 rfl rfl)
theorem dJ21_makeInt_4 : decode cJ21_makeInt 4 = .ok (.bipush 16, 2) := dk_16 16 (dk_at dksJ21_makeInt_0 4 rfl rfl)
theorem dJ21_makeInt_6 : decode cJ21_makeInt 6 = .ok (.iconst 0, 1) := dk_3 (dk_at dksJ21_makeInt_0 6 rfl rfl)
theorem dJ21_makeInt_7 : decode cJ21_makeInt 7 = .ok (.invokestatic 784, 3) := dk_184 3 16 (dk_at dksJ21_makeInt_0 7 rfl rfl)
theorem dJ21_makeInt_10 : decode cJ21_makeInt 10 = .ok (.ishl, 1) := dk_120 (dk_at dksJ21_makeInt_0 10 rfl rfl)
theorem dJ21_makeInt_11 : decode cJ21_makeInt 11 = .ok (.iload_n 1, 1) := dk_27 (dk_at dksJ21_makeInt_0 11 rfl rfl)
theorem dJ21_makeInt_12 : decode cJ21_makeInt 12 = .ok (.invokestatic 792, 3) := dk_184 3 24 (dk_at dksJ21_makeInt_0 12 rfl rfl)
theorem dJ21_makeInt_15 : decode cJ21_makeInt 15 = .ok (.bipush 16, 2) := dk_16 16 (dk_at dksJ21_makeInt_0 15 rfl rfl)
theorem dJ21_makeInt_17 : decode cJ21_makeInt 17 = .ok (.bipush 16, 2) := dk_16 16 (dk_at dksJ21_makeInt_0 17 rfl rfl)
theorem dJ21_makeInt_19 : decode cJ21_makeInt 19 = .ok (.invokestatic 784, 3) := dk_184 3 16 (dk_at dksJ21_makeInt_0 19 rfl rfl)
theorem dJ21_makeInt_22 : decode cJ21_makeInt 22 = .ok (.ishl, 1) := dk_120 (dk_at dksJ21_makeInt_0 22 rfl rfl)
theorem dJ21_makeInt_23 : decode cJ21_makeInt 23 = .ok (.ior, 1) := dk_128 (dk_at dksJ21_makeInt_0 23 rfl rfl)
theorem dJ21_makeInt_24 : decode cJ21_makeInt 24 = .ok (.ireturn, 1) := dk_172 (dk_at dksJ21_makeInt_1 0 rfl rfl)
abbrev cJ21_toUnsignedInt : ByteArray := prog_76_method_367_code
def yJ21_toUnsignedInt : MethodName := ⟨RJ21, "toUnsignedInt", "(S)I"⟩
def dkwJ21_toUnsignedInt_0 : List UInt8 := [26, 19, 1, 118, 126, 172]
abbrev dktJ21_toUnsignedInt_0 : List UInt8 := dkwJ21_toUnsignedInt_0 ++ []
theorem dksJ21_toUnsignedInt_0 : cJ21_toUnsignedInt.data.toList.drop 0 = dktJ21_toUnsignedInt_0 := by decide +kernel
theorem dJ21_toUnsignedInt_0 : decode cJ21_toUnsignedInt 0 = .ok (.iload_n 0, 1) := dk_26 (dk_at dksJ21_toUnsignedInt_0 0 rfl rfl)
theorem dJ21_toUnsignedInt_1 : decode cJ21_toUnsignedInt 1 = .ok (.ldc_w 374, 3) := dk_19 1 118 (dk_at dksJ21_toUnsignedInt_0 1 rfl rfl)
theorem dJ21_toUnsignedInt_4 : decode cJ21_toUnsignedInt 4 = .ok (.iand, 1) := dk_126 (dk_at dksJ21_toUnsignedInt_0 4 rfl rfl)
theorem dJ21_toUnsignedInt_5 : decode cJ21_toUnsignedInt 5 = .ok (.ireturn, 1) := dk_172 (dk_at dksJ21_toUnsignedInt_0 5 rfl rfl)
abbrev cJ21_makeInt_2 : ByteArray := prog_76_method_355_code
def yJ21_makeInt_2 : MethodName := ⟨RJ21, "makeInt", "(BBBB)I"⟩
def dkwJ21_makeInt_2_2 : List UInt8 := [120, 128, 172]
abbrev dktJ21_makeInt_2_2 : List UInt8 := dkwJ21_makeInt_2_2 ++ []
def dkwJ21_makeInt_2_1 : List UInt8 := [28, 184, 3, 28, 16, 24, 16, 16, 184, 3, 16, 120, 128, 29, 184, 3, 28, 16, 24, 16, 24, 184, 3, 16]
abbrev dktJ21_makeInt_2_1 : List UInt8 := dkwJ21_makeInt_2_1 ++ dktJ21_makeInt_2_2
def dkwJ21_makeInt_2_0 : List UInt8 := [26, 184, 3, 28, 16, 24, 3, 184, 3, 16, 120, 27, 184, 3, 28, 16, 24, 16, 8, 184, 3, 16, 120, 128]
abbrev dktJ21_makeInt_2_0 : List UInt8 := dkwJ21_makeInt_2_0 ++ dktJ21_makeInt_2_1
theorem dksJ21_makeInt_2_0 : cJ21_makeInt_2.data.toList.drop 0 = dktJ21_makeInt_2_0 := by decide +kernel
theorem dksJ21_makeInt_2_1 : cJ21_makeInt_2.data.toList.drop 24 = dktJ21_makeInt_2_1 := dk_seg dksJ21_makeInt_2_0 24 rfl rfl
theorem dksJ21_makeInt_2_2 : cJ21_makeInt_2.data.toList.drop 48 = dktJ21_makeInt_2_2 := dk_seg dksJ21_makeInt_2_1 24 rfl rfl
theorem dJ21_makeInt_2_0 : decode cJ21_makeInt_2 0 = .ok (.iload_n 0, 1) := dk_26 (dk_at dksJ21_makeInt_2_0 0 rfl rfl)
theorem dJ21_makeInt_2_1 : decode cJ21_makeInt_2 1 = .ok (.invokestatic 796, 3) := dk_184 3 28 (dk_at dksJ21_makeInt_2_0 1 rfl rfl)
theorem dJ21_makeInt_2_4 : decode cJ21_makeInt_2 4 = .ok (.bipush 24, 2) := dk_16 24 (dk_at dksJ21_makeInt_2_0 4 rfl rfl)
theorem dJ21_makeInt_2_6 : decode cJ21_makeInt_2 6 = .ok (.iconst 0, 1) := dk_3 (dk_at dksJ21_makeInt_2_0 6 rfl rfl)
theorem dJ21_makeInt_2_7 : decode cJ21_makeInt_2 7 = .ok (.invokestatic 784, 3) := dk_184 3 16 (dk_at dksJ21_makeInt_2_0 7 rfl rfl)
theorem dJ21_makeInt_2_10 : decode cJ21_makeInt_2 10 = .ok (.ishl, 1) := dk_120 (dk_at dksJ21_makeInt_2_0 10 rfl rfl)
theorem dJ21_makeInt_2_11 : decode cJ21_makeInt_2 11 = .ok (.iload_n 1, 1) := dk_27 (dk_at dksJ21_makeInt_2_0 11 rfl rfl)
theorem dJ21_makeInt_2_12 : decode cJ21_makeInt_2 12 = .ok (.invokestatic 796, 3) := dk_184 3 28 (dk_at dksJ21_makeInt_2_0 12 rfl rfl)
theorem dJ21_makeInt_2_15 : decode cJ21_makeInt_2 15 = .ok (.bipush 24, 2) := dk_16 24 (dk_at dksJ21_makeInt_2_0 15 rfl rfl)
theorem dJ21_makeInt_2_17 : decode cJ21_makeInt_2 17 = .ok (.bipush 8, 2) := dk_16 8 (dk_at dksJ21_makeInt_2_0 17 rfl rfl)
theorem dJ21_makeInt_2_19 : decode cJ21_makeInt_2 19 = .ok (.invokestatic 784, 3) := dk_184 3 16 (dk_at dksJ21_makeInt_2_0 19 rfl rfl)
theorem dJ21_makeInt_2_22 : decode cJ21_makeInt_2 22 = .ok (.ishl, 1) := dk_120 (dk_at dksJ21_makeInt_2_0 22 rfl rfl)
theorem dJ21_makeInt_2_23 : decode cJ21_makeInt_2 23 = .ok (.ior, 1) := dk_128 (dk_at dksJ21_makeInt_2_0 23 rfl rfl)
theorem dJ21_makeInt_2_24 : decode cJ21_makeInt_2 24 = .ok (.iload_n 2, 1) := dk_28 (dk_at dksJ21_makeInt_2_1 0 rfl rfl)
theorem dJ21_makeInt_2_25 : decode cJ21_makeInt_2 25 = .ok (.invokestatic 796, 3) := dk_184 3 28 (dk_at dksJ21_makeInt_2_1 1 rfl rfl)
theorem dJ21_makeInt_2_28 : decode cJ21_makeInt_2 28 = .ok (.bipush 24, 2) := dk_16 24 (dk_at dksJ21_makeInt_2_1 4 rfl rfl)
theorem dJ21_makeInt_2_30 : decode cJ21_makeInt_2 30 = .ok (.bipush 16, 2) := dk_16 16 (dk_at dksJ21_makeInt_2_1 6 rfl rfl)
theorem dJ21_makeInt_2_32 : decode cJ21_makeInt_2 32 = .ok (.invokestatic 784, 3) := dk_184 3 16 (dk_at dksJ21_makeInt_2_1 8 rfl rfl)
theorem dJ21_makeInt_2_35 : decode cJ21_makeInt_2 35 = .ok (.ishl, 1) := dk_120 (dk_at dksJ21_makeInt_2_1 11 rfl rfl)
theorem dJ21_makeInt_2_36 : decode cJ21_makeInt_2 36 = .ok (.ior, 1) := dk_128 (dk_at dksJ21_makeInt_2_1 12 rfl rfl)
theorem dJ21_makeInt_2_37 : decode cJ21_makeInt_2 37 = .ok (.iload_n 3, 1) := dk_29 (dk_at dksJ21_makeInt_2_1 13 rfl rfl)
theorem dJ21_makeInt_2_38 : decode cJ21_makeInt_2 38 = .ok (.invokestatic 796, 3) := dk_184 3 28 (dk_at dksJ21_makeInt_2_1 14 rfl rfl)
theorem dJ21_makeInt_2_41 : decode cJ21_makeInt_2 41 = .ok (.bipush 24, 2) := dk_16 24 (dk_at dksJ21_makeInt_2_1 17 rfl rfl)
theorem dJ21_makeInt_2_43 : decode cJ21_makeInt_2 43 = .ok (.bipush 24, 2) := dk_16 24 (dk_at dksJ21_makeInt_2_1 19 rfl rfl)
theorem dJ21_makeInt_2_45 : decode cJ21_makeInt_2 45 = .ok (.invokestatic 784, 3) := dk_184 3 16 (dk_at dksJ21_makeInt_2_1 21 rfl rfl)
theorem dJ21_makeInt_2_48 : decode cJ21_makeInt_2 48 = .ok (.ishl, 1) := dk_120 (dk_at dksJ21_makeInt_2_2 0 rfl rfl)
theorem dJ21_makeInt_2_49 : decode cJ21_makeInt_2 49 = .ok (.ior, 1) := dk_128 (dk_at dksJ21_makeInt_2_2 1 rfl rfl)
theorem dJ21_makeInt_2_50 : decode cJ21_makeInt_2 50 = .ok (.ireturn, 1) := dk_172 (dk_at dksJ21_makeInt_2_2 2 rfl rfl)
abbrev cJ21_toUnsignedInt_2 : ByteArray := prog_76_method_366_code
def yJ21_toUnsignedInt_2 : MethodName := ⟨RJ21, "toUnsignedInt", "(B)I"⟩
def dkwJ21_toUnsignedInt_2_0 : List UInt8 := [26, 17, 0, 255, 126, 172]
abbrev dktJ21_toUnsignedInt_2_0 : List UInt8 := dkwJ21_toUnsignedInt_2_0 ++ []
theorem dksJ21_toUnsignedInt_2_0 : cJ21_toUnsignedInt_2.data.toList.drop 0 = dktJ21_toUnsignedInt_2_0 := by decide +kernel
theorem dJ21_toUnsignedInt_2_0 : decode cJ21_toUnsignedInt_2 0 = .ok (.iload_n 0, 1) := dk_26 (dk_at dksJ21_toUnsignedInt_2_0 0 rfl rfl)
theorem dJ21_toUnsignedInt_2_1 : decode cJ21_toUnsignedInt_2 1 = .ok (.sipush 255, 3) := dk_17 0 255 (dk_at dksJ21_toUnsignedInt_2_0 1 rfl rfl)
theorem dJ21_toUnsignedInt_2_4 : decode cJ21_toUnsignedInt_2 4 = .ok (.iand, 1) := dk_126 (dk_at dksJ21_toUnsignedInt_2_0 4 rfl rfl)
theorem dJ21_toUnsignedInt_2_5 : decode cJ21_toUnsignedInt_2 5 = .ok (.ireturn, 1) := dk_172 (dk_at dksJ21_toUnsignedInt_2_0 5 rfl rfl)
theorem q101 : (Jvm.Cond.initialized "jdk/internal/misc/Unsafe") ∈ lw_all := lw_g (lw_at lw_m1 33 rfl) rfl
theorem q801 : (Jvm.Cond.selects "jdk/internal/misc/Unsafe" ({ cls := "java/lang/Object", name := "getClass", desc := "()Ljava/lang/Class;" } : Jvm.MethodName) ({ cls := "java/lang/Object", name := "getClass", desc := "()Ljava/lang/Class;" } : Jvm.MethodName)) ∈ lw_all := lw_g (lw_at lw_m4 13 rfl) rfl
theorem q896 : (Jvm.Cond.laysStatic "jdk/internal/misc/Unsafe" "ARRAY_BYTE_BASE_OFFSET" "I") ∈ lw_tbl := lw_at lw_m4 108 rfl
theorem q907 : (Jvm.Cond.instanceMethod ({ cls := "jdk/internal/misc/Unsafe", name := "getLongUnaligned", desc := "(Ljava/lang/Object;J)J" } : Jvm.MethodName)) ∈ lw_all := lw_g (lw_at lw_m4 119 rfl) rfl
theorem q908 : (Jvm.Cond.selects "jdk/internal/misc/Unsafe" ({ cls := "jdk/internal/misc/Unsafe", name := "getLongUnaligned", desc := "(Ljava/lang/Object;J)J" } : Jvm.MethodName) ({ cls := "jdk/internal/misc/Unsafe", name := "getLongUnaligned", desc := "(Ljava/lang/Object;J)J" } : Jvm.MethodName)) ∈ lw_all := lw_g (lw_at lw_m4 120 rfl) rfl
theorem q909 : (Jvm.Cond.code ({ cls := "jdk/internal/misc/Unsafe", name := "getLongUnaligned", desc := "(Ljava/lang/Object;J)J" } : Jvm.MethodName) prog_76_method_334_code (4 : Nat) (Option.some Jvm.ClassFile.FieldType.long)) ∈ lw_all := lw_g (lw_at lw_m4 121 rfl) rfl
theorem q910 : (Jvm.Cond.constantLong "jdk/internal/misc/Unsafe" (696 : Nat) (7 : Int64)) ∈ lw_all := lw_g (lw_at lw_m4 122 rfl) rfl
theorem q911 : (Jvm.Cond.methodLink "jdk/internal/misc/Unsafe" (27 : Nat) ({ cls := "jdk/internal/misc/Unsafe", name := "getLong", desc := "(Ljava/lang/Object;J)J" } : Jvm.MethodName)) ∈ lw_all := lw_g (lw_at lw_m4 123 rfl) rfl
theorem q912 : (Jvm.Cond.instanceMethod ({ cls := "jdk/internal/misc/Unsafe", name := "getLong", desc := "(Ljava/lang/Object;J)J" } : Jvm.MethodName)) ∈ lw_all := lw_g (lw_at lw_m4 124 rfl) rfl
theorem q913 : (Jvm.Cond.selects "jdk/internal/misc/Unsafe" ({ cls := "jdk/internal/misc/Unsafe", name := "getLong", desc := "(Ljava/lang/Object;J)J" } : Jvm.MethodName) ({ cls := "jdk/internal/misc/Unsafe", name := "getLong", desc := "(Ljava/lang/Object;J)J" } : Jvm.MethodName)) ∈ lw_all := lw_g (lw_at lw_m4 125 rfl) rfl
theorem q914 : (Jvm.Cond.native ({ cls := "jdk/internal/misc/Unsafe", name := "getLong", desc := "(Ljava/lang/Object;J)J" } : Jvm.MethodName)) ∈ lw_all := lw_g (lw_at lw_m4 126 rfl) rfl
theorem q915 : (Jvm.Cond.constantLong "jdk/internal/misc/Unsafe" (349 : Nat) (3 : Int64)) ∈ lw_all := lw_g (lw_at lw_m4 127 rfl) rfl
theorem q916 : (Jvm.Cond.methodLink "jdk/internal/misc/Unsafe" (17 : Nat) ({ cls := "jdk/internal/misc/Unsafe", name := "getInt", desc := "(Ljava/lang/Object;J)I" } : Jvm.MethodName)) ∈ lw_all := lw_g (lw_at lw_m4 128 rfl) rfl
theorem q917 : (Jvm.Cond.instanceMethod ({ cls := "jdk/internal/misc/Unsafe", name := "getInt", desc := "(Ljava/lang/Object;J)I" } : Jvm.MethodName)) ∈ lw_all := lw_g (lw_at lw_m4 129 rfl) rfl
theorem q918 : (Jvm.Cond.selects "jdk/internal/misc/Unsafe" ({ cls := "jdk/internal/misc/Unsafe", name := "getInt", desc := "(Ljava/lang/Object;J)I" } : Jvm.MethodName) ({ cls := "jdk/internal/misc/Unsafe", name := "getInt", desc := "(Ljava/lang/Object;J)I" } : Jvm.MethodName)) ∈ lw_all := lw_g (lw_at lw_m4 130 rfl) rfl
theorem q919 : (Jvm.Cond.native ({ cls := "jdk/internal/misc/Unsafe", name := "getInt", desc := "(Ljava/lang/Object;J)I" } : Jvm.MethodName)) ∈ lw_all := lw_g (lw_at lw_m4 131 rfl) rfl
theorem q920 : (Jvm.Cond.constantLong "jdk/internal/misc/Unsafe" (205 : Nat) (4 : Int64)) ∈ lw_all := lw_g (lw_at lw_m4 132 rfl) rfl
theorem q921 : (Jvm.Cond.methodLink "jdk/internal/misc/Unsafe" (698 : Nat) ({ cls := "jdk/internal/misc/Unsafe", name := "makeLong", desc := "(II)J" } : Jvm.MethodName)) ∈ lw_all := lw_g (lw_at lw_m4 133 rfl) rfl
theorem q922 : (Jvm.Cond.static ({ cls := "jdk/internal/misc/Unsafe", name := "makeLong", desc := "(II)J" } : Jvm.MethodName)) ∈ lw_all := lw_g (lw_at lw_m4 134 rfl) rfl
theorem q923 : (Jvm.Cond.code ({ cls := "jdk/internal/misc/Unsafe", name := "makeLong", desc := "(II)J" } : Jvm.MethodName) prog_76_method_353_code (2 : Nat) (Option.some Jvm.ClassFile.FieldType.long)) ∈ lw_all := lw_g (lw_at lw_m4 135 rfl) rfl
theorem q924 : (Jvm.Cond.methodLink "jdk/internal/misc/Unsafe" (791 : Nat) ({ cls := "jdk/internal/misc/Unsafe", name := "toUnsignedLong", desc := "(I)J" } : Jvm.MethodName)) ∈ lw_all := lw_g (lw_at lw_m4 136 rfl) rfl
theorem q925 : (Jvm.Cond.static ({ cls := "jdk/internal/misc/Unsafe", name := "toUnsignedLong", desc := "(I)J" } : Jvm.MethodName)) ∈ lw_all := lw_g (lw_at lw_m4 137 rfl) rfl
theorem q926 : (Jvm.Cond.code ({ cls := "jdk/internal/misc/Unsafe", name := "toUnsignedLong", desc := "(I)J" } : Jvm.MethodName) prog_76_method_370_code (1 : Nat) (Option.some Jvm.ClassFile.FieldType.long)) ∈ lw_all := lw_g (lw_at lw_m4 138 rfl) rfl
theorem q927 : (Jvm.Cond.constantLong "jdk/internal/misc/Unsafe" (812 : Nat) (4294967295 : Int64)) ∈ lw_all := lw_g (lw_at lw_m4 139 rfl) rfl
theorem q928 : (Jvm.Cond.methodLink "jdk/internal/misc/Unsafe" (784 : Nat) ({ cls := "jdk/internal/misc/Unsafe", name := "pickPos", desc := "(II)I" } : Jvm.MethodName)) ∈ lw_all := lw_g (lw_at lw_m4 140 rfl) rfl
theorem q929 : (Jvm.Cond.static ({ cls := "jdk/internal/misc/Unsafe", name := "pickPos", desc := "(II)I" } : Jvm.MethodName)) ∈ lw_all := lw_g (lw_at lw_m4 141 rfl) rfl
theorem q930 : (Jvm.Cond.code ({ cls := "jdk/internal/misc/Unsafe", name := "pickPos", desc := "(II)I" } : Jvm.MethodName) prog_76_method_350_code (2 : Nat) (Option.some Jvm.ClassFile.FieldType.int)) ∈ lw_all := lw_g (lw_at lw_m4 142 rfl) rfl
theorem q931 : (Jvm.Cond.fieldLink "jdk/internal/misc/Unsafe" (351 : Nat) "jdk/internal/misc/UnsafeConstants" "BIG_ENDIAN" "Z") ∈ lw_all := lw_g (lw_at lw_m4 143 rfl) rfl
theorem q933 : (Jvm.Cond.methodLink "jdk/internal/misc/Unsafe" (47 : Nat) ({ cls := "jdk/internal/misc/Unsafe", name := "getShort", desc := "(Ljava/lang/Object;J)S" } : Jvm.MethodName)) ∈ lw_all := lw_g (lw_at lw_m4 145 rfl) rfl
theorem q934 : (Jvm.Cond.instanceMethod ({ cls := "jdk/internal/misc/Unsafe", name := "getShort", desc := "(Ljava/lang/Object;J)S" } : Jvm.MethodName)) ∈ lw_all := lw_g (lw_at lw_m4 146 rfl) rfl
theorem q935 : (Jvm.Cond.selects "jdk/internal/misc/Unsafe" ({ cls := "jdk/internal/misc/Unsafe", name := "getShort", desc := "(Ljava/lang/Object;J)S" } : Jvm.MethodName) ({ cls := "jdk/internal/misc/Unsafe", name := "getShort", desc := "(Ljava/lang/Object;J)S" } : Jvm.MethodName)) ∈ lw_all := lw_g (lw_at lw_m4 147 rfl) rfl
theorem q936 : (Jvm.Cond.native ({ cls := "jdk/internal/misc/Unsafe", name := "getShort", desc := "(Ljava/lang/Object;J)S" } : Jvm.MethodName)) ∈ lw_all := lw_g (lw_at lw_m4 148 rfl) rfl
theorem q937 : (Jvm.Cond.constantLong "jdk/internal/misc/Unsafe" (203 : Nat) (2 : Int64)) ∈ lw_all := lw_g (lw_at lw_m4 149 rfl) rfl
theorem q938 : (Jvm.Cond.constantLong "jdk/internal/misc/Unsafe" (702 : Nat) (6 : Int64)) ∈ lw_all := lw_g (lw_at lw_m4 150 rfl) rfl
theorem q939 : (Jvm.Cond.methodLink "jdk/internal/misc/Unsafe" (704 : Nat) ({ cls := "jdk/internal/misc/Unsafe", name := "makeLong", desc := "(SSSS)J" } : Jvm.MethodName)) ∈ lw_all := lw_g (lw_at lw_m4 151 rfl) rfl
theorem q940 : (Jvm.Cond.static ({ cls := "jdk/internal/misc/Unsafe", name := "makeLong", desc := "(SSSS)J" } : Jvm.MethodName)) ∈ lw_all := lw_g (lw_at lw_m4 152 rfl) rfl
theorem q941 : (Jvm.Cond.code ({ cls := "jdk/internal/misc/Unsafe", name := "makeLong", desc := "(SSSS)J" } : Jvm.MethodName) prog_76_method_352_code (4 : Nat) (Option.some Jvm.ClassFile.FieldType.long)) ∈ lw_all := lw_g (lw_at lw_m4 153 rfl) rfl
theorem q942 : (Jvm.Cond.methodLink "jdk/internal/misc/Unsafe" (788 : Nat) ({ cls := "jdk/internal/misc/Unsafe", name := "toUnsignedLong", desc := "(S)J" } : Jvm.MethodName)) ∈ lw_all := lw_g (lw_at lw_m4 154 rfl) rfl
theorem q943 : (Jvm.Cond.static ({ cls := "jdk/internal/misc/Unsafe", name := "toUnsignedLong", desc := "(S)J" } : Jvm.MethodName)) ∈ lw_all := lw_g (lw_at lw_m4 155 rfl) rfl
theorem q944 : (Jvm.Cond.code ({ cls := "jdk/internal/misc/Unsafe", name := "toUnsignedLong", desc := "(S)J" } : Jvm.MethodName) prog_76_method_369_code (1 : Nat) (Option.some Jvm.ClassFile.FieldType.long)) ∈ lw_all := lw_g (lw_at lw_m4 156 rfl) rfl
theorem q945 : (Jvm.Cond.constantLong "jdk/internal/misc/Unsafe" (810 : Nat) (65535 : Int64)) ∈ lw_all := lw_g (lw_at lw_m4 157 rfl) rfl
theorem q946 : (Jvm.Cond.methodLink "jdk/internal/misc/Unsafe" (39 : Nat) ({ cls := "jdk/internal/misc/Unsafe", name := "getByte", desc := "(Ljava/lang/Object;J)B" } : Jvm.MethodName)) ∈ lw_all := lw_g (lw_at lw_m4 158 rfl) rfl
theorem q947 : (Jvm.Cond.instanceMethod ({ cls := "jdk/internal/misc/Unsafe", name := "getByte", desc := "(Ljava/lang/Object;J)B" } : Jvm.MethodName)) ∈ lw_all := lw_g (lw_at lw_m4 159 rfl) rfl
theorem q948 : (Jvm.Cond.selects "jdk/internal/misc/Unsafe" ({ cls := "jdk/internal/misc/Unsafe", name := "getByte", desc := "(Ljava/lang/Object;J)B" } : Jvm.MethodName) ({ cls := "jdk/internal/misc/Unsafe", name := "getByte", desc := "(Ljava/lang/Object;J)B" } : Jvm.MethodName)) ∈ lw_all := lw_g (lw_at lw_m4 160 rfl) rfl
theorem q949 : (Jvm.Cond.native ({ cls := "jdk/internal/misc/Unsafe", name := "getByte", desc := "(Ljava/lang/Object;J)B" } : Jvm.MethodName)) ∈ lw_all := lw_g (lw_at lw_m4 161 rfl) rfl
theorem q950 : (Jvm.Cond.constantLong "jdk/internal/misc/Unsafe" (707 : Nat) (5 : Int64)) ∈ lw_all := lw_g (lw_at lw_m4 162 rfl) rfl
theorem q951 : (Jvm.Cond.methodLink "jdk/internal/misc/Unsafe" (709 : Nat) ({ cls := "jdk/internal/misc/Unsafe", name := "makeLong", desc := "(BBBBBBBB)J" } : Jvm.MethodName)) ∈ lw_all := lw_g (lw_at lw_m4 163 rfl) rfl
theorem q952 : (Jvm.Cond.static ({ cls := "jdk/internal/misc/Unsafe", name := "makeLong", desc := "(BBBBBBBB)J" } : Jvm.MethodName)) ∈ lw_all := lw_g (lw_at lw_m4 164 rfl) rfl
theorem q953 : (Jvm.Cond.code ({ cls := "jdk/internal/misc/Unsafe", name := "makeLong", desc := "(BBBBBBBB)J" } : Jvm.MethodName) prog_76_method_351_code (8 : Nat) (Option.some Jvm.ClassFile.FieldType.long)) ∈ lw_all := lw_g (lw_at lw_m4 165 rfl) rfl
theorem q954 : (Jvm.Cond.methodLink "jdk/internal/misc/Unsafe" (781 : Nat) ({ cls := "jdk/internal/misc/Unsafe", name := "toUnsignedLong", desc := "(B)J" } : Jvm.MethodName)) ∈ lw_all := lw_g (lw_at lw_m4 166 rfl) rfl
theorem q955 : (Jvm.Cond.static ({ cls := "jdk/internal/misc/Unsafe", name := "toUnsignedLong", desc := "(B)J" } : Jvm.MethodName)) ∈ lw_all := lw_g (lw_at lw_m4 167 rfl) rfl
theorem q956 : (Jvm.Cond.code ({ cls := "jdk/internal/misc/Unsafe", name := "toUnsignedLong", desc := "(B)J" } : Jvm.MethodName) prog_76_method_368_code (1 : Nat) (Option.some Jvm.ClassFile.FieldType.long)) ∈ lw_all := lw_g (lw_at lw_m4 168 rfl) rfl
theorem q957 : (Jvm.Cond.constantLong "jdk/internal/misc/Unsafe" (808 : Nat) (255 : Int64)) ∈ lw_all := lw_g (lw_at lw_m4 169 rfl) rfl
theorem q978 : (Jvm.Cond.instanceMethod ({ cls := "jdk/internal/misc/Unsafe", name := "getIntUnaligned", desc := "(Ljava/lang/Object;J)I" } : Jvm.MethodName)) ∈ lw_all := lw_g (lw_at lw_m4 190 rfl) rfl
theorem q979 : (Jvm.Cond.selects "jdk/internal/misc/Unsafe" ({ cls := "jdk/internal/misc/Unsafe", name := "getIntUnaligned", desc := "(Ljava/lang/Object;J)I" } : Jvm.MethodName) ({ cls := "jdk/internal/misc/Unsafe", name := "getIntUnaligned", desc := "(Ljava/lang/Object;J)I" } : Jvm.MethodName)) ∈ lw_all := lw_g (lw_at lw_m4 191 rfl) rfl
theorem q980 : (Jvm.Cond.code ({ cls := "jdk/internal/misc/Unsafe", name := "getIntUnaligned", desc := "(Ljava/lang/Object;J)I" } : Jvm.MethodName) prog_76_method_336_code (4 : Nat) (Option.some Jvm.ClassFile.FieldType.int)) ∈ lw_all := lw_g (lw_at lw_m4 192 rfl) rfl
theorem q981 : (Jvm.Cond.methodLink "jdk/internal/misc/Unsafe" (719 : Nat) ({ cls := "jdk/internal/misc/Unsafe", name := "makeInt", desc := "(SS)I" } : Jvm.MethodName)) ∈ lw_all := lw_g (lw_at lw_m4 193 rfl) rfl
theorem q982 : (Jvm.Cond.static ({ cls := "jdk/internal/misc/Unsafe", name := "makeInt", desc := "(SS)I" } : Jvm.MethodName)) ∈ lw_all := lw_g (lw_at lw_m4 194 rfl) rfl
theorem q983 : (Jvm.Cond.code ({ cls := "jdk/internal/misc/Unsafe", name := "makeInt", desc := "(SS)I" } : Jvm.MethodName) prog_76_method_354_code (2 : Nat) (Option.some Jvm.ClassFile.FieldType.int)) ∈ lw_all := lw_g (lw_at lw_m4 195 rfl) rfl
theorem q984 : (Jvm.Cond.methodLink "jdk/internal/misc/Unsafe" (792 : Nat) ({ cls := "jdk/internal/misc/Unsafe", name := "toUnsignedInt", desc := "(S)I" } : Jvm.MethodName)) ∈ lw_all := lw_g (lw_at lw_m4 196 rfl) rfl
theorem q985 : (Jvm.Cond.static ({ cls := "jdk/internal/misc/Unsafe", name := "toUnsignedInt", desc := "(S)I" } : Jvm.MethodName)) ∈ lw_all := lw_g (lw_at lw_m4 197 rfl) rfl
theorem q986 : (Jvm.Cond.code ({ cls := "jdk/internal/misc/Unsafe", name := "toUnsignedInt", desc := "(S)I" } : Jvm.MethodName) prog_76_method_367_code (1 : Nat) (Option.some Jvm.ClassFile.FieldType.int)) ∈ lw_all := lw_g (lw_at lw_m4 198 rfl) rfl
theorem q987 : (Jvm.Cond.constant "jdk/internal/misc/Unsafe" (374 : Nat) (65535 : Int32)) ∈ lw_all := lw_g (lw_at lw_m4 199 rfl) rfl
theorem q988 : (Jvm.Cond.methodLink "jdk/internal/misc/Unsafe" (723 : Nat) ({ cls := "jdk/internal/misc/Unsafe", name := "makeInt", desc := "(BBBB)I" } : Jvm.MethodName)) ∈ lw_all := lw_g (lw_at lw_m4 200 rfl) rfl
theorem q989 : (Jvm.Cond.static ({ cls := "jdk/internal/misc/Unsafe", name := "makeInt", desc := "(BBBB)I" } : Jvm.MethodName)) ∈ lw_all := lw_g (lw_at lw_m4 201 rfl) rfl
theorem q990 : (Jvm.Cond.code ({ cls := "jdk/internal/misc/Unsafe", name := "makeInt", desc := "(BBBB)I" } : Jvm.MethodName) prog_76_method_355_code (4 : Nat) (Option.some Jvm.ClassFile.FieldType.int)) ∈ lw_all := lw_g (lw_at lw_m4 202 rfl) rfl
theorem q991 : (Jvm.Cond.methodLink "jdk/internal/misc/Unsafe" (796 : Nat) ({ cls := "jdk/internal/misc/Unsafe", name := "toUnsignedInt", desc := "(B)I" } : Jvm.MethodName)) ∈ lw_all := lw_g (lw_at lw_m4 203 rfl) rfl
theorem q992 : (Jvm.Cond.static ({ cls := "jdk/internal/misc/Unsafe", name := "toUnsignedInt", desc := "(B)I" } : Jvm.MethodName)) ∈ lw_all := lw_g (lw_at lw_m4 204 rfl) rfl
theorem q993 : (Jvm.Cond.code ({ cls := "jdk/internal/misc/Unsafe", name := "toUnsignedInt", desc := "(B)I" } : Jvm.MethodName) prog_76_method_366_code (1 : Nat) (Option.some Jvm.ClassFile.FieldType.int)) ∈ lw_all := lw_g (lw_at lw_m4 205 rfl) rfl
theorem q2377 : (Jvm.Cond.castable "jdk/internal/misc/Unsafe" "java/lang/Object") ∈ lw_tbl := lw_at lw_m10 149 rfl
/-! java/lang/Long -/
set_option maxRecDepth 100000
def RJ22 : String := "java/lang/Long"
abbrev cJ22_numberOfLeadingZeros : ByteArray := prog_28_method_48_code
def yJ22_numberOfLeadingZeros : MethodName := ⟨RJ22, "numberOfLeadingZeros", "(J)I"⟩
def dkwJ22_numberOfLeadingZeros_1 : List UInt8 := [184, 1, 52, 172]
abbrev dktJ22_numberOfLeadingZeros_1 : List UInt8 := dkwJ22_numberOfLeadingZeros_1 ++ []
def dkwJ22_numberOfLeadingZeros_0 : List UInt8 := [30, 16, 32, 125, 136, 61, 28, 154, 0, 14, 16, 32, 30, 136, 184, 1, 52, 96, 167, 0, 7, 28]
abbrev dktJ22_numberOfLeadingZeros_0 : List UInt8 := dkwJ22_numberOfLeadingZeros_0 ++ dktJ22_numberOfLeadingZeros_1
theorem dksJ22_numberOfLeadingZeros_0 : cJ22_numberOfLeadingZeros.data.toList.drop 0 = dktJ22_numberOfLeadingZeros_0 := by decide +kernel
theorem dksJ22_numberOfLeadingZeros_1 : cJ22_numberOfLeadingZeros.data.toList.drop 22 = dktJ22_numberOfLeadingZeros_1 := dk_seg dksJ22_numberOfLeadingZeros_0 22 rfl rfl
theorem dJ22_numberOfLeadingZeros_0 : decode cJ22_numberOfLeadingZeros 0 = .ok (.lload_n 0, 1) := dk_30 (dk_at dksJ22_numberOfLeadingZeros_0 0 rfl rfl)
theorem dJ22_numberOfLeadingZeros_1 : decode cJ22_numberOfLeadingZeros 1 = .ok (.bipush 32, 2) := dk_16 32 (dk_at dksJ22_numberOfLeadingZeros_0 1 rfl rfl)
theorem dJ22_numberOfLeadingZeros_3 : decode cJ22_numberOfLeadingZeros 3 = .ok (.lushr, 1) := dk_125 (dk_at dksJ22_numberOfLeadingZeros_0 3 rfl rfl)
theorem dJ22_numberOfLeadingZeros_4 : decode cJ22_numberOfLeadingZeros 4 = .ok (.l2i, 1) := dk_136 (dk_at dksJ22_numberOfLeadingZeros_0 4 rfl rfl)
theorem dJ22_numberOfLeadingZeros_5 : decode cJ22_numberOfLeadingZeros 5 = .ok (.istore_n 2, 1) := dk_61 (dk_at dksJ22_numberOfLeadingZeros_0 5 rfl rfl)
theorem dJ22_numberOfLeadingZeros_6 : decode cJ22_numberOfLeadingZeros 6 = .ok (.iload_n 2, 1) := dk_28 (dk_at dksJ22_numberOfLeadingZeros_0 6 rfl rfl)
theorem dJ22_numberOfLeadingZeros_7 : decode cJ22_numberOfLeadingZeros 7 = .ok (.ifCond .ne 14, 3) := dk_154 0 14 (dk_at dksJ22_numberOfLeadingZeros_0 7 rfl rfl)
theorem dJ22_numberOfLeadingZeros_10 : decode cJ22_numberOfLeadingZeros 10 = .ok (.bipush 32, 2) := dk_16 32 (dk_at dksJ22_numberOfLeadingZeros_0 10 rfl rfl)
theorem dJ22_numberOfLeadingZeros_12 : decode cJ22_numberOfLeadingZeros 12 = .ok (.lload_n 0, 1) := dk_30 (dk_at dksJ22_numberOfLeadingZeros_0 12 rfl rfl)
theorem dJ22_numberOfLeadingZeros_13 : decode cJ22_numberOfLeadingZeros 13 = .ok (.l2i, 1) := dk_136 (dk_at dksJ22_numberOfLeadingZeros_0 13 rfl rfl)
theorem dJ22_numberOfLeadingZeros_14 : decode cJ22_numberOfLeadingZeros 14 = .ok (.invokestatic 308, 3) := dk_184 1 52 (dk_at dksJ22_numberOfLeadingZeros_0 14 rfl rfl)
theorem dJ22_numberOfLeadingZeros_17 : decode cJ22_numberOfLeadingZeros 17 = .ok (.iadd, 1) := dk_96 (dk_at dksJ22_numberOfLeadingZeros_0 17 rfl rfl)
theorem dJ22_numberOfLeadingZeros_18 : decode cJ22_numberOfLeadingZeros 18 = .ok (.goto 7, 3) := dk_167 0 7 (dk_at dksJ22_numberOfLeadingZeros_0 18 rfl rfl)
theorem dJ22_numberOfLeadingZeros_21 : decode cJ22_numberOfLeadingZeros 21 = .ok (.iload_n 2, 1) := dk_28 (dk_at dksJ22_numberOfLeadingZeros_0 21 rfl rfl)
theorem dJ22_numberOfLeadingZeros_22 : decode cJ22_numberOfLeadingZeros 22 = .ok (.invokestatic 308, 3) := dk_184 1 52 (dk_at dksJ22_numberOfLeadingZeros_1 0 rfl rfl)
theorem dJ22_numberOfLeadingZeros_25 : decode cJ22_numberOfLeadingZeros 25 = .ok (.ireturn, 1) := dk_172 (dk_at dksJ22_numberOfLeadingZeros_1 3 rfl rfl)
abbrev cJ22_numberOfTrailingZeros : ByteArray := prog_28_method_49_code
def yJ22_numberOfTrailingZeros : MethodName := ⟨RJ22, "numberOfTrailingZeros", "(J)I"⟩
def dkwJ22_numberOfTrailingZeros_1 : List UInt8 := [184, 1, 55, 172]
abbrev dktJ22_numberOfTrailingZeros_1 : List UInt8 := dkwJ22_numberOfTrailingZeros_1 ++ []
def dkwJ22_numberOfTrailingZeros_0 : List UInt8 := [30, 136, 61, 28, 154, 0, 17, 16, 32, 30, 16, 32, 125, 136, 184, 1, 55, 96, 167, 0, 7, 28]
abbrev dktJ22_numberOfTrailingZeros_0 : List UInt8 := dkwJ22_numberOfTrailingZeros_0 ++ dktJ22_numberOfTrailingZeros_1
theorem dksJ22_numberOfTrailingZeros_0 : cJ22_numberOfTrailingZeros.data.toList.drop 0 = dktJ22_numberOfTrailingZeros_0 := by decide +kernel
theorem dksJ22_numberOfTrailingZeros_1 : cJ22_numberOfTrailingZeros.data.toList.drop 22 = dktJ22_numberOfTrailingZeros_1 := dk_seg dksJ22_numberOfTrailingZeros_0 22 rfl rfl
theorem dJ22_numberOfTrailingZeros_0 : decode cJ22_numberOfTrailingZeros 0 = .ok (.lload_n 0, 1) := dk_30 (dk_at dksJ22_numberOfTrailingZeros_0 0 rfl rfl)
theorem dJ22_numberOfTrailingZeros_1 : decode cJ22_numberOfTrailingZeros 1 = .ok (.l2i, 1) := dk_136 (dk_at dksJ22_numberOfTrailingZeros_0 1 rfl rfl)
theorem dJ22_numberOfTrailingZeros_2 : decode cJ22_numberOfTrailingZeros 2 = .ok (.istore_n 2, 1) := dk_61 (dk_at dksJ22_numberOfTrailingZeros_0 2 rfl rfl)
theorem dJ22_numberOfTrailingZeros_3 : decode cJ22_numberOfTrailingZeros 3 = .ok (.iload_n 2, 1) := dk_28 (dk_at dksJ22_numberOfTrailingZeros_0 3 rfl rfl)
theorem dJ22_numberOfTrailingZeros_4 : decode cJ22_numberOfTrailingZeros 4 = .ok (.ifCond .ne 17, 3) := dk_154 0 17 (dk_at dksJ22_numberOfTrailingZeros_0 4 rfl rfl)
theorem dJ22_numberOfTrailingZeros_7 : decode cJ22_numberOfTrailingZeros 7 = .ok (.bipush 32, 2) := dk_16 32 (dk_at dksJ22_numberOfTrailingZeros_0 7 rfl rfl)
theorem dJ22_numberOfTrailingZeros_9 : decode cJ22_numberOfTrailingZeros 9 = .ok (.lload_n 0, 1) := dk_30 (dk_at dksJ22_numberOfTrailingZeros_0 9 rfl rfl)
theorem dJ22_numberOfTrailingZeros_10 : decode cJ22_numberOfTrailingZeros 10 = .ok (.bipush 32, 2) := dk_16 32 (dk_at dksJ22_numberOfTrailingZeros_0 10 rfl rfl)
theorem dJ22_numberOfTrailingZeros_12 : decode cJ22_numberOfTrailingZeros 12 = .ok (.lushr, 1) := dk_125 (dk_at dksJ22_numberOfTrailingZeros_0 12 rfl rfl)
theorem dJ22_numberOfTrailingZeros_13 : decode cJ22_numberOfTrailingZeros 13 = .ok (.l2i, 1) := dk_136 (dk_at dksJ22_numberOfTrailingZeros_0 13 rfl rfl)
theorem dJ22_numberOfTrailingZeros_14 : decode cJ22_numberOfTrailingZeros 14 = .ok (.invokestatic 311, 3) := dk_184 1 55 (dk_at dksJ22_numberOfTrailingZeros_0 14 rfl rfl)
theorem dJ22_numberOfTrailingZeros_17 : decode cJ22_numberOfTrailingZeros 17 = .ok (.iadd, 1) := dk_96 (dk_at dksJ22_numberOfTrailingZeros_0 17 rfl rfl)
theorem dJ22_numberOfTrailingZeros_18 : decode cJ22_numberOfTrailingZeros 18 = .ok (.goto 7, 3) := dk_167 0 7 (dk_at dksJ22_numberOfTrailingZeros_0 18 rfl rfl)
theorem dJ22_numberOfTrailingZeros_21 : decode cJ22_numberOfTrailingZeros 21 = .ok (.iload_n 2, 1) := dk_28 (dk_at dksJ22_numberOfTrailingZeros_0 21 rfl rfl)
theorem dJ22_numberOfTrailingZeros_22 : decode cJ22_numberOfTrailingZeros 22 = .ok (.invokestatic 311, 3) := dk_184 1 55 (dk_at dksJ22_numberOfTrailingZeros_1 0 rfl rfl)
theorem dJ22_numberOfTrailingZeros_25 : decode cJ22_numberOfTrailingZeros 25 = .ok (.ireturn, 1) := dk_172 (dk_at dksJ22_numberOfTrailingZeros_1 3 rfl rfl)
theorem q103 : (Jvm.Cond.initialized "java/lang/Long") ∈ lw_all := lw_g (lw_at lw_m1 35 rfl) rfl
theorem q961 : (Jvm.Cond.static ({ cls := "java/lang/Long", name := "numberOfLeadingZeros", desc := "(J)I" } : Jvm.MethodName)) ∈ lw_all := lw_g (lw_at lw_m4 173 rfl) rfl
theorem q962 : (Jvm.Cond.code ({ cls := "java/lang/Long", name := "numberOfLeadingZeros", desc := "(J)I" } : Jvm.MethodName) prog_28_method_48_code (3 : Nat) (Option.some Jvm.ClassFile.FieldType.int)) ∈ lw_all := lw_g (lw_at lw_m4 174 rfl) rfl
theorem q963 : (Jvm.Cond.methodLink "java/lang/Long" (308 : Nat) ({ cls := "java/lang/Integer", name := "numberOfLeadingZeros", desc := "(I)I" } : Jvm.MethodName)) ∈ lw_all := lw_g (lw_at lw_m4 175 rfl) rfl
theorem q970 : (Jvm.Cond.static ({ cls := "java/lang/Long", name := "numberOfTrailingZeros", desc := "(J)I" } : Jvm.MethodName)) ∈ lw_all := lw_g (lw_at lw_m4 182 rfl) rfl
theorem q971 : (Jvm.Cond.code ({ cls := "java/lang/Long", name := "numberOfTrailingZeros", desc := "(J)I" } : Jvm.MethodName) prog_28_method_49_code (3 : Nat) (Option.some Jvm.ClassFile.FieldType.int)) ∈ lw_all := lw_g (lw_at lw_m4 183 rfl) rfl
theorem q972 : (Jvm.Cond.methodLink "java/lang/Long" (311 : Nat) ({ cls := "java/lang/Integer", name := "numberOfTrailingZeros", desc := "(I)I" } : Jvm.MethodName)) ∈ lw_all := lw_g (lw_at lw_m4 184 rfl) rfl
/-! jdk/internal/util/Preconditions -/
set_option maxRecDepth 100000
def RJ23 : String := "jdk/internal/util/Preconditions"
abbrev cJ23_checkFromToIndex : ByteArray := prog_79_method_12_code
def yJ23_checkFromToIndex : MethodName := ⟨RJ23, "checkFromToIndex", "(IIILjava/util/function/BiFunction;)I"⟩
def dkwJ23_checkFromToIndex_0 : List UInt8 := [26, 155, 0, 13, 26, 27, 163, 0, 8, 27, 28, 164, 0, 11, 45, 26, 27, 28, 184, 0, 99, 191, 26, 172]
abbrev dktJ23_checkFromToIndex_0 : List UInt8 := dkwJ23_checkFromToIndex_0 ++ []
theorem dksJ23_checkFromToIndex_0 : cJ23_checkFromToIndex.data.toList.drop 0 = dktJ23_checkFromToIndex_0 := by decide +kernel
theorem dJ23_checkFromToIndex_0 : decode cJ23_checkFromToIndex 0 = .ok (.iload_n 0, 1) := dk_26 (dk_at dksJ23_checkFromToIndex_0 0 rfl rfl)
theorem dJ23_checkFromToIndex_1 : decode cJ23_checkFromToIndex 1 = .ok (.ifCond .lt 13, 3) := dk_155 0 13 (dk_at dksJ23_checkFromToIndex_0 1 rfl rfl)
theorem dJ23_checkFromToIndex_4 : decode cJ23_checkFromToIndex 4 = .ok (.iload_n 0, 1) := dk_26 (dk_at dksJ23_checkFromToIndex_0 4 rfl rfl)
theorem dJ23_checkFromToIndex_5 : decode cJ23_checkFromToIndex 5 = .ok (.iload_n 1, 1) := dk_27 (dk_at dksJ23_checkFromToIndex_0 5 rfl rfl)
theorem dJ23_checkFromToIndex_6 : decode cJ23_checkFromToIndex 6 = .ok (.if_icmp .gt 8, 3) := dk_163 0 8 (dk_at dksJ23_checkFromToIndex_0 6 rfl rfl)
theorem dJ23_checkFromToIndex_9 : decode cJ23_checkFromToIndex 9 = .ok (.iload_n 1, 1) := dk_27 (dk_at dksJ23_checkFromToIndex_0 9 rfl rfl)
theorem dJ23_checkFromToIndex_10 : decode cJ23_checkFromToIndex 10 = .ok (.iload_n 2, 1) := dk_28 (dk_at dksJ23_checkFromToIndex_0 10 rfl rfl)
theorem dJ23_checkFromToIndex_11 : decode cJ23_checkFromToIndex 11 = .ok (.if_icmp .le 11, 3) := dk_164 0 11 (dk_at dksJ23_checkFromToIndex_0 11 rfl rfl)
theorem dJ23_checkFromToIndex_14 : decode cJ23_checkFromToIndex 14 = .ok (.aload_n 3, 1) := dk_45 (dk_at dksJ23_checkFromToIndex_0 14 rfl rfl)
theorem dJ23_checkFromToIndex_15 : decode cJ23_checkFromToIndex 15 = .ok (.iload_n 0, 1) := dk_26 (dk_at dksJ23_checkFromToIndex_0 15 rfl rfl)
theorem dJ23_checkFromToIndex_16 : decode cJ23_checkFromToIndex 16 = .ok (.iload_n 1, 1) := dk_27 (dk_at dksJ23_checkFromToIndex_0 16 rfl rfl)
theorem dJ23_checkFromToIndex_17 : decode cJ23_checkFromToIndex 17 = .ok (.iload_n 2, 1) := dk_28 (dk_at dksJ23_checkFromToIndex_0 17 rfl rfl)
theorem dJ23_checkFromToIndex_18 : decode cJ23_checkFromToIndex 18 = .ok (.invokestatic 99, 3) := dk_184 0 99 (dk_at dksJ23_checkFromToIndex_0 18 rfl rfl)
theorem dJ23_checkFromToIndex_21 : decode cJ23_checkFromToIndex 21 = .ok (.athrow, 1) := dk_191 (dk_at dksJ23_checkFromToIndex_0 21 rfl rfl)
theorem dJ23_checkFromToIndex_22 : decode cJ23_checkFromToIndex 22 = .ok (.iload_n 0, 1) := dk_26 (dk_at dksJ23_checkFromToIndex_0 22 rfl rfl)
theorem dJ23_checkFromToIndex_23 : decode cJ23_checkFromToIndex 23 = .ok (.ireturn, 1) := dk_172 (dk_at dksJ23_checkFromToIndex_0 23 rfl rfl)
abbrev cJ23_checkFromIndexSize : ByteArray := prog_79_method_13_code
def yJ23_checkFromIndexSize : MethodName := ⟨RJ23, "checkFromIndexSize", "(IIILjava/util/function/BiFunction;)I"⟩
def dkwJ23_checkFromIndexSize_1 : List UInt8 := [172]
abbrev dktJ23_checkFromIndexSize_1 : List UInt8 := dkwJ23_checkFromIndexSize_1 ++ []
def dkwJ23_checkFromIndexSize_0 : List UInt8 := [28, 26, 128, 27, 128, 155, 0, 10, 27, 28, 26, 100, 164, 0, 11, 45, 26, 27, 28, 184, 0, 103, 191, 26]
abbrev dktJ23_checkFromIndexSize_0 : List UInt8 := dkwJ23_checkFromIndexSize_0 ++ dktJ23_checkFromIndexSize_1
theorem dksJ23_checkFromIndexSize_0 : cJ23_checkFromIndexSize.data.toList.drop 0 = dktJ23_checkFromIndexSize_0 := by decide +kernel
theorem dksJ23_checkFromIndexSize_1 : cJ23_checkFromIndexSize.data.toList.drop 24 = dktJ23_checkFromIndexSize_1 := dk_seg dksJ23_checkFromIndexSize_0 24 rfl rfl
theorem dJ23_checkFromIndexSize_0 : decode cJ23_checkFromIndexSize 0 = .ok (.iload_n 2, 1) := dk_28 (dk_at dksJ23_checkFromIndexSize_0 0 rfl rfl)
theorem dJ23_checkFromIndexSize_1 : decode cJ23_checkFromIndexSize 1 = .ok (.iload_n 0, 1) := dk_26 (dk_at dksJ23_checkFromIndexSize_0 1 rfl rfl)
theorem dJ23_checkFromIndexSize_2 : decode cJ23_checkFromIndexSize 2 = .ok (.ior, 1) := dk_128 (dk_at dksJ23_checkFromIndexSize_0 2 rfl rfl)
theorem dJ23_checkFromIndexSize_3 : decode cJ23_checkFromIndexSize 3 = .ok (.iload_n 1, 1) := dk_27 (dk_at dksJ23_checkFromIndexSize_0 3 rfl rfl)
theorem dJ23_checkFromIndexSize_4 : decode cJ23_checkFromIndexSize 4 = .ok (.ior, 1) := dk_128 (dk_at dksJ23_checkFromIndexSize_0 4 rfl rfl)
theorem dJ23_checkFromIndexSize_5 : decode cJ23_checkFromIndexSize 5 = .ok (.ifCond .lt 10, 3) := dk_155 0 10 (dk_at dksJ23_checkFromIndexSize_0 5 rfl rfl)
theorem dJ23_checkFromIndexSize_8 : decode cJ23_checkFromIndexSize 8 = .ok (.iload_n 1, 1) := dk_27 (dk_at dksJ23_checkFromIndexSize_0 8 rfl rfl)
theorem dJ23_checkFromIndexSize_9 : decode cJ23_checkFromIndexSize 9 = .ok (.iload_n 2, 1) := dk_28 (dk_at dksJ23_checkFromIndexSize_0 9 rfl rfl)
theorem dJ23_checkFromIndexSize_10 : decode cJ23_checkFromIndexSize 10 = .ok (.iload_n 0, 1) := dk_26 (dk_at dksJ23_checkFromIndexSize_0 10 rfl rfl)
theorem dJ23_checkFromIndexSize_11 : decode cJ23_checkFromIndexSize 11 = .ok (.isub, 1) := dk_100 (dk_at dksJ23_checkFromIndexSize_0 11 rfl rfl)
theorem dJ23_checkFromIndexSize_12 : decode cJ23_checkFromIndexSize 12 = .ok (.if_icmp .le 11, 3) := dk_164 0 11 (dk_at dksJ23_checkFromIndexSize_0 12 rfl rfl)
theorem dJ23_checkFromIndexSize_15 : decode cJ23_checkFromIndexSize 15 = .ok (.aload_n 3, 1) := dk_45 (dk_at dksJ23_checkFromIndexSize_0 15 rfl rfl)
theorem dJ23_checkFromIndexSize_16 : decode cJ23_checkFromIndexSize 16 = .ok (.iload_n 0, 1) := dk_26 (dk_at dksJ23_checkFromIndexSize_0 16 rfl rfl)
theorem dJ23_checkFromIndexSize_17 : decode cJ23_checkFromIndexSize 17 = .ok (.iload_n 1, 1) := dk_27 (dk_at dksJ23_checkFromIndexSize_0 17 rfl rfl)
theorem dJ23_checkFromIndexSize_18 : decode cJ23_checkFromIndexSize 18 = .ok (.iload_n 2, 1) := dk_28 (dk_at dksJ23_checkFromIndexSize_0 18 rfl rfl)
theorem dJ23_checkFromIndexSize_19 : decode cJ23_checkFromIndexSize 19 = .ok (.invokestatic 103, 3) := dk_184 0 103 (dk_at dksJ23_checkFromIndexSize_0 19 rfl rfl)
theorem dJ23_checkFromIndexSize_22 : decode cJ23_checkFromIndexSize 22 = .ok (.athrow, 1) := dk_191 (dk_at dksJ23_checkFromIndexSize_0 22 rfl rfl)
theorem dJ23_checkFromIndexSize_23 : decode cJ23_checkFromIndexSize 23 = .ok (.iload_n 0, 1) := dk_26 (dk_at dksJ23_checkFromIndexSize_0 23 rfl rfl)
theorem dJ23_checkFromIndexSize_24 : decode cJ23_checkFromIndexSize 24 = .ok (.ireturn, 1) := dk_172 (dk_at dksJ23_checkFromIndexSize_1 0 rfl rfl)
abbrev cJ23_checkIndex : ByteArray := prog_79_method_11_code
def yJ23_checkIndex : MethodName := ⟨RJ23, "checkIndex", "(IILjava/util/function/BiFunction;)I"⟩
def dkwJ23_checkIndex_0 : List UInt8 := [26, 155, 0, 8, 26, 27, 161, 0, 10, 44, 26, 27, 184, 0, 95, 191, 26, 172]
abbrev dktJ23_checkIndex_0 : List UInt8 := dkwJ23_checkIndex_0 ++ []
theorem dksJ23_checkIndex_0 : cJ23_checkIndex.data.toList.drop 0 = dktJ23_checkIndex_0 := by decide +kernel
theorem dJ23_checkIndex_0 : decode cJ23_checkIndex 0 = .ok (.iload_n 0, 1) := dk_26 (dk_at dksJ23_checkIndex_0 0 rfl rfl)
theorem dJ23_checkIndex_1 : decode cJ23_checkIndex 1 = .ok (.ifCond .lt 8, 3) := dk_155 0 8 (dk_at dksJ23_checkIndex_0 1 rfl rfl)
theorem dJ23_checkIndex_4 : decode cJ23_checkIndex 4 = .ok (.iload_n 0, 1) := dk_26 (dk_at dksJ23_checkIndex_0 4 rfl rfl)
theorem dJ23_checkIndex_5 : decode cJ23_checkIndex 5 = .ok (.iload_n 1, 1) := dk_27 (dk_at dksJ23_checkIndex_0 5 rfl rfl)
theorem dJ23_checkIndex_6 : decode cJ23_checkIndex 6 = .ok (.if_icmp .lt 10, 3) := dk_161 0 10 (dk_at dksJ23_checkIndex_0 6 rfl rfl)
theorem dJ23_checkIndex_9 : decode cJ23_checkIndex 9 = .ok (.aload_n 2, 1) := dk_44 (dk_at dksJ23_checkIndex_0 9 rfl rfl)
theorem dJ23_checkIndex_10 : decode cJ23_checkIndex 10 = .ok (.iload_n 0, 1) := dk_26 (dk_at dksJ23_checkIndex_0 10 rfl rfl)
theorem dJ23_checkIndex_11 : decode cJ23_checkIndex 11 = .ok (.iload_n 1, 1) := dk_27 (dk_at dksJ23_checkIndex_0 11 rfl rfl)
theorem dJ23_checkIndex_12 : decode cJ23_checkIndex 12 = .ok (.invokestatic 95, 3) := dk_184 0 95 (dk_at dksJ23_checkIndex_0 12 rfl rfl)
theorem dJ23_checkIndex_15 : decode cJ23_checkIndex 15 = .ok (.athrow, 1) := dk_191 (dk_at dksJ23_checkIndex_0 15 rfl rfl)
theorem dJ23_checkIndex_16 : decode cJ23_checkIndex 16 = .ok (.iload_n 0, 1) := dk_26 (dk_at dksJ23_checkIndex_0 16 rfl rfl)
theorem dJ23_checkIndex_17 : decode cJ23_checkIndex 17 = .ok (.ireturn, 1) := dk_172 (dk_at dksJ23_checkIndex_0 17 rfl rfl)
theorem q104 : (Jvm.Cond.initialized "jdk/internal/util/Preconditions") ∈ lw_all := lw_g (lw_at lw_m1 36 rfl) rfl
theorem q1063 : (Jvm.Cond.laysStatic "jdk/internal/util/Preconditions" "SIOOBE_FORMATTER" "Ljava/util/function/BiFunction;") ∈ lw_tbl := lw_at lw_m5 35 rfl
theorem q1065 : (Jvm.Cond.static ({ cls := "jdk/internal/util/Preconditions", name := "checkFromToIndex", desc := "(IIILjava/util/function/BiFunction;)I" } : Jvm.MethodName)) ∈ lw_all := lw_g (lw_at lw_m5 37 rfl) rfl
theorem q1066 : (Jvm.Cond.code ({ cls := "jdk/internal/util/Preconditions", name := "checkFromToIndex", desc := "(IIILjava/util/function/BiFunction;)I" } : Jvm.MethodName) prog_79_method_12_code (4 : Nat) (Option.some Jvm.ClassFile.FieldType.int)) ∈ lw_all := lw_g (lw_at lw_m5 38 rfl) rfl
theorem q1747 : (Jvm.Cond.static ({ cls := "jdk/internal/util/Preconditions", name := "checkFromIndexSize", desc := "(IIILjava/util/function/BiFunction;)I" } : Jvm.MethodName)) ∈ lw_all := lw_g (lw_at lw_m7 239 rfl) rfl
theorem q1748 : (Jvm.Cond.code ({ cls := "jdk/internal/util/Preconditions", name := "checkFromIndexSize", desc := "(IIILjava/util/function/BiFunction;)I" } : Jvm.MethodName) prog_79_method_13_code (4 : Nat) (Option.some Jvm.ClassFile.FieldType.int)) ∈ lw_all := lw_g (lw_at lw_m8 0 rfl) rfl
theorem q1881 : (Jvm.Cond.static ({ cls := "jdk/internal/util/Preconditions", name := "checkIndex", desc := "(IILjava/util/function/BiFunction;)I" } : Jvm.MethodName)) ∈ lw_all := lw_g (lw_at lw_m8 133 rfl) rfl
theorem q1882 : (Jvm.Cond.code ({ cls := "jdk/internal/util/Preconditions", name := "checkIndex", desc := "(IILjava/util/function/BiFunction;)I" } : Jvm.MethodName) prog_79_method_11_code (3 : Nat) (Option.some Jvm.ClassFile.FieldType.int)) ∈ lw_all := lw_g (lw_at lw_m8 134 rfl) rfl
/-! java/util/Objects -/
set_option maxRecDepth 100000
def RJ24 : String := "java/util/Objects"
abbrev cJ24_requireNonNull : ByteArray := prog_57_method_10_code
def yJ24_requireNonNull : MethodName := ⟨RJ24, "requireNonNull", "(Ljava/lang/Object;)Ljava/lang/Object;"⟩
def dkwJ24_requireNonNull_0 : List UInt8 := [42, 199, 0, 11, 187, 0, 84, 89, 183, 0, 86, 191, 42, 176]
abbrev dktJ24_requireNonNull_0 : List UInt8 := dkwJ24_requireNonNull_0 ++ []
theorem dksJ24_requireNonNull_0 : cJ24_requireNonNull.data.toList.drop 0 = dktJ24_requireNonNull_0 := by decide +kernel
theorem dJ24_requireNonNull_0 : decode cJ24_requireNonNull 0 = .ok (.aload_n 0, 1) := dk_42 (dk_at dksJ24_requireNonNull_0 0 rfl rfl)
theorem dJ24_requireNonNull_1 : decode cJ24_requireNonNull 1 = .ok (.ifnonnull 11, 3) := dk_199 0 11 (dk_at dksJ24_requireNonNull_0 1 rfl rfl)
theorem dJ24_requireNonNull_4 : decode cJ24_requireNonNull 4 = .ok (.new 84, 3) := dk_187 0 84 (dk_at dksJ24_requireNonNull_0 4 rfl rfl)
theorem dJ24_requireNonNull_7 : decode cJ24_requireNonNull 7 = .ok (.dup, 1) := dk_89 (dk_at dksJ24_requireNonNull_0 7 rfl rfl)
theorem dJ24_requireNonNull_8 : decode cJ24_requireNonNull 8 = .ok (.invokespecial 86, 3) := dk_183 0 86 (dk_at dksJ24_requireNonNull_0 8 rfl rfl)
theorem dJ24_requireNonNull_11 : decode cJ24_requireNonNull 11 = .ok (.athrow, 1) := dk_191 (dk_at dksJ24_requireNonNull_0 11 rfl rfl)
theorem dJ24_requireNonNull_12 : decode cJ24_requireNonNull 12 = .ok (.aload_n 0, 1) := dk_42 (dk_at dksJ24_requireNonNull_0 12 rfl rfl)
theorem dJ24_requireNonNull_13 : decode cJ24_requireNonNull 13 = .ok (.areturn, 1) := dk_176 (dk_at dksJ24_requireNonNull_0 13 rfl rfl)
theorem q106 : (Jvm.Cond.initialized "java/util/Objects") ∈ lw_all := lw_g (lw_at lw_m1 38 rfl) rfl
theorem q1136 : (Jvm.Cond.static ({ cls := "java/util/Objects", name := "requireNonNull", desc := "(Ljava/lang/Object;)Ljava/lang/Object;" } : Jvm.MethodName)) ∈ lw_all := lw_g (lw_at lw_m5 108 rfl) rfl
theorem q1137 : (Jvm.Cond.code ({ cls := "java/util/Objects", name := "requireNonNull", desc := "(Ljava/lang/Object;)Ljava/lang/Object;" } : Jvm.MethodName) prog_57_method_10_code (1 : Nat) (Option.some (Jvm.ClassFile.FieldType.object "java/lang/Object"))) ∈ lw_all := lw_g (lw_at lw_m5 109 rfl) rfl
theorem q1138 : (Jvm.Cond.classLink "java/util/Objects" (84 : Nat) "java/lang/NullPointerException") ∈ lw_all := lw_g (lw_at lw_m5 110 rfl) rfl
theorem q1139 : (Jvm.Cond.methodLink "java/util/Objects" (86 : Nat) ({ cls := "java/lang/NullPointerException", name := "<init>", desc := "()V" } : Jvm.MethodName)) ∈ lw_all := lw_g (lw_at lw_m5 111 rfl) rfl
/-! java/util/TreeMap$Entry -/
set_option maxRecDepth 100000
def RJ25 : String := "java/util/TreeMap$Entry"
def TJ25 : u_T := fun k => match k with
  | 0 => ("java/util/TreeMap$Entry", "key", "Ljava/lang/Object;", false)
  | 1 => ("java/util/TreeMap$Entry", "value", "Ljava/lang/Object;", false)
  | 2 => ("java/util/TreeMap$Entry", "left", "Ljava/util/TreeMap$Entry;", false)
  | 3 => ("java/util/TreeMap$Entry", "right", "Ljava/util/TreeMap$Entry;", false)
  | 4 => ("java/util/TreeMap$Entry", "parent", "Ljava/util/TreeMap$Entry;", false)
  | _ => ("java/util/TreeMap$Entry", "color", "Z", false)
def tyJ25 : Nat → FieldType := fun k => match k with
  | 0 => .object "java/lang/Object"
  | 1 => .object "java/lang/Object"
  | 2 => .object "java/util/TreeMap$Entry"
  | 3 => .object "java/util/TreeMap$Entry"
  | 4 => .object "java/util/TreeMap$Entry"
  | _ => .boolean
abbrev wsJ250 : List Cond := u_ws RJ25 TJ25 6
theorem nmJ25 : ∀ a, a < 6 → ∀ b, b < 6 → a ≠ b → (TJ25 a).2.1 ≠ (TJ25 b).2.1 := by decide +kernel
theorem tyJ25_ok : ∀ k, k < 6 → parseFieldDescriptor (TJ25 k).2.2.1 = some (tyJ25 k) := by decide +kernel
abbrev cJ25_init : ByteArray := prog_68_method_1_code
def yJ25_init : MethodName := ⟨RJ25, "<init>", "(Ljava/lang/Object;Ljava/lang/Object;Ljava/util/TreeMap$Entry;)V"⟩
def dkwJ25_init_1 : List UInt8 := [177]
abbrev dktJ25_init_1 : List UInt8 := dkwJ25_init_1 ++ []
def dkwJ25_init_0 : List UInt8 := [42, 183, 0, 3, 42, 4, 181, 0, 9, 42, 43, 181, 0, 15, 42, 44, 181, 0, 19, 42, 45, 181, 0, 22]
abbrev dktJ25_init_0 : List UInt8 := dkwJ25_init_0 ++ dktJ25_init_1
theorem dksJ25_init_0 : cJ25_init.data.toList.drop 0 = dktJ25_init_0 := by decide +kernel
theorem dksJ25_init_1 : cJ25_init.data.toList.drop 24 = dktJ25_init_1 := dk_seg dksJ25_init_0 24 rfl rfl
theorem dJ25_init_0 : decode cJ25_init 0 = .ok (.aload_n 0, 1) := dk_42 (dk_at dksJ25_init_0 0 rfl rfl)
theorem dJ25_init_1 : decode cJ25_init 1 = .ok (.invokespecial 3, 3) := dk_183 0 3 (dk_at dksJ25_init_0 1 rfl rfl)
theorem dJ25_init_4 : decode cJ25_init 4 = .ok (.aload_n 0, 1) := dk_42 (dk_at dksJ25_init_0 4 rfl rfl)
theorem dJ25_init_5 : decode cJ25_init 5 = .ok (.iconst 1, 1) := dk_4 (dk_at dksJ25_init_0 5 rfl rfl)
theorem dJ25_init_6 : decode cJ25_init 6 = .ok (.putfield 9, 3) := dk_181 0 9 (dk_at dksJ25_init_0 6 rfl rfl)
theorem dJ25_init_9 : decode cJ25_init 9 = .ok (.aload_n 0, 1) := dk_42 (dk_at dksJ25_init_0 9 rfl rfl)
theorem dJ25_init_10 : decode cJ25_init 10 = .ok (.aload_n 1, 1) := dk_43 (dk_at dksJ25_init_0 10 rfl rfl)
theorem dJ25_init_11 : decode cJ25_init 11 = .ok (.putfield 15, 3) := dk_181 0 15 (dk_at dksJ25_init_0 11 rfl rfl)
theorem dJ25_init_14 : decode cJ25_init 14 = .ok (.aload_n 0, 1) := dk_42 (dk_at dksJ25_init_0 14 rfl rfl)
theorem dJ25_init_15 : decode cJ25_init 15 = .ok (.aload_n 2, 1) := dk_44 (dk_at dksJ25_init_0 15 rfl rfl)
theorem dJ25_init_16 : decode cJ25_init 16 = .ok (.putfield 19, 3) := dk_181 0 19 (dk_at dksJ25_init_0 16 rfl rfl)
theorem dJ25_init_19 : decode cJ25_init 19 = .ok (.aload_n 0, 1) := dk_42 (dk_at dksJ25_init_0 19 rfl rfl)
theorem dJ25_init_20 : decode cJ25_init 20 = .ok (.aload_n 3, 1) := dk_45 (dk_at dksJ25_init_0 20 rfl rfl)
theorem dJ25_init_21 : decode cJ25_init 21 = .ok (.putfield 22, 3) := dk_181 0 22 (dk_at dksJ25_init_0 21 rfl rfl)
theorem dJ25_init_24 : decode cJ25_init 24 = .ok (.return_, 1) := dk_177 (dk_at dksJ25_init_1 0 rfl rfl)
abbrev cJ25_getKey : ByteArray := prog_68_method_2_code
def yJ25_getKey : MethodName := ⟨RJ25, "getKey", "()Ljava/lang/Object;"⟩
theorem dJ25_getKey_0 : decode cJ25_getKey 0 = .ok (.aload_n 0, 1) := by decide +kernel
theorem dJ25_getKey_1 : decode cJ25_getKey 1 = .ok (.getfield 15, 3) := by decide +kernel
theorem dJ25_getKey_4 : decode cJ25_getKey 4 = .ok (.areturn, 1) := by decide +kernel
abbrev cJ25_getValue : ByteArray := prog_68_method_3_code
def yJ25_getValue : MethodName := ⟨RJ25, "getValue", "()Ljava/lang/Object;"⟩
theorem dJ25_getValue_0 : decode cJ25_getValue 0 = .ok (.aload_n 0, 1) := by decide +kernel
theorem dJ25_getValue_1 : decode cJ25_getValue 1 = .ok (.getfield 19, 3) := by decide +kernel
theorem dJ25_getValue_4 : decode cJ25_getValue 4 = .ok (.areturn, 1) := by decide +kernel
theorem q108 : (Jvm.Cond.initialized "java/util/TreeMap$Entry") ∈ lw_all := lw_g (lw_at lw_m1 40 rfl) rfl
theorem q795 : (Jvm.Cond.selects "java/util/TreeMap$Entry" ({ cls := "java/lang/Object", name := "getClass", desc := "()Ljava/lang/Class;" } : Jvm.MethodName) ({ cls := "java/lang/Object", name := "getClass", desc := "()Ljava/lang/Class;" } : Jvm.MethodName)) ∈ lw_all := lw_g (lw_at lw_m4 7 rfl) rfl
theorem q1170 : (Jvm.Cond.instantiable "java/util/TreeMap$Entry" (6 : Nat)) ∈ lw_all := lw_g (lw_at lw_m5 142 rfl) rfl
theorem q1172 : (Jvm.Cond.instanceMethod ({ cls := "java/util/TreeMap$Entry", name := "<init>", desc := "(Ljava/lang/Object;Ljava/lang/Object;Ljava/util/TreeMap$Entry;)V" } : Jvm.MethodName)) ∈ lw_all := lw_g (lw_at lw_m5 144 rfl) rfl
theorem q1173 : (Jvm.Cond.code ({ cls := "java/util/TreeMap$Entry", name := "<init>", desc := "(Ljava/lang/Object;Ljava/lang/Object;Ljava/util/TreeMap$Entry;)V" } : Jvm.MethodName) prog_68_method_1_code (4 : Nat) (Option.none : Option Jvm.ClassFile.FieldType)) ∈ lw_all := lw_g (lw_at lw_m5 145 rfl) rfl
theorem q1174 : (Jvm.Cond.methodLink "java/util/TreeMap$Entry" (3 : Nat) ({ cls := "java/lang/Object", name := "<init>", desc := "()V" } : Jvm.MethodName)) ∈ lw_all := lw_g (lw_at lw_m5 146 rfl) rfl
theorem q1175 : (Jvm.Cond.fieldLink "java/util/TreeMap$Entry" (15 : Nat) "java/util/TreeMap$Entry" "key" "Ljava/lang/Object;") ∈ lw_all := lw_g (lw_at lw_m5 147 rfl) rfl
theorem q1178 : (Jvm.Cond.fieldLink "java/util/TreeMap$Entry" (19 : Nat) "java/util/TreeMap$Entry" "value" "Ljava/lang/Object;") ∈ lw_all := lw_g (lw_at lw_m5 150 rfl) rfl
theorem q1182 : (Jvm.Cond.fieldLink "java/util/TreeMap$Entry" (22 : Nat) "java/util/TreeMap$Entry" "parent" "Ljava/util/TreeMap$Entry;") ∈ lw_all := lw_g (lw_at lw_m5 154 rfl) rfl
theorem q1184 : (Jvm.Cond.fieldLink "java/util/TreeMap$Entry" (9 : Nat) "java/util/TreeMap$Entry" "color" "Z") ∈ lw_all := lw_g (lw_at lw_m5 156 rfl) rfl
theorem q1186 : (Jvm.Cond.lays "java/util/TreeMap$Entry" "java/util/TreeMap$Entry" "key" "Ljava/lang/Object;") ∈ lw_all := lw_g (lw_at lw_m5 158 rfl) rfl
theorem q1187 : (Jvm.Cond.soleField "java/util/TreeMap$Entry" "key") ∈ lw_all := lw_g (lw_at lw_m5 159 rfl) rfl
theorem q1188 : (Jvm.Cond.lays "java/util/TreeMap$Entry" "java/util/TreeMap$Entry" "value" "Ljava/lang/Object;") ∈ lw_all := lw_g (lw_at lw_m5 160 rfl) rfl
theorem q1189 : (Jvm.Cond.soleField "java/util/TreeMap$Entry" "value") ∈ lw_all := lw_g (lw_at lw_m5 161 rfl) rfl
theorem q1190 : (Jvm.Cond.lays "java/util/TreeMap$Entry" "java/util/TreeMap$Entry" "left" "Ljava/util/TreeMap$Entry;") ∈ lw_all := lw_g (lw_at lw_m5 162 rfl) rfl
theorem q1191 : (Jvm.Cond.soleField "java/util/TreeMap$Entry" "left") ∈ lw_all := lw_g (lw_at lw_m5 163 rfl) rfl
theorem q1192 : (Jvm.Cond.lays "java/util/TreeMap$Entry" "java/util/TreeMap$Entry" "right" "Ljava/util/TreeMap$Entry;") ∈ lw_all := lw_g (lw_at lw_m5 164 rfl) rfl
theorem q1193 : (Jvm.Cond.soleField "java/util/TreeMap$Entry" "right") ∈ lw_all := lw_g (lw_at lw_m5 165 rfl) rfl
theorem q1194 : (Jvm.Cond.lays "java/util/TreeMap$Entry" "java/util/TreeMap$Entry" "parent" "Ljava/util/TreeMap$Entry;") ∈ lw_all := lw_g (lw_at lw_m5 166 rfl) rfl
theorem q1195 : (Jvm.Cond.soleField "java/util/TreeMap$Entry" "parent") ∈ lw_all := lw_g (lw_at lw_m5 167 rfl) rfl
theorem q1196 : (Jvm.Cond.lays "java/util/TreeMap$Entry" "java/util/TreeMap$Entry" "color" "Z") ∈ lw_all := lw_g (lw_at lw_m5 168 rfl) rfl
theorem q1197 : (Jvm.Cond.soleField "java/util/TreeMap$Entry" "color") ∈ lw_all := lw_g (lw_at lw_m5 169 rfl) rfl
theorem q1198 : (Jvm.Cond.superclass "java/util/TreeMap$Entry" "java/lang/Object") ∈ lw_all := lw_g (lw_at lw_m5 170 rfl) rfl
theorem q1396 : (Jvm.Cond.castable "java/util/TreeMap$Entry" "java/util/Map$Entry") ∈ lw_tbl := lw_at lw_m6 128 rfl
theorem q1397 : (Jvm.Cond.selects "java/util/TreeMap$Entry" ({ cls := "java/util/Map$Entry", name := "getKey", desc := "()Ljava/lang/Object;" } : Jvm.MethodName) ({ cls := "java/util/TreeMap$Entry", name := "getKey", desc := "()Ljava/lang/Object;" } : Jvm.MethodName)) ∈ lw_all := lw_g (lw_at lw_m6 129 rfl) rfl
theorem q1398 : (Jvm.Cond.unhidden "java/util/TreeMap$Entry" "getKey" "()Ljava/lang/Object;") ∈ lw_tbl := lw_at lw_m6 130 rfl
theorem q1399 : (Jvm.Cond.instanceMethod ({ cls := "java/util/TreeMap$Entry", name := "getKey", desc := "()Ljava/lang/Object;" } : Jvm.MethodName)) ∈ lw_all := lw_g (lw_at lw_m6 131 rfl) rfl
theorem q1400 : (Jvm.Cond.publicMethod ({ cls := "java/util/TreeMap$Entry", name := "getKey", desc := "()Ljava/lang/Object;" } : Jvm.MethodName)) ∈ lw_tbl := lw_at lw_m6 132 rfl
theorem q1401 : (Jvm.Cond.code ({ cls := "java/util/TreeMap$Entry", name := "getKey", desc := "()Ljava/lang/Object;" } : Jvm.MethodName) prog_68_method_2_code (1 : Nat) (Option.some (Jvm.ClassFile.FieldType.object "java/lang/Object"))) ∈ lw_all := lw_g (lw_at lw_m6 133 rfl) rfl
theorem q1406 : (Jvm.Cond.selects "java/util/TreeMap$Entry" ({ cls := "java/util/Map$Entry", name := "getValue", desc := "()Ljava/lang/Object;" } : Jvm.MethodName) ({ cls := "java/util/TreeMap$Entry", name := "getValue", desc := "()Ljava/lang/Object;" } : Jvm.MethodName)) ∈ lw_all := lw_g (lw_at lw_m6 138 rfl) rfl
theorem q1407 : (Jvm.Cond.unhidden "java/util/TreeMap$Entry" "getValue" "()Ljava/lang/Object;") ∈ lw_tbl := lw_at lw_m6 139 rfl
theorem q1408 : (Jvm.Cond.instanceMethod ({ cls := "java/util/TreeMap$Entry", name := "getValue", desc := "()Ljava/lang/Object;" } : Jvm.MethodName)) ∈ lw_all := lw_g (lw_at lw_m6 140 rfl) rfl
theorem q1409 : (Jvm.Cond.publicMethod ({ cls := "java/util/TreeMap$Entry", name := "getValue", desc := "()Ljava/lang/Object;" } : Jvm.MethodName)) ∈ lw_tbl := lw_at lw_m6 141 rfl
theorem q1410 : (Jvm.Cond.code ({ cls := "java/util/TreeMap$Entry", name := "getValue", desc := "()Ljava/lang/Object;" } : Jvm.MethodName) prog_68_method_3_code (1 : Nat) (Option.some (Jvm.ClassFile.FieldType.object "java/lang/Object"))) ∈ lw_all := lw_g (lw_at lw_m6 142 rfl) rfl
theorem q2380 : (Jvm.Cond.castable "java/util/TreeMap$Entry" "java/lang/Object") ∈ lw_tbl := lw_at lw_m10 152 rfl
theorem in_J25 : ∀ w ∈ wsJ250, w ∈ lw_all := lw_in wsJ250 [1186, 1188, 1190, 1192, 1194, 1196] (by decide +kernel) (by decide +kernel)
/-! java/util/TreeMap$EntrySet -/
set_option maxRecDepth 100000
def RJ26 : String := "java/util/TreeMap$EntrySet"
def TJ26 : u_T := fun k => match k with
  | _ => ("java/util/TreeMap$EntrySet", "this$0", "Ljava/util/TreeMap;", true)
def tyJ26 : Nat → FieldType := fun k => match k with
  | _ => .object "java/util/TreeMap"
abbrev wsJ260 : List Cond := u_ws RJ26 TJ26 1
theorem nmJ26 : ∀ a, a < 1 → ∀ b, b < 1 → a ≠ b → (TJ26 a).2.1 ≠ (TJ26 b).2.1 := by decide +kernel
theorem tyJ26_ok : ∀ k, k < 1 → parseFieldDescriptor (TJ26 k).2.2.1 = some (tyJ26 k) := by decide +kernel
abbrev cJ26_init : ByteArray := prog_70_method_1_code
def yJ26_init : MethodName := ⟨RJ26, "<init>", "(Ljava/util/TreeMap;)V"⟩
def dkwJ26_init_0 : List UInt8 := [42, 43, 181, 0, 1, 42, 183, 0, 7, 177]
abbrev dktJ26_init_0 : List UInt8 := dkwJ26_init_0 ++ []
theorem dksJ26_init_0 : cJ26_init.data.toList.drop 0 = dktJ26_init_0 := by decide +kernel
theorem dJ26_init_0 : decode cJ26_init 0 = .ok (.aload_n 0, 1) := dk_42 (dk_at dksJ26_init_0 0 rfl rfl)
theorem dJ26_init_1 : decode cJ26_init 1 = .ok (.aload_n 1, 1) := dk_43 (dk_at dksJ26_init_0 1 rfl rfl)
theorem dJ26_init_2 : decode cJ26_init 2 = .ok (.putfield 1, 3) := dk_181 0 1 (dk_at dksJ26_init_0 2 rfl rfl)
theorem dJ26_init_5 : decode cJ26_init 5 = .ok (.aload_n 0, 1) := dk_42 (dk_at dksJ26_init_0 5 rfl rfl)
theorem dJ26_init_6 : decode cJ26_init 6 = .ok (.invokespecial 7, 3) := dk_183 0 7 (dk_at dksJ26_init_0 6 rfl rfl)
theorem dJ26_init_9 : decode cJ26_init 9 = .ok (.return_, 1) := dk_177 (dk_at dksJ26_init_0 9 rfl rfl)
abbrev cJ26_iterator : ByteArray := prog_70_method_2_code
def yJ26_iterator : MethodName := ⟨RJ26, "iterator", "()Ljava/util/Iterator;"⟩
def dkwJ26_iterator_0 : List UInt8 := [187, 0, 13, 89, 42, 180, 0, 1, 42, 180, 0, 1, 182, 0, 15, 183, 0, 21, 176]
abbrev dktJ26_iterator_0 : List UInt8 := dkwJ26_iterator_0 ++ []
theorem dksJ26_iterator_0 : cJ26_iterator.data.toList.drop 0 = dktJ26_iterator_0 := by decide +kernel
theorem dJ26_iterator_0 : decode cJ26_iterator 0 = .ok (.new 13, 3) := dk_187 0 13 (dk_at dksJ26_iterator_0 0 rfl rfl)
theorem dJ26_iterator_3 : decode cJ26_iterator 3 = .ok (.dup, 1) := dk_89 (dk_at dksJ26_iterator_0 3 rfl rfl)
theorem dJ26_iterator_4 : decode cJ26_iterator 4 = .ok (.aload_n 0, 1) := dk_42 (dk_at dksJ26_iterator_0 4 rfl rfl)
theorem dJ26_iterator_5 : decode cJ26_iterator 5 = .ok (.getfield 1, 3) := dk_180 0 1 (dk_at dksJ26_iterator_0 5 rfl rfl)
theorem dJ26_iterator_8 : decode cJ26_iterator 8 = .ok (.aload_n 0, 1) := dk_42 (dk_at dksJ26_iterator_0 8 rfl rfl)
theorem dJ26_iterator_9 : decode cJ26_iterator 9 = .ok (.getfield 1, 3) := dk_180 0 1 (dk_at dksJ26_iterator_0 9 rfl rfl)
theorem dJ26_iterator_12 : decode cJ26_iterator 12 = .ok (.invokevirtual 15, 3) := dk_182 0 15 (dk_at dksJ26_iterator_0 12 rfl rfl)
theorem dJ26_iterator_15 : decode cJ26_iterator 15 = .ok (.invokespecial 21, 3) := dk_183 0 21 (dk_at dksJ26_iterator_0 15 rfl rfl)
theorem dJ26_iterator_18 : decode cJ26_iterator 18 = .ok (.areturn, 1) := dk_176 (dk_at dksJ26_iterator_0 18 rfl rfl)
theorem q109 : (Jvm.Cond.initialized "java/util/TreeMap$EntrySet") ∈ lw_all := lw_g (lw_at lw_m1 41 rfl) rfl
theorem q797 : (Jvm.Cond.selects "java/util/TreeMap$EntrySet" ({ cls := "java/lang/Object", name := "getClass", desc := "()Ljava/lang/Class;" } : Jvm.MethodName) ({ cls := "java/lang/Object", name := "getClass", desc := "()Ljava/lang/Class;" } : Jvm.MethodName)) ∈ lw_all := lw_g (lw_at lw_m4 9 rfl) rfl
theorem q1242 : (Jvm.Cond.instantiable "java/util/TreeMap$EntrySet" (1 : Nat)) ∈ lw_all := lw_g (lw_at lw_m5 214 rfl) rfl
theorem q1244 : (Jvm.Cond.instanceMethod ({ cls := "java/util/TreeMap$EntrySet", name := "<init>", desc := "(Ljava/util/TreeMap;)V" } : Jvm.MethodName)) ∈ lw_all := lw_g (lw_at lw_m5 216 rfl) rfl
theorem q1245 : (Jvm.Cond.code ({ cls := "java/util/TreeMap$EntrySet", name := "<init>", desc := "(Ljava/util/TreeMap;)V" } : Jvm.MethodName) prog_70_method_1_code (2 : Nat) (Option.none : Option Jvm.ClassFile.FieldType)) ∈ lw_all := lw_g (lw_at lw_m5 217 rfl) rfl
theorem q1246 : (Jvm.Cond.methodLink "java/util/TreeMap$EntrySet" (7 : Nat) ({ cls := "java/util/AbstractSet", name := "<init>", desc := "()V" } : Jvm.MethodName)) ∈ lw_all := lw_g (lw_at lw_m5 218 rfl) rfl
theorem q1247 : (Jvm.Cond.fieldLink "java/util/TreeMap$EntrySet" (1 : Nat) "java/util/TreeMap$EntrySet" "this$0" "Ljava/util/TreeMap;") ∈ lw_all := lw_g (lw_at lw_m5 219 rfl) rfl
theorem q1248 : (Jvm.Cond.laysFinal "java/util/TreeMap$EntrySet" "java/util/TreeMap$EntrySet" "this$0" "Ljava/util/TreeMap;") ∈ lw_all := lw_g (lw_at lw_m5 220 rfl) rfl
theorem q1249 : (Jvm.Cond.soleField "java/util/TreeMap$EntrySet" "this$0") ∈ lw_all := lw_g (lw_at lw_m5 221 rfl) rfl
theorem q1250 : (Jvm.Cond.superclass "java/util/TreeMap$EntrySet" "java/util/AbstractSet") ∈ lw_all := lw_g (lw_at lw_m5 222 rfl) rfl
theorem q1255 : (Jvm.Cond.castable "java/util/TreeMap$EntrySet" "java/util/Set") ∈ lw_tbl := lw_at lw_m5 227 rfl
theorem q1256 : (Jvm.Cond.selects "java/util/TreeMap$EntrySet" ({ cls := "java/util/Set", name := "iterator", desc := "()Ljava/util/Iterator;" } : Jvm.MethodName) ({ cls := "java/util/TreeMap$EntrySet", name := "iterator", desc := "()Ljava/util/Iterator;" } : Jvm.MethodName)) ∈ lw_all := lw_g (lw_at lw_m5 228 rfl) rfl
theorem q1257 : (Jvm.Cond.unhidden "java/util/TreeMap$EntrySet" "iterator" "()Ljava/util/Iterator;") ∈ lw_tbl := lw_at lw_m5 229 rfl
theorem q1258 : (Jvm.Cond.instanceMethod ({ cls := "java/util/TreeMap$EntrySet", name := "iterator", desc := "()Ljava/util/Iterator;" } : Jvm.MethodName)) ∈ lw_all := lw_g (lw_at lw_m5 230 rfl) rfl
theorem q1259 : (Jvm.Cond.publicMethod ({ cls := "java/util/TreeMap$EntrySet", name := "iterator", desc := "()Ljava/util/Iterator;" } : Jvm.MethodName)) ∈ lw_tbl := lw_at lw_m5 231 rfl
theorem q1260 : (Jvm.Cond.code ({ cls := "java/util/TreeMap$EntrySet", name := "iterator", desc := "()Ljava/util/Iterator;" } : Jvm.MethodName) prog_70_method_2_code (1 : Nat) (Option.some (Jvm.ClassFile.FieldType.object "java/util/Iterator"))) ∈ lw_all := lw_g (lw_at lw_m5 232 rfl) rfl
theorem q1261 : (Jvm.Cond.classLink "java/util/TreeMap$EntrySet" (13 : Nat) "java/util/TreeMap$EntryIterator") ∈ lw_all := lw_g (lw_at lw_m5 233 rfl) rfl
theorem q1263 : (Jvm.Cond.methodLink "java/util/TreeMap$EntrySet" (15 : Nat) ({ cls := "java/util/TreeMap", name := "getFirstEntry", desc := "()Ljava/util/TreeMap$Entry;" } : Jvm.MethodName)) ∈ lw_all := lw_g (lw_at lw_m5 235 rfl) rfl
theorem q1267 : (Jvm.Cond.methodLink "java/util/TreeMap$EntrySet" (21 : Nat) ({ cls := "java/util/TreeMap$EntryIterator", name := "<init>", desc := "(Ljava/util/TreeMap;Ljava/util/TreeMap$Entry;)V" } : Jvm.MethodName)) ∈ lw_all := lw_g (lw_at lw_m5 239 rfl) rfl
theorem q2381 : (Jvm.Cond.castable "java/util/TreeMap$EntrySet" "java/lang/Object") ∈ lw_tbl := lw_at lw_m10 153 rfl
theorem in_J26 : ∀ w ∈ wsJ260, w ∈ lw_all := lw_in wsJ260 [1248] (by decide +kernel) (by decide +kernel)
/-! java/util/TreeMap$PrivateEntryIterator -/
set_option maxRecDepth 100000
def RJ27 : String := "java/util/TreeMap$PrivateEntryIterator"
abbrev cJ27_init : ByteArray := prog_74_method_1_code
def yJ27_init : MethodName := ⟨RJ27, "<init>", "(Ljava/util/TreeMap;Ljava/util/TreeMap$Entry;)V"⟩
def dkwJ27_init_1 : List UInt8 := [181, 0, 26, 177]
abbrev dktJ27_init_1 : List UInt8 := dkwJ27_init_1 ++ []
def dkwJ27_init_0 : List UInt8 := [42, 43, 181, 0, 1, 42, 183, 0, 7, 42, 43, 180, 0, 13, 181, 0, 19, 42, 1, 181, 0, 22, 42, 44]
abbrev dktJ27_init_0 : List UInt8 := dkwJ27_init_0 ++ dktJ27_init_1
theorem dksJ27_init_0 : cJ27_init.data.toList.drop 0 = dktJ27_init_0 := by decide +kernel
theorem dksJ27_init_1 : cJ27_init.data.toList.drop 24 = dktJ27_init_1 := dk_seg dksJ27_init_0 24 rfl rfl
theorem dJ27_init_0 : decode cJ27_init 0 = .ok (.aload_n 0, 1) := dk_42 (dk_at dksJ27_init_0 0 rfl rfl)
theorem dJ27_init_1 : decode cJ27_init 1 = .ok (.aload_n 1, 1) := dk_43 (dk_at dksJ27_init_0 1 rfl rfl)
theorem dJ27_init_2 : decode cJ27_init 2 = .ok (.putfield 1, 3) := dk_181 0 1 (dk_at dksJ27_init_0 2 rfl rfl)
theorem dJ27_init_5 : decode cJ27_init 5 = .ok (.aload_n 0, 1) := dk_42 (dk_at dksJ27_init_0 5 rfl rfl)
theorem dJ27_init_6 : decode cJ27_init 6 = .ok (.invokespecial 7, 3) := dk_183 0 7 (dk_at dksJ27_init_0 6 rfl rfl)
theorem dJ27_init_9 : decode cJ27_init 9 = .ok (.aload_n 0, 1) := dk_42 (dk_at dksJ27_init_0 9 rfl rfl)
theorem dJ27_init_10 : decode cJ27_init 10 = .ok (.aload_n 1, 1) := dk_43 (dk_at dksJ27_init_0 10 rfl rfl)
theorem dJ27_init_11 : decode cJ27_init 11 = .ok (.getfield 13, 3) := dk_180 0 13 (dk_at dksJ27_init_0 11 rfl rfl)
theorem dJ27_init_14 : decode cJ27_init 14 = .ok (.putfield 19, 3) := dk_181 0 19 (dk_at dksJ27_init_0 14 rfl rfl)
theorem dJ27_init_17 : decode cJ27_init 17 = .ok (.aload_n 0, 1) := dk_42 (dk_at dksJ27_init_0 17 rfl rfl)
theorem dJ27_init_18 : decode cJ27_init 18 = .ok (.aconst_null, 1) := dk_1 (dk_at dksJ27_init_0 18 rfl rfl)
theorem dJ27_init_19 : decode cJ27_init 19 = .ok (.putfield 22, 3) := dk_181 0 22 (dk_at dksJ27_init_0 19 rfl rfl)
theorem dJ27_init_22 : decode cJ27_init 22 = .ok (.aload_n 0, 1) := dk_42 (dk_at dksJ27_init_0 22 rfl rfl)
theorem dJ27_init_23 : decode cJ27_init 23 = .ok (.aload_n 2, 1) := dk_44 (dk_at dksJ27_init_0 23 rfl rfl)
theorem dJ27_init_24 : decode cJ27_init 24 = .ok (.putfield 26, 3) := dk_181 0 26 (dk_at dksJ27_init_1 0 rfl rfl)
theorem dJ27_init_27 : decode cJ27_init 27 = .ok (.return_, 1) := dk_177 (dk_at dksJ27_init_1 3 rfl rfl)
abbrev cJ27_hasNext : ByteArray := prog_74_method_2_code
def yJ27_hasNext : MethodName := ⟨RJ27, "hasNext", "()Z"⟩
def dkwJ27_hasNext_0 : List UInt8 := [42, 180, 0, 26, 198, 0, 7, 4, 167, 0, 4, 3, 172]
abbrev dktJ27_hasNext_0 : List UInt8 := dkwJ27_hasNext_0 ++ []
theorem dksJ27_hasNext_0 : cJ27_hasNext.data.toList.drop 0 = dktJ27_hasNext_0 := by decide +kernel
theorem dJ27_hasNext_0 : decode cJ27_hasNext 0 = .ok (.aload_n 0, 1) := dk_42 (dk_at dksJ27_hasNext_0 0 rfl rfl)
theorem dJ27_hasNext_1 : decode cJ27_hasNext 1 = .ok (.getfield 26, 3) := dk_180 0 26 (dk_at dksJ27_hasNext_0 1 rfl rfl)
theorem dJ27_hasNext_4 : decode cJ27_hasNext 4 = .ok (.ifnull 7, 3) := dk_198 0 7 (dk_at dksJ27_hasNext_0 4 rfl rfl)
theorem dJ27_hasNext_7 : decode cJ27_hasNext 7 = .ok (.iconst 1, 1) := dk_4 (dk_at dksJ27_hasNext_0 7 rfl rfl)
theorem dJ27_hasNext_8 : decode cJ27_hasNext 8 = .ok (.goto 4, 3) := dk_167 0 4 (dk_at dksJ27_hasNext_0 8 rfl rfl)
theorem dJ27_hasNext_11 : decode cJ27_hasNext 11 = .ok (.iconst 0, 1) := dk_3 (dk_at dksJ27_hasNext_0 11 rfl rfl)
theorem dJ27_hasNext_12 : decode cJ27_hasNext 12 = .ok (.ireturn, 1) := dk_172 (dk_at dksJ27_hasNext_0 12 rfl rfl)
abbrev cJ27_nextEntry : ByteArray := prog_74_method_3_code
def yJ27_nextEntry : MethodName := ⟨RJ27, "nextEntry", "()Ljava/util/TreeMap$Entry;"⟩
def dkwJ27_nextEntry_2 : List UInt8 := [43, 181, 0, 22, 43, 176]
abbrev dktJ27_nextEntry_2 : List UInt8 := dkwJ27_nextEntry_2 ++ []
def dkwJ27_nextEntry_1 : List UInt8 := [42, 180, 0, 19, 159, 0, 11, 187, 0, 32, 89, 183, 0, 34, 191, 42, 43, 184, 0, 35, 181, 0, 26, 42]
abbrev dktJ27_nextEntry_1 : List UInt8 := dkwJ27_nextEntry_1 ++ dktJ27_nextEntry_2
def dkwJ27_nextEntry_0 : List UInt8 := [42, 180, 0, 26, 76, 43, 199, 0, 11, 187, 0, 29, 89, 183, 0, 31, 191, 42, 180, 0, 1, 180, 0, 13]
abbrev dktJ27_nextEntry_0 : List UInt8 := dkwJ27_nextEntry_0 ++ dktJ27_nextEntry_1
theorem dksJ27_nextEntry_0 : cJ27_nextEntry.data.toList.drop 0 = dktJ27_nextEntry_0 := by decide +kernel
theorem dksJ27_nextEntry_1 : cJ27_nextEntry.data.toList.drop 24 = dktJ27_nextEntry_1 := dk_seg dksJ27_nextEntry_0 24 rfl rfl
theorem dksJ27_nextEntry_2 : cJ27_nextEntry.data.toList.drop 48 = dktJ27_nextEntry_2 := dk_seg dksJ27_nextEntry_1 24 rfl rfl
theorem dJ27_nextEntry_0 : decode cJ27_nextEntry 0 = .ok (.aload_n 0, 1) := dk_42 (dk_at dksJ27_nextEntry_0 0 rfl rfl)
theorem dJ27_nextEntry_1 : decode cJ27_nextEntry 1 = .ok (.getfield 26, 3) := dk_180 0 26 (dk_at dksJ27_nextEntry_0 1 rfl rfl)
theorem dJ27_nextEntry_4 : decode cJ27_nextEntry 4 = .ok (.astore_n 1, 1) := dk_76 (dk_at dksJ27_nextEntry_0 4 rfl rfl)
theorem dJ27_nextEntry_5 : decode cJ27_nextEntry 5 = .ok (.aload_n 1, 1) := dk_43 (dk_at dksJ27_nextEntry_0 5 rfl rfl)
theorem dJ27_nextEntry_6 : decode cJ27_nextEntry 6 = .ok (.ifnonnull 11, 3) := dk_199 0 11 (dk_at dksJ27_nextEntry_0 6 rfl rfl)
theorem dJ27_nextEntry_9 : decode cJ27_nextEntry 9 = .ok (.new 29, 3) := dk_187 0 29 (dk_at dksJ27_nextEntry_0 9 rfl rfl)
theorem dJ27_nextEntry_12 : decode cJ27_nextEntry 12 = .ok (.dup, 1) := dk_89 (dk_at dksJ27_nextEntry_0 12 rfl rfl)
theorem dJ27_nextEntry_13 : decode cJ27_nextEntry 13 = .ok (.invokespecial 31, 3) := dk_183 0 31 (dk_at dksJ27_nextEntry_0 13 rfl rfl)
theorem dJ27_nextEntry_16 : decode cJ27_nextEntry 16 = .ok (.athrow, 1) := dk_191 (dk_at dksJ27_nextEntry_0 16 rfl rfl)
theorem dJ27_nextEntry_17 : decode cJ27_nextEntry 17 = .ok (.aload_n 0, 1) := dk_42 (dk_at dksJ27_nextEntry_0 17 rfl rfl)
theorem dJ27_nextEntry_18 : decode cJ27_nextEntry 18 = .ok (.getfield 1, 3) := dk_180 0 1 (dk_at dksJ27_nextEntry_0 18 rfl rfl)
theorem dJ27_nextEntry_21 : decode cJ27_nextEntry 21 = .ok (.getfield 13, 3) := dk_180 0 13 (dk_at dksJ27_nextEntry_0 21 rfl rfl)
theorem dJ27_nextEntry_24 : decode cJ27_nextEntry 24 = .ok (.aload_n 0, 1) := dk_42 (dk_at dksJ27_nextEntry_1 0 rfl rfl)
theorem dJ27_nextEntry_25 : decode cJ27_nextEntry 25 = .ok (.getfield 19, 3) := dk_180 0 19 (dk_at dksJ27_nextEntry_1 1 rfl rfl)
theorem dJ27_nextEntry_28 : decode cJ27_nextEntry 28 = .ok (.if_icmp .eq 11, 3) := dk_159 0 11 (dk_at dksJ27_nextEntry_1 4 rfl rfl)
theorem dJ27_nextEntry_31 : decode cJ27_nextEntry 31 = .ok (.new 32, 3) := dk_187 0 32 (dk_at dksJ27_nextEntry_1 7 rfl rfl)
theorem dJ27_nextEntry_34 : decode cJ27_nextEntry 34 = .ok (.dup, 1) := dk_89 (dk_at dksJ27_nextEntry_1 10 rfl rfl)
theorem dJ27_nextEntry_35 : decode cJ27_nextEntry 35 = .ok (.invokespecial 34, 3) := dk_183 0 34 (dk_at dksJ27_nextEntry_1 11 rfl rfl)
theorem dJ27_nextEntry_38 : decode cJ27_nextEntry 38 = .ok (.athrow, 1) := dk_191 (dk_at dksJ27_nextEntry_1 14 rfl rfl)
theorem dJ27_nextEntry_39 : decode cJ27_nextEntry 39 = .ok (.aload_n 0, 1) := dk_42 (dk_at dksJ27_nextEntry_1 15 rfl rfl)
theorem dJ27_nextEntry_40 : decode cJ27_nextEntry 40 = .ok (.aload_n 1, 1) := dk_43 (dk_at dksJ27_nextEntry_1 16 rfl rfl)
theorem dJ27_nextEntry_41 : decode cJ27_nextEntry 41 = .ok (.invokestatic 35, 3) := dk_184 0 35 (dk_at dksJ27_nextEntry_1 17 rfl rfl)
theorem dJ27_nextEntry_44 : decode cJ27_nextEntry 44 = .ok (.putfield 26, 3) := dk_181 0 26 (dk_at dksJ27_nextEntry_1 20 rfl rfl)
theorem dJ27_nextEntry_47 : decode cJ27_nextEntry 47 = .ok (.aload_n 0, 1) := dk_42 (dk_at dksJ27_nextEntry_1 23 rfl rfl)
theorem dJ27_nextEntry_48 : decode cJ27_nextEntry 48 = .ok (.aload_n 1, 1) := dk_43 (dk_at dksJ27_nextEntry_2 0 rfl rfl)
theorem dJ27_nextEntry_49 : decode cJ27_nextEntry 49 = .ok (.putfield 22, 3) := dk_181 0 22 (dk_at dksJ27_nextEntry_2 1 rfl rfl)
theorem dJ27_nextEntry_52 : decode cJ27_nextEntry 52 = .ok (.aload_n 1, 1) := dk_43 (dk_at dksJ27_nextEntry_2 4 rfl rfl)
theorem dJ27_nextEntry_53 : decode cJ27_nextEntry 53 = .ok (.areturn, 1) := dk_176 (dk_at dksJ27_nextEntry_2 5 rfl rfl)
theorem q110 : (Jvm.Cond.initialized "java/util/TreeMap$PrivateEntryIterator") ∈ lw_all := lw_g (lw_at lw_m1 42 rfl) rfl
theorem q149 : (Jvm.Cond.fieldLinkNest "java/util/TreeMap$PrivateEntryIterator" (13 : Nat) "java/util/TreeMap" "modCount" "I" "java/util/TreeMap") ∈ lw_tbl := lw_at lw_m1 81 rfl
theorem q1271 : (Jvm.Cond.instanceMethod ({ cls := "java/util/TreeMap$PrivateEntryIterator", name := "<init>", desc := "(Ljava/util/TreeMap;Ljava/util/TreeMap$Entry;)V" } : Jvm.MethodName)) ∈ lw_all := lw_g (lw_at lw_m6 3 rfl) rfl
theorem q1272 : (Jvm.Cond.code ({ cls := "java/util/TreeMap$PrivateEntryIterator", name := "<init>", desc := "(Ljava/util/TreeMap;Ljava/util/TreeMap$Entry;)V" } : Jvm.MethodName) prog_74_method_1_code (3 : Nat) (Option.none : Option Jvm.ClassFile.FieldType)) ∈ lw_all := lw_g (lw_at lw_m6 4 rfl) rfl
theorem q1273 : (Jvm.Cond.methodLink "java/util/TreeMap$PrivateEntryIterator" (7 : Nat) ({ cls := "java/lang/Object", name := "<init>", desc := "()V" } : Jvm.MethodName)) ∈ lw_all := lw_g (lw_at lw_m6 5 rfl) rfl
theorem q1274 : (Jvm.Cond.fieldLink "java/util/TreeMap$PrivateEntryIterator" (26 : Nat) "java/util/TreeMap$PrivateEntryIterator" "next" "Ljava/util/TreeMap$Entry;") ∈ lw_all := lw_g (lw_at lw_m6 6 rfl) rfl
theorem q1275 : (Jvm.Cond.fieldLink "java/util/TreeMap$PrivateEntryIterator" (22 : Nat) "java/util/TreeMap$PrivateEntryIterator" "lastReturned" "Ljava/util/TreeMap$Entry;") ∈ lw_all := lw_g (lw_at lw_m6 7 rfl) rfl
theorem q1276 : (Jvm.Cond.fieldLink "java/util/TreeMap$PrivateEntryIterator" (19 : Nat) "java/util/TreeMap$PrivateEntryIterator" "expectedModCount" "I") ∈ lw_all := lw_g (lw_at lw_m6 8 rfl) rfl
theorem q1277 : (Jvm.Cond.fieldLink "java/util/TreeMap$PrivateEntryIterator" (1 : Nat) "java/util/TreeMap$PrivateEntryIterator" "this$0" "Ljava/util/TreeMap;") ∈ lw_all := lw_g (lw_at lw_m6 9 rfl) rfl
theorem q1279 : (Jvm.Cond.soleField "java/util/TreeMap$PrivateEntryIterator" "next") ∈ lw_all := lw_g (lw_at lw_m6 11 rfl) rfl
theorem q1281 : (Jvm.Cond.soleField "java/util/TreeMap$PrivateEntryIterator" "lastReturned") ∈ lw_all := lw_g (lw_at lw_m6 13 rfl) rfl
theorem q1283 : (Jvm.Cond.soleField "java/util/TreeMap$PrivateEntryIterator" "expectedModCount") ∈ lw_all := lw_g (lw_at lw_m6 15 rfl) rfl
theorem q1285 : (Jvm.Cond.soleField "java/util/TreeMap$PrivateEntryIterator" "this$0") ∈ lw_all := lw_g (lw_at lw_m6 17 rfl) rfl
theorem q1355 : (Jvm.Cond.instanceMethod ({ cls := "java/util/TreeMap$PrivateEntryIterator", name := "hasNext", desc := "()Z" } : Jvm.MethodName)) ∈ lw_all := lw_g (lw_at lw_m6 87 rfl) rfl
theorem q1356 : (Jvm.Cond.publicMethod ({ cls := "java/util/TreeMap$PrivateEntryIterator", name := "hasNext", desc := "()Z" } : Jvm.MethodName)) ∈ lw_tbl := lw_at lw_m6 88 rfl
theorem q1357 : (Jvm.Cond.code ({ cls := "java/util/TreeMap$PrivateEntryIterator", name := "hasNext", desc := "()Z" } : Jvm.MethodName) prog_74_method_2_code (1 : Nat) (Option.some Jvm.ClassFile.FieldType.boolean)) ∈ lw_all := lw_g (lw_at lw_m6 89 rfl) rfl
theorem q1376 : (Jvm.Cond.declares ({ cls := "java/util/TreeMap$PrivateEntryIterator", name := "nextEntry", desc := "()Ljava/util/TreeMap$Entry;" } : Jvm.MethodName)) ∈ lw_tbl := lw_at lw_m6 108 rfl
theorem q1378 : (Jvm.Cond.instanceMethod ({ cls := "java/util/TreeMap$PrivateEntryIterator", name := "nextEntry", desc := "()Ljava/util/TreeMap$Entry;" } : Jvm.MethodName)) ∈ lw_all := lw_g (lw_at lw_m6 110 rfl) rfl
theorem q1379 : (Jvm.Cond.code ({ cls := "java/util/TreeMap$PrivateEntryIterator", name := "nextEntry", desc := "()Ljava/util/TreeMap$Entry;" } : Jvm.MethodName) prog_74_method_3_code (2 : Nat) (Option.some (Jvm.ClassFile.FieldType.object "java/util/TreeMap$Entry"))) ∈ lw_all := lw_g (lw_at lw_m6 111 rfl) rfl
theorem q1380 : (Jvm.Cond.methodLink "java/util/TreeMap$PrivateEntryIterator" (35 : Nat) ({ cls := "java/util/TreeMap", name := "successor", desc := "(Ljava/util/TreeMap$Entry;)Ljava/util/TreeMap$Entry;" } : Jvm.MethodName)) ∈ lw_all := lw_g (lw_at lw_m6 112 rfl) rfl
/-! java/util/TreeMap$EntryIterator -/
set_option maxRecDepth 100000
def RJ28 : String := "java/util/TreeMap$EntryIterator"
def TJ28 : u_T := fun k => match k with
  | 0 => ("java/util/TreeMap$PrivateEntryIterator", "next", "Ljava/util/TreeMap$Entry;", false)
  | 1 => ("java/util/TreeMap$PrivateEntryIterator", "lastReturned", "Ljava/util/TreeMap$Entry;", false)
  | 2 => ("java/util/TreeMap$PrivateEntryIterator", "expectedModCount", "I", false)
  | _ => ("java/util/TreeMap$PrivateEntryIterator", "this$0", "Ljava/util/TreeMap;", true)
def tyJ28 : Nat → FieldType := fun k => match k with
  | 0 => .object "java/util/TreeMap$Entry"
  | 1 => .object "java/util/TreeMap$Entry"
  | 2 => .int
  | _ => .object "java/util/TreeMap"
abbrev wsJ280 : List Cond := u_ws RJ28 TJ28 4
theorem nmJ28 : ∀ a, a < 4 → ∀ b, b < 4 → a ≠ b → (TJ28 a).2.1 ≠ (TJ28 b).2.1 := by decide +kernel
theorem tyJ28_ok : ∀ k, k < 4 → parseFieldDescriptor (TJ28 k).2.2.1 = some (tyJ28 k) := by decide +kernel
abbrev cJ28_init : ByteArray := prog_69_method_1_code
def yJ28_init : MethodName := ⟨RJ28, "<init>", "(Ljava/util/TreeMap;Ljava/util/TreeMap$Entry;)V"⟩
def dkwJ28_init_0 : List UInt8 := [42, 43, 44, 183, 0, 1, 177]
abbrev dktJ28_init_0 : List UInt8 := dkwJ28_init_0 ++ []
theorem dksJ28_init_0 : cJ28_init.data.toList.drop 0 = dktJ28_init_0 := by decide +kernel
theorem dJ28_init_0 : decode cJ28_init 0 = .ok (.aload_n 0, 1) := dk_42 (dk_at dksJ28_init_0 0 rfl rfl)
theorem dJ28_init_1 : decode cJ28_init 1 = .ok (.aload_n 1, 1) := dk_43 (dk_at dksJ28_init_0 1 rfl rfl)
theorem dJ28_init_2 : decode cJ28_init 2 = .ok (.aload_n 2, 1) := dk_44 (dk_at dksJ28_init_0 2 rfl rfl)
theorem dJ28_init_3 : decode cJ28_init 3 = .ok (.invokespecial 1, 3) := dk_183 0 1 (dk_at dksJ28_init_0 3 rfl rfl)
theorem dJ28_init_6 : decode cJ28_init 6 = .ok (.return_, 1) := dk_177 (dk_at dksJ28_init_0 6 rfl rfl)
abbrev cJ28_next : ByteArray := prog_69_method_3_code
def yJ28_next : MethodName := ⟨RJ28, "next", "()Ljava/lang/Object;"⟩
theorem dJ28_next_0 : decode cJ28_next 0 = .ok (.aload_n 0, 1) := by decide +kernel
theorem dJ28_next_1 : decode cJ28_next 1 = .ok (.invokevirtual 13, 3) := by decide +kernel
theorem dJ28_next_4 : decode cJ28_next 4 = .ok (.areturn, 1) := by decide +kernel
abbrev cJ28_next_2 : ByteArray := prog_69_method_2_code
def yJ28_next_2 : MethodName := ⟨RJ28, "next", "()Ljava/util/Map$Entry;"⟩
theorem dJ28_next_2_0 : decode cJ28_next_2 0 = .ok (.aload_n 0, 1) := by decide +kernel
theorem dJ28_next_2_1 : decode cJ28_next_2 1 = .ok (.invokevirtual 7, 3) := by decide +kernel
theorem dJ28_next_2_4 : decode cJ28_next_2 4 = .ok (.areturn, 1) := by decide +kernel
theorem q111 : (Jvm.Cond.initialized "java/util/TreeMap$EntryIterator") ∈ lw_all := lw_g (lw_at lw_m1 43 rfl) rfl
theorem q796 : (Jvm.Cond.selects "java/util/TreeMap$EntryIterator" ({ cls := "java/lang/Object", name := "getClass", desc := "()Ljava/lang/Class;" } : Jvm.MethodName) ({ cls := "java/lang/Object", name := "getClass", desc := "()Ljava/lang/Class;" } : Jvm.MethodName)) ∈ lw_all := lw_g (lw_at lw_m4 8 rfl) rfl
theorem q1262 : (Jvm.Cond.instantiable "java/util/TreeMap$EntryIterator" (4 : Nat)) ∈ lw_all := lw_g (lw_at lw_m5 234 rfl) rfl
theorem q1268 : (Jvm.Cond.instanceMethod ({ cls := "java/util/TreeMap$EntryIterator", name := "<init>", desc := "(Ljava/util/TreeMap;Ljava/util/TreeMap$Entry;)V" } : Jvm.MethodName)) ∈ lw_all := lw_g (lw_at lw_m6 0 rfl) rfl
theorem q1269 : (Jvm.Cond.code ({ cls := "java/util/TreeMap$EntryIterator", name := "<init>", desc := "(Ljava/util/TreeMap;Ljava/util/TreeMap$Entry;)V" } : Jvm.MethodName) prog_69_method_1_code (3 : Nat) (Option.none : Option Jvm.ClassFile.FieldType)) ∈ lw_all := lw_g (lw_at lw_m6 1 rfl) rfl
theorem q1270 : (Jvm.Cond.methodLink "java/util/TreeMap$EntryIterator" (1 : Nat) ({ cls := "java/util/TreeMap$PrivateEntryIterator", name := "<init>", desc := "(Ljava/util/TreeMap;Ljava/util/TreeMap$Entry;)V" } : Jvm.MethodName)) ∈ lw_all := lw_g (lw_at lw_m6 2 rfl) rfl
theorem q1278 : (Jvm.Cond.lays "java/util/TreeMap$EntryIterator" "java/util/TreeMap$PrivateEntryIterator" "next" "Ljava/util/TreeMap$Entry;") ∈ lw_all := lw_g (lw_at lw_m6 10 rfl) rfl
theorem q1280 : (Jvm.Cond.lays "java/util/TreeMap$EntryIterator" "java/util/TreeMap$PrivateEntryIterator" "lastReturned" "Ljava/util/TreeMap$Entry;") ∈ lw_all := lw_g (lw_at lw_m6 12 rfl) rfl
theorem q1282 : (Jvm.Cond.lays "java/util/TreeMap$EntryIterator" "java/util/TreeMap$PrivateEntryIterator" "expectedModCount" "I") ∈ lw_all := lw_g (lw_at lw_m6 14 rfl) rfl
theorem q1284 : (Jvm.Cond.laysFinal "java/util/TreeMap$EntryIterator" "java/util/TreeMap$PrivateEntryIterator" "this$0" "Ljava/util/TreeMap;") ∈ lw_all := lw_g (lw_at lw_m6 16 rfl) rfl
theorem q1286 : (Jvm.Cond.superclass "java/util/TreeMap$EntryIterator" "java/util/TreeMap$PrivateEntryIterator") ∈ lw_all := lw_g (lw_at lw_m6 18 rfl) rfl
theorem q1352 : (Jvm.Cond.castable "java/util/TreeMap$EntryIterator" "java/util/Iterator") ∈ lw_tbl := lw_at lw_m6 84 rfl
theorem q1353 : (Jvm.Cond.selects "java/util/TreeMap$EntryIterator" ({ cls := "java/util/Iterator", name := "hasNext", desc := "()Z" } : Jvm.MethodName) ({ cls := "java/util/TreeMap$PrivateEntryIterator", name := "hasNext", desc := "()Z" } : Jvm.MethodName)) ∈ lw_all := lw_g (lw_at lw_m6 85 rfl) rfl
theorem q1354 : (Jvm.Cond.unhidden "java/util/TreeMap$EntryIterator" "hasNext" "()Z") ∈ lw_tbl := lw_at lw_m6 86 rfl
theorem q1365 : (Jvm.Cond.selects "java/util/TreeMap$EntryIterator" ({ cls := "java/util/Iterator", name := "next", desc := "()Ljava/lang/Object;" } : Jvm.MethodName) ({ cls := "java/util/TreeMap$EntryIterator", name := "next", desc := "()Ljava/lang/Object;" } : Jvm.MethodName)) ∈ lw_all := lw_g (lw_at lw_m6 97 rfl) rfl
theorem q1366 : (Jvm.Cond.unhidden "java/util/TreeMap$EntryIterator" "next" "()Ljava/lang/Object;") ∈ lw_tbl := lw_at lw_m6 98 rfl
theorem q1367 : (Jvm.Cond.instanceMethod ({ cls := "java/util/TreeMap$EntryIterator", name := "next", desc := "()Ljava/lang/Object;" } : Jvm.MethodName)) ∈ lw_all := lw_g (lw_at lw_m6 99 rfl) rfl
theorem q1368 : (Jvm.Cond.publicMethod ({ cls := "java/util/TreeMap$EntryIterator", name := "next", desc := "()Ljava/lang/Object;" } : Jvm.MethodName)) ∈ lw_tbl := lw_at lw_m6 100 rfl
theorem q1369 : (Jvm.Cond.code ({ cls := "java/util/TreeMap$EntryIterator", name := "next", desc := "()Ljava/lang/Object;" } : Jvm.MethodName) prog_69_method_3_code (1 : Nat) (Option.some (Jvm.ClassFile.FieldType.object "java/lang/Object"))) ∈ lw_all := lw_g (lw_at lw_m6 101 rfl) rfl
theorem q1370 : (Jvm.Cond.methodLink "java/util/TreeMap$EntryIterator" (13 : Nat) ({ cls := "java/util/TreeMap$EntryIterator", name := "next", desc := "()Ljava/util/Map$Entry;" } : Jvm.MethodName)) ∈ lw_all := lw_g (lw_at lw_m6 102 rfl) rfl
theorem q1371 : (Jvm.Cond.instanceMethod ({ cls := "java/util/TreeMap$EntryIterator", name := "next", desc := "()Ljava/util/Map$Entry;" } : Jvm.MethodName)) ∈ lw_all := lw_g (lw_at lw_m6 103 rfl) rfl
theorem q1372 : (Jvm.Cond.selects "java/util/TreeMap$EntryIterator" ({ cls := "java/util/TreeMap$EntryIterator", name := "next", desc := "()Ljava/util/Map$Entry;" } : Jvm.MethodName) ({ cls := "java/util/TreeMap$EntryIterator", name := "next", desc := "()Ljava/util/Map$Entry;" } : Jvm.MethodName)) ∈ lw_all := lw_g (lw_at lw_m6 104 rfl) rfl
theorem q1373 : (Jvm.Cond.code ({ cls := "java/util/TreeMap$EntryIterator", name := "next", desc := "()Ljava/util/Map$Entry;" } : Jvm.MethodName) prog_69_method_2_code (1 : Nat) (Option.some (Jvm.ClassFile.FieldType.object "java/util/Map$Entry"))) ∈ lw_all := lw_g (lw_at lw_m6 105 rfl) rfl
theorem q1374 : (Jvm.Cond.methodLink "java/util/TreeMap$EntryIterator" (7 : Nat) ({ cls := "java/util/TreeMap$EntryIterator", name := "nextEntry", desc := "()Ljava/util/TreeMap$Entry;" } : Jvm.MethodName)) ∈ lw_all := lw_g (lw_at lw_m6 106 rfl) rfl
theorem q1375 : (Jvm.Cond.sameMethod "java/util/TreeMap$EntryIterator" "java/util/TreeMap$PrivateEntryIterator" "nextEntry" "()Ljava/util/TreeMap$Entry;") ∈ lw_all := lw_g (lw_at lw_m6 107 rfl) rfl
theorem q1377 : (Jvm.Cond.selects "java/util/TreeMap$EntryIterator" ({ cls := "java/util/TreeMap$EntryIterator", name := "nextEntry", desc := "()Ljava/util/TreeMap$Entry;" } : Jvm.MethodName) ({ cls := "java/util/TreeMap$PrivateEntryIterator", name := "nextEntry", desc := "()Ljava/util/TreeMap$Entry;" } : Jvm.MethodName)) ∈ lw_all := lw_g (lw_at lw_m6 109 rfl) rfl
theorem q2382 : (Jvm.Cond.castable "java/util/TreeMap$EntryIterator" "java/lang/Object") ∈ lw_tbl := lw_at lw_m10 154 rfl
theorem in_J28 : ∀ w ∈ wsJ280, w ∈ lw_all := lw_in wsJ280 [1278, 1280, 1282, 1284] (by decide +kernel) (by decide +kernel)
/-! java/util/TreeMap$KeyIterator -/
set_option maxRecDepth 100000
def RJ29 : String := "java/util/TreeMap$KeyIterator"
def TJ29 : u_T := fun k => match k with
  | 0 => ("java/util/TreeMap$PrivateEntryIterator", "next", "Ljava/util/TreeMap$Entry;", false)
  | 1 => ("java/util/TreeMap$PrivateEntryIterator", "lastReturned", "Ljava/util/TreeMap$Entry;", false)
  | 2 => ("java/util/TreeMap$PrivateEntryIterator", "expectedModCount", "I", false)
  | _ => ("java/util/TreeMap$PrivateEntryIterator", "this$0", "Ljava/util/TreeMap;", true)
def tyJ29 : Nat → FieldType := fun k => match k with
  | 0 => .object "java/util/TreeMap$Entry"
  | 1 => .object "java/util/TreeMap$Entry"
  | 2 => .int
  | _ => .object "java/util/TreeMap"
abbrev wsJ290 : List Cond := u_ws RJ29 TJ29 4
theorem nmJ29 : ∀ a, a < 4 → ∀ b, b < 4 → a ≠ b → (TJ29 a).2.1 ≠ (TJ29 b).2.1 := by decide +kernel
theorem tyJ29_ok : ∀ k, k < 4 → parseFieldDescriptor (TJ29 k).2.2.1 = some (tyJ29 k) := by decide +kernel
abbrev cJ29_init : ByteArray := prog_71_method_1_code
def yJ29_init : MethodName := ⟨RJ29, "<init>", "(Ljava/util/TreeMap;Ljava/util/TreeMap$Entry;)V"⟩
def dkwJ29_init_0 : List UInt8 := [42, 43, 44, 183, 0, 1, 177]
abbrev dktJ29_init_0 : List UInt8 := dkwJ29_init_0 ++ []
theorem dksJ29_init_0 : cJ29_init.data.toList.drop 0 = dktJ29_init_0 := by decide +kernel
theorem dJ29_init_0 : decode cJ29_init 0 = .ok (.aload_n 0, 1) := dk_42 (dk_at dksJ29_init_0 0 rfl rfl)
theorem dJ29_init_1 : decode cJ29_init 1 = .ok (.aload_n 1, 1) := dk_43 (dk_at dksJ29_init_0 1 rfl rfl)
theorem dJ29_init_2 : decode cJ29_init 2 = .ok (.aload_n 2, 1) := dk_44 (dk_at dksJ29_init_0 2 rfl rfl)
theorem dJ29_init_3 : decode cJ29_init 3 = .ok (.invokespecial 1, 3) := dk_183 0 1 (dk_at dksJ29_init_0 3 rfl rfl)
theorem dJ29_init_6 : decode cJ29_init 6 = .ok (.return_, 1) := dk_177 (dk_at dksJ29_init_0 6 rfl rfl)
abbrev cJ29_next : ByteArray := prog_71_method_2_code
def yJ29_next : MethodName := ⟨RJ29, "next", "()Ljava/lang/Object;"⟩
def dkwJ29_next_0 : List UInt8 := [42, 182, 0, 7, 180, 0, 13, 176]
abbrev dktJ29_next_0 : List UInt8 := dkwJ29_next_0 ++ []
theorem dksJ29_next_0 : cJ29_next.data.toList.drop 0 = dktJ29_next_0 := by decide +kernel
theorem dJ29_next_0 : decode cJ29_next 0 = .ok (.aload_n 0, 1) := dk_42 (dk_at dksJ29_next_0 0 rfl rfl)
theorem dJ29_next_1 : decode cJ29_next 1 = .ok (.invokevirtual 7, 3) := dk_182 0 7 (dk_at dksJ29_next_0 1 rfl rfl)
theorem dJ29_next_4 : decode cJ29_next 4 = .ok (.getfield 13, 3) := dk_180 0 13 (dk_at dksJ29_next_0 4 rfl rfl)
theorem dJ29_next_7 : decode cJ29_next 7 = .ok (.areturn, 1) := dk_176 (dk_at dksJ29_next_0 7 rfl rfl)
theorem q112 : (Jvm.Cond.initialized "java/util/TreeMap$KeyIterator") ∈ lw_all := lw_g (lw_at lw_m1 44 rfl) rfl
theorem q798 : (Jvm.Cond.selects "java/util/TreeMap$KeyIterator" ({ cls := "java/lang/Object", name := "getClass", desc := "()Ljava/lang/Class;" } : Jvm.MethodName) ({ cls := "java/lang/Object", name := "getClass", desc := "()Ljava/lang/Class;" } : Jvm.MethodName)) ∈ lw_all := lw_g (lw_at lw_m4 10 rfl) rfl
theorem q1176 : (Jvm.Cond.fieldLink "java/util/TreeMap$KeyIterator" (13 : Nat) "java/util/TreeMap$Entry" "key" "Ljava/lang/Object;") ∈ lw_all := lw_g (lw_at lw_m5 148 rfl) rfl
theorem q1299 : (Jvm.Cond.instantiable "java/util/TreeMap$KeyIterator" (4 : Nat)) ∈ lw_all := lw_g (lw_at lw_m6 31 rfl) rfl
theorem q1302 : (Jvm.Cond.instanceMethod ({ cls := "java/util/TreeMap$KeyIterator", name := "<init>", desc := "(Ljava/util/TreeMap;Ljava/util/TreeMap$Entry;)V" } : Jvm.MethodName)) ∈ lw_all := lw_g (lw_at lw_m6 34 rfl) rfl
theorem q1303 : (Jvm.Cond.code ({ cls := "java/util/TreeMap$KeyIterator", name := "<init>", desc := "(Ljava/util/TreeMap;Ljava/util/TreeMap$Entry;)V" } : Jvm.MethodName) prog_71_method_1_code (3 : Nat) (Option.none : Option Jvm.ClassFile.FieldType)) ∈ lw_all := lw_g (lw_at lw_m6 35 rfl) rfl
theorem q1304 : (Jvm.Cond.methodLink "java/util/TreeMap$KeyIterator" (1 : Nat) ({ cls := "java/util/TreeMap$PrivateEntryIterator", name := "<init>", desc := "(Ljava/util/TreeMap;Ljava/util/TreeMap$Entry;)V" } : Jvm.MethodName)) ∈ lw_all := lw_g (lw_at lw_m6 36 rfl) rfl
theorem q1305 : (Jvm.Cond.lays "java/util/TreeMap$KeyIterator" "java/util/TreeMap$PrivateEntryIterator" "next" "Ljava/util/TreeMap$Entry;") ∈ lw_all := lw_g (lw_at lw_m6 37 rfl) rfl
theorem q1306 : (Jvm.Cond.lays "java/util/TreeMap$KeyIterator" "java/util/TreeMap$PrivateEntryIterator" "lastReturned" "Ljava/util/TreeMap$Entry;") ∈ lw_all := lw_g (lw_at lw_m6 38 rfl) rfl
theorem q1307 : (Jvm.Cond.lays "java/util/TreeMap$KeyIterator" "java/util/TreeMap$PrivateEntryIterator" "expectedModCount" "I") ∈ lw_all := lw_g (lw_at lw_m6 39 rfl) rfl
theorem q1308 : (Jvm.Cond.laysFinal "java/util/TreeMap$KeyIterator" "java/util/TreeMap$PrivateEntryIterator" "this$0" "Ljava/util/TreeMap;") ∈ lw_all := lw_g (lw_at lw_m6 40 rfl) rfl
theorem q1309 : (Jvm.Cond.superclass "java/util/TreeMap$KeyIterator" "java/util/TreeMap$PrivateEntryIterator") ∈ lw_all := lw_g (lw_at lw_m6 41 rfl) rfl
theorem q1358 : (Jvm.Cond.castable "java/util/TreeMap$KeyIterator" "java/util/Iterator") ∈ lw_tbl := lw_at lw_m6 90 rfl
theorem q1359 : (Jvm.Cond.selects "java/util/TreeMap$KeyIterator" ({ cls := "java/util/Iterator", name := "hasNext", desc := "()Z" } : Jvm.MethodName) ({ cls := "java/util/TreeMap$PrivateEntryIterator", name := "hasNext", desc := "()Z" } : Jvm.MethodName)) ∈ lw_all := lw_g (lw_at lw_m6 91 rfl) rfl
theorem q1360 : (Jvm.Cond.unhidden "java/util/TreeMap$KeyIterator" "hasNext" "()Z") ∈ lw_tbl := lw_at lw_m6 92 rfl
theorem q1383 : (Jvm.Cond.selects "java/util/TreeMap$KeyIterator" ({ cls := "java/util/Iterator", name := "next", desc := "()Ljava/lang/Object;" } : Jvm.MethodName) ({ cls := "java/util/TreeMap$KeyIterator", name := "next", desc := "()Ljava/lang/Object;" } : Jvm.MethodName)) ∈ lw_all := lw_g (lw_at lw_m6 115 rfl) rfl
theorem q1384 : (Jvm.Cond.unhidden "java/util/TreeMap$KeyIterator" "next" "()Ljava/lang/Object;") ∈ lw_tbl := lw_at lw_m6 116 rfl
theorem q1385 : (Jvm.Cond.instanceMethod ({ cls := "java/util/TreeMap$KeyIterator", name := "next", desc := "()Ljava/lang/Object;" } : Jvm.MethodName)) ∈ lw_all := lw_g (lw_at lw_m6 117 rfl) rfl
theorem q1386 : (Jvm.Cond.publicMethod ({ cls := "java/util/TreeMap$KeyIterator", name := "next", desc := "()Ljava/lang/Object;" } : Jvm.MethodName)) ∈ lw_tbl := lw_at lw_m6 118 rfl
theorem q1387 : (Jvm.Cond.code ({ cls := "java/util/TreeMap$KeyIterator", name := "next", desc := "()Ljava/lang/Object;" } : Jvm.MethodName) prog_71_method_2_code (1 : Nat) (Option.some (Jvm.ClassFile.FieldType.object "java/lang/Object"))) ∈ lw_all := lw_g (lw_at lw_m6 119 rfl) rfl
theorem q1388 : (Jvm.Cond.methodLink "java/util/TreeMap$KeyIterator" (7 : Nat) ({ cls := "java/util/TreeMap$KeyIterator", name := "nextEntry", desc := "()Ljava/util/TreeMap$Entry;" } : Jvm.MethodName)) ∈ lw_all := lw_g (lw_at lw_m6 120 rfl) rfl
theorem q1389 : (Jvm.Cond.sameMethod "java/util/TreeMap$KeyIterator" "java/util/TreeMap$PrivateEntryIterator" "nextEntry" "()Ljava/util/TreeMap$Entry;") ∈ lw_all := lw_g (lw_at lw_m6 121 rfl) rfl
theorem q1390 : (Jvm.Cond.selects "java/util/TreeMap$KeyIterator" ({ cls := "java/util/TreeMap$KeyIterator", name := "nextEntry", desc := "()Ljava/util/TreeMap$Entry;" } : Jvm.MethodName) ({ cls := "java/util/TreeMap$PrivateEntryIterator", name := "nextEntry", desc := "()Ljava/util/TreeMap$Entry;" } : Jvm.MethodName)) ∈ lw_all := lw_g (lw_at lw_m6 122 rfl) rfl
theorem q2384 : (Jvm.Cond.castable "java/util/TreeMap$KeyIterator" "java/lang/Object") ∈ lw_tbl := lw_at lw_m10 156 rfl
theorem in_J29 : ∀ w ∈ wsJ290, w ∈ lw_all := lw_in wsJ290 [1305, 1306, 1307, 1308] (by decide +kernel) (by decide +kernel)
/-! java/util/AbstractMap -/
set_option maxRecDepth 100000
def RJ3 : String := "java/util/AbstractMap"
abbrev cJ3_init : ByteArray := prog_44_method_1_code
def yJ3_init : MethodName := ⟨RJ3, "<init>", "()V"⟩
theorem dJ3_init_0 : decode cJ3_init 0 = .ok (.aload_n 0, 1) := by decide +kernel
theorem dJ3_init_1 : decode cJ3_init 1 = .ok (.invokespecial 1, 3) := by decide +kernel
theorem dJ3_init_4 : decode cJ3_init 4 = .ok (.return_, 1) := by decide +kernel
theorem q74 : (Jvm.Cond.initialized "java/util/AbstractMap") ∈ lw_all := lw_g (lw_at lw_m1 6 rfl) rfl
theorem q142 : (Jvm.Cond.instanceMethod ({ cls := "java/util/AbstractMap", name := "<init>", desc := "()V" } : Jvm.MethodName)) ∈ lw_all := lw_g (lw_at lw_m1 74 rfl) rfl
theorem q143 : (Jvm.Cond.code ({ cls := "java/util/AbstractMap", name := "<init>", desc := "()V" } : Jvm.MethodName) prog_44_method_1_code (1 : Nat) (Option.none : Option Jvm.ClassFile.FieldType)) ∈ lw_all := lw_g (lw_at lw_m1 75 rfl) rfl
theorem q144 : (Jvm.Cond.methodLink "java/util/AbstractMap" (1 : Nat) ({ cls := "java/lang/Object", name := "<init>", desc := "()V" } : Jvm.MethodName)) ∈ lw_all := lw_g (lw_at lw_m1 76 rfl) rfl
theorem q167 : (Jvm.Cond.soleField "java/util/AbstractMap" "keySet") ∈ lw_all := lw_g (lw_at lw_m1 99 rfl) rfl
theorem q169 : (Jvm.Cond.soleField "java/util/AbstractMap" "values") ∈ lw_all := lw_g (lw_at lw_m1 101 rfl) rfl
/-! java/util/TreeMap$KeySet -/
set_option maxRecDepth 100000
def RJ30 : String := "java/util/TreeMap$KeySet"
def TJ30 : u_T := fun k => match k with
  | _ => ("java/util/TreeMap$KeySet", "m", "Ljava/util/NavigableMap;", true)
def tyJ30 : Nat → FieldType := fun k => match k with
  | _ => .object "java/util/NavigableMap"
abbrev wsJ300 : List Cond := u_ws RJ30 TJ30 1
theorem nmJ30 : ∀ a, a < 1 → ∀ b, b < 1 → a ≠ b → (TJ30 a).2.1 ≠ (TJ30 b).2.1 := by decide +kernel
theorem tyJ30_ok : ∀ k, k < 1 → parseFieldDescriptor (TJ30 k).2.2.1 = some (tyJ30 k) := by decide +kernel
abbrev cJ30_iterator : ByteArray := prog_72_method_2_code
def yJ30_iterator : MethodName := ⟨RJ30, "iterator", "()Ljava/util/Iterator;"⟩
def dkwJ30_iterator_1 : List UInt8 := [180, 0, 7, 192, 0, 19, 182, 0, 21, 176]
abbrev dktJ30_iterator_1 : List UInt8 := dkwJ30_iterator_1 ++ []
def dkwJ30_iterator_0 : List UInt8 := [42, 180, 0, 7, 193, 0, 13, 153, 0, 14, 42, 180, 0, 7, 192, 0, 13, 182, 0, 15, 176, 42]
abbrev dktJ30_iterator_0 : List UInt8 := dkwJ30_iterator_0 ++ dktJ30_iterator_1
theorem dksJ30_iterator_0 : cJ30_iterator.data.toList.drop 0 = dktJ30_iterator_0 := by decide +kernel
theorem dksJ30_iterator_1 : cJ30_iterator.data.toList.drop 22 = dktJ30_iterator_1 := dk_seg dksJ30_iterator_0 22 rfl rfl
theorem dJ30_iterator_0 : decode cJ30_iterator 0 = .ok (.aload_n 0, 1) := dk_42 (dk_at dksJ30_iterator_0 0 rfl rfl)
theorem dJ30_iterator_1 : decode cJ30_iterator 1 = .ok (.getfield 7, 3) := dk_180 0 7 (dk_at dksJ30_iterator_0 1 rfl rfl)
theorem dJ30_iterator_4 : decode cJ30_iterator 4 = .ok (.instanceof 13, 3) := dk_193 0 13 (dk_at dksJ30_iterator_0 4 rfl rfl)
theorem dJ30_iterator_7 : decode cJ30_iterator 7 = .ok (.ifCond .eq 14, 3) := dk_153 0 14 (dk_at dksJ30_iterator_0 7 rfl rfl)
theorem dJ30_iterator_10 : decode cJ30_iterator 10 = .ok (.aload_n 0, 1) := dk_42 (dk_at dksJ30_iterator_0 10 rfl rfl)
theorem dJ30_iterator_11 : decode cJ30_iterator 11 = .ok (.getfield 7, 3) := dk_180 0 7 (dk_at dksJ30_iterator_0 11 rfl rfl)
theorem dJ30_iterator_14 : decode cJ30_iterator 14 = .ok (.checkcast 13, 3) := dk_192 0 13 (dk_at dksJ30_iterator_0 14 rfl rfl)
theorem dJ30_iterator_17 : decode cJ30_iterator 17 = .ok (.invokevirtual 15, 3) := dk_182 0 15 (dk_at dksJ30_iterator_0 17 rfl rfl)
theorem dJ30_iterator_20 : decode cJ30_iterator 20 = .ok (.areturn, 1) := dk_176 (dk_at dksJ30_iterator_0 20 rfl rfl)
theorem dJ30_iterator_21 : decode cJ30_iterator 21 = .ok (.aload_n 0, 1) := dk_42 (dk_at dksJ30_iterator_0 21 rfl rfl)
theorem dJ30_iterator_22 : decode cJ30_iterator 22 = .ok (.getfield 7, 3) := dk_180 0 7 (dk_at dksJ30_iterator_1 0 rfl rfl)
theorem dJ30_iterator_25 : decode cJ30_iterator 25 = .ok (.checkcast 19, 3) := dk_192 0 19 (dk_at dksJ30_iterator_1 3 rfl rfl)
theorem dJ30_iterator_28 : decode cJ30_iterator 28 = .ok (.invokevirtual 21, 3) := dk_182 0 21 (dk_at dksJ30_iterator_1 6 rfl rfl)
theorem dJ30_iterator_31 : decode cJ30_iterator 31 = .ok (.areturn, 1) := dk_176 (dk_at dksJ30_iterator_1 9 rfl rfl)
abbrev cJ30_init : ByteArray := prog_72_method_1_code
def yJ30_init : MethodName := ⟨RJ30, "<init>", "(Ljava/util/NavigableMap;)V"⟩
def dkwJ30_init_0 : List UInt8 := [42, 183, 0, 1, 42, 43, 181, 0, 7, 177]
abbrev dktJ30_init_0 : List UInt8 := dkwJ30_init_0 ++ []
theorem dksJ30_init_0 : cJ30_init.data.toList.drop 0 = dktJ30_init_0 := by decide +kernel
theorem dJ30_init_0 : decode cJ30_init 0 = .ok (.aload_n 0, 1) := dk_42 (dk_at dksJ30_init_0 0 rfl rfl)
theorem dJ30_init_1 : decode cJ30_init 1 = .ok (.invokespecial 1, 3) := dk_183 0 1 (dk_at dksJ30_init_0 1 rfl rfl)
theorem dJ30_init_4 : decode cJ30_init 4 = .ok (.aload_n 0, 1) := dk_42 (dk_at dksJ30_init_0 4 rfl rfl)
theorem dJ30_init_5 : decode cJ30_init 5 = .ok (.aload_n 1, 1) := dk_43 (dk_at dksJ30_init_0 5 rfl rfl)
theorem dJ30_init_6 : decode cJ30_init 6 = .ok (.putfield 7, 3) := dk_181 0 7 (dk_at dksJ30_init_0 6 rfl rfl)
theorem dJ30_init_9 : decode cJ30_init 9 = .ok (.return_, 1) := dk_177 (dk_at dksJ30_init_0 9 rfl rfl)
theorem q113 : (Jvm.Cond.initialized "java/util/TreeMap$KeySet") ∈ lw_all := lw_g (lw_at lw_m1 45 rfl) rfl
theorem q799 : (Jvm.Cond.selects "java/util/TreeMap$KeySet" ({ cls := "java/lang/Object", name := "getClass", desc := "()Ljava/lang/Class;" } : Jvm.MethodName) ({ cls := "java/lang/Object", name := "getClass", desc := "()Ljava/lang/Class;" } : Jvm.MethodName)) ∈ lw_all := lw_g (lw_at lw_m4 11 rfl) rfl
theorem q1287 : (Jvm.Cond.castable "java/util/TreeMap$KeySet" "java/util/Set") ∈ lw_tbl := lw_at lw_m6 19 rfl
theorem q1288 : (Jvm.Cond.selects "java/util/TreeMap$KeySet" ({ cls := "java/util/Set", name := "iterator", desc := "()Ljava/util/Iterator;" } : Jvm.MethodName) ({ cls := "java/util/TreeMap$KeySet", name := "iterator", desc := "()Ljava/util/Iterator;" } : Jvm.MethodName)) ∈ lw_all := lw_g (lw_at lw_m6 20 rfl) rfl
theorem q1289 : (Jvm.Cond.unhidden "java/util/TreeMap$KeySet" "iterator" "()Ljava/util/Iterator;") ∈ lw_tbl := lw_at lw_m6 21 rfl
theorem q1290 : (Jvm.Cond.instanceMethod ({ cls := "java/util/TreeMap$KeySet", name := "iterator", desc := "()Ljava/util/Iterator;" } : Jvm.MethodName)) ∈ lw_all := lw_g (lw_at lw_m6 22 rfl) rfl
theorem q1291 : (Jvm.Cond.publicMethod ({ cls := "java/util/TreeMap$KeySet", name := "iterator", desc := "()Ljava/util/Iterator;" } : Jvm.MethodName)) ∈ lw_tbl := lw_at lw_m6 23 rfl
theorem q1292 : (Jvm.Cond.code ({ cls := "java/util/TreeMap$KeySet", name := "iterator", desc := "()Ljava/util/Iterator;" } : Jvm.MethodName) prog_72_method_2_code (1 : Nat) (Option.some (Jvm.ClassFile.FieldType.object "java/util/Iterator"))) ∈ lw_all := lw_g (lw_at lw_m6 24 rfl) rfl
theorem q1293 : (Jvm.Cond.classLink "java/util/TreeMap$KeySet" (13 : Nat) "java/util/TreeMap") ∈ lw_all := lw_g (lw_at lw_m6 25 rfl) rfl
theorem q1294 : (Jvm.Cond.methodLink "java/util/TreeMap$KeySet" (15 : Nat) ({ cls := "java/util/TreeMap", name := "keyIterator", desc := "()Ljava/util/Iterator;" } : Jvm.MethodName)) ∈ lw_all := lw_g (lw_at lw_m6 26 rfl) rfl
theorem q1310 : (Jvm.Cond.classLink "java/util/TreeMap$KeySet" (19 : Nat) "java/util/TreeMap$NavigableSubMap") ∈ lw_all := lw_g (lw_at lw_m6 42 rfl) rfl
theorem q1311 : (Jvm.Cond.methodLink "java/util/TreeMap$KeySet" (21 : Nat) ({ cls := "java/util/TreeMap$NavigableSubMap", name := "keyIterator", desc := "()Ljava/util/Iterator;" } : Jvm.MethodName)) ∈ lw_all := lw_g (lw_at lw_m6 43 rfl) rfl
theorem q1331 : (Jvm.Cond.instantiable "java/util/TreeMap$KeySet" (1 : Nat)) ∈ lw_all := lw_g (lw_at lw_m6 63 rfl) rfl
theorem q1333 : (Jvm.Cond.instanceMethod ({ cls := "java/util/TreeMap$KeySet", name := "<init>", desc := "(Ljava/util/NavigableMap;)V" } : Jvm.MethodName)) ∈ lw_all := lw_g (lw_at lw_m6 65 rfl) rfl
theorem q1334 : (Jvm.Cond.code ({ cls := "java/util/TreeMap$KeySet", name := "<init>", desc := "(Ljava/util/NavigableMap;)V" } : Jvm.MethodName) prog_72_method_1_code (2 : Nat) (Option.none : Option Jvm.ClassFile.FieldType)) ∈ lw_all := lw_g (lw_at lw_m6 66 rfl) rfl
theorem q1335 : (Jvm.Cond.methodLink "java/util/TreeMap$KeySet" (1 : Nat) ({ cls := "java/util/AbstractSet", name := "<init>", desc := "()V" } : Jvm.MethodName)) ∈ lw_all := lw_g (lw_at lw_m6 67 rfl) rfl
theorem q1336 : (Jvm.Cond.fieldLink "java/util/TreeMap$KeySet" (7 : Nat) "java/util/TreeMap$KeySet" "m" "Ljava/util/NavigableMap;") ∈ lw_all := lw_g (lw_at lw_m6 68 rfl) rfl
theorem q1337 : (Jvm.Cond.laysFinal "java/util/TreeMap$KeySet" "java/util/TreeMap$KeySet" "m" "Ljava/util/NavigableMap;") ∈ lw_all := lw_g (lw_at lw_m6 69 rfl) rfl
theorem q1338 : (Jvm.Cond.soleField "java/util/TreeMap$KeySet" "m") ∈ lw_all := lw_g (lw_at lw_m6 70 rfl) rfl
theorem q1339 : (Jvm.Cond.superclass "java/util/TreeMap$KeySet" "java/util/AbstractSet") ∈ lw_all := lw_g (lw_at lw_m6 71 rfl) rfl
theorem q1344 : (Jvm.Cond.castable "java/util/TreeMap$KeySet" "java/util/NavigableSet") ∈ lw_tbl := lw_at lw_m6 76 rfl
theorem q1345 : (Jvm.Cond.selects "java/util/TreeMap$KeySet" ({ cls := "java/util/NavigableSet", name := "iterator", desc := "()Ljava/util/Iterator;" } : Jvm.MethodName) ({ cls := "java/util/TreeMap$KeySet", name := "iterator", desc := "()Ljava/util/Iterator;" } : Jvm.MethodName)) ∈ lw_all := lw_g (lw_at lw_m6 77 rfl) rfl
theorem q2383 : (Jvm.Cond.castable "java/util/TreeMap$KeySet" "java/lang/Object") ∈ lw_tbl := lw_at lw_m10 155 rfl
theorem in_J30 : ∀ w ∈ wsJ300, w ∈ lw_all := lw_in wsJ300 [1337] (by decide +kernel) (by decide +kernel)
/-! java/lang/IndexOutOfBoundsException -/
set_option maxRecDepth 100000
def RJ31 : String := "java/lang/IndexOutOfBoundsException"
abbrev cJ31_init : ByteArray := prog_25_method_2_code
def yJ31_init : MethodName := ⟨RJ31, "<init>", "(Ljava/lang/String;)V"⟩
def dkwJ31_init_0 : List UInt8 := [42, 43, 183, 0, 7, 177]
abbrev dktJ31_init_0 : List UInt8 := dkwJ31_init_0 ++ []
theorem dksJ31_init_0 : cJ31_init.data.toList.drop 0 = dktJ31_init_0 := by decide +kernel
theorem dJ31_init_0 : decode cJ31_init 0 = .ok (.aload_n 0, 1) := dk_42 (dk_at dksJ31_init_0 0 rfl rfl)
theorem dJ31_init_1 : decode cJ31_init 1 = .ok (.aload_n 1, 1) := dk_43 (dk_at dksJ31_init_0 1 rfl rfl)
theorem dJ31_init_2 : decode cJ31_init 2 = .ok (.invokespecial 7, 3) := dk_183 0 7 (dk_at dksJ31_init_0 2 rfl rfl)
theorem dJ31_init_5 : decode cJ31_init 5 = .ok (.return_, 1) := dk_177 (dk_at dksJ31_init_0 5 rfl rfl)
theorem q115 : (Jvm.Cond.initialized "java/lang/IndexOutOfBoundsException") ∈ lw_all := lw_g (lw_at lw_m1 47 rfl) rfl
theorem q1680 : (Jvm.Cond.declares ({ cls := "java/lang/IndexOutOfBoundsException", name := "<init>", desc := "()V" } : Jvm.MethodName)) ∈ lw_tbl := lw_at lw_m7 172 rfl
theorem q1681 : (Jvm.Cond.declares ({ cls := "java/lang/IndexOutOfBoundsException", name := "<init>", desc := "(Ljava/lang/String;)V" } : Jvm.MethodName)) ∈ lw_tbl := lw_at lw_m7 173 rfl
theorem q1838 : (Jvm.Cond.instanceMethod ({ cls := "java/lang/IndexOutOfBoundsException", name := "<init>", desc := "(Ljava/lang/String;)V" } : Jvm.MethodName)) ∈ lw_all := lw_g (lw_at lw_m8 90 rfl) rfl
theorem q1839 : (Jvm.Cond.code ({ cls := "java/lang/IndexOutOfBoundsException", name := "<init>", desc := "(Ljava/lang/String;)V" } : Jvm.MethodName) prog_25_method_2_code (2 : Nat) (Option.none : Option Jvm.ClassFile.FieldType)) ∈ lw_all := lw_g (lw_at lw_m8 91 rfl) rfl
theorem q1840 : (Jvm.Cond.methodLink "java/lang/IndexOutOfBoundsException" (7 : Nat) ({ cls := "java/lang/RuntimeException", name := "<init>", desc := "(Ljava/lang/String;)V" } : Jvm.MethodName)) ∈ lw_all := lw_g (lw_at lw_m8 92 rfl) rfl
/-! java/lang/ArrayIndexOutOfBoundsException -/
set_option maxRecDepth 100000
def RJ32 : String := "java/lang/ArrayIndexOutOfBoundsException"
def TJ32 : u_T := fun k => match k with
  | 0 => ("java/lang/Throwable", "cause", "Ljava/lang/Throwable;", false)
  | 1 => ("java/lang/Throwable", "stackTrace", "[Ljava/lang/StackTraceElement;", false)
  | 2 => ("java/lang/Throwable", "suppressedExceptions", "Ljava/util/List;", false)
  | 3 => ("java/lang/Throwable", "detailMessage", "Ljava/lang/String;", false)
  | 4 => ("java/lang/Throwable", "backtrace", "Ljava/lang/Object;", false)
  | _ => ("java/lang/Throwable", "depth", "I", false)
def tyJ32 : Nat → FieldType := fun k => match k with
  | 0 => .object "java/lang/Throwable"
  | 1 => .array (.object "java/lang/StackTraceElement")
  | 2 => .object "java/util/List"
  | 3 => .object "java/lang/String"
  | 4 => .object "java/lang/Object"
  | _ => .int
abbrev wsJ320 : List Cond := u_ws RJ32 TJ32 6
theorem nmJ32 : ∀ a, a < 6 → ∀ b, b < 6 → a ≠ b → (TJ32 a).2.1 ≠ (TJ32 b).2.1 := by decide +kernel
theorem tyJ32_ok : ∀ k, k < 6 → parseFieldDescriptor (TJ32 k).2.2.1 = some (tyJ32 k) := by decide +kernel
abbrev cJ32_init : ByteArray := prog_20_method_3_code
def yJ32_init : MethodName := ⟨RJ32, "<init>", "(I)V"⟩
def dkwJ32_init_0 : List UInt8 := [42, 187, 0, 10, 89, 183, 0, 12, 18, 13, 182, 0, 15, 27, 182, 0, 19, 182, 0, 22, 183, 0, 7, 177]
abbrev dktJ32_init_0 : List UInt8 := dkwJ32_init_0 ++ []
theorem dksJ32_init_0 : cJ32_init.data.toList.drop 0 = dktJ32_init_0 := by decide +kernel
theorem dJ32_init_0 : decode cJ32_init 0 = .ok (.aload_n 0, 1) := dk_42 (dk_at dksJ32_init_0 0 rfl rfl)
theorem dJ32_init_1 : decode cJ32_init 1 = .ok (.new 10, 3) := dk_187 0 10 (dk_at dksJ32_init_0 1 rfl rfl)
theorem dJ32_init_4 : decode cJ32_init 4 = .ok (.dup, 1) := dk_89 (dk_at dksJ32_init_0 4 rfl rfl)
theorem dJ32_init_5 : decode cJ32_init 5 = .ok (.invokespecial 12, 3) := dk_183 0 12 (dk_at dksJ32_init_0 5 rfl rfl)
theorem dJ32_init_8 : decode cJ32_init 8 = .ok (.ldc 13, 2) := dk_18 13 (dk_at dksJ32_init_0 8 rfl rfl)
theorem dJ32_init_10 : decode cJ32_init 10 = .ok (.invokevirtual 15, 3) := dk_182 0 15 (dk_at dksJ32_init_0 10 rfl rfl)
theorem dJ32_init_13 : decode cJ32_init 13 = .ok (.iload_n 1, 1) := dk_27 (dk_at dksJ32_init_0 13 rfl rfl)
theorem dJ32_init_14 : decode cJ32_init 14 = .ok (.invokevirtual 19, 3) := dk_182 0 19 (dk_at dksJ32_init_0 14 rfl rfl)
theorem dJ32_init_17 : decode cJ32_init 17 = .ok (.invokevirtual 22, 3) := dk_182 0 22 (dk_at dksJ32_init_0 17 rfl rfl)
theorem dJ32_init_20 : decode cJ32_init 20 = .ok (.invokespecial 7, 3) := dk_183 0 7 (dk_at dksJ32_init_0 20 rfl rfl)
theorem dJ32_init_23 : decode cJ32_init 23 = .ok (.return_, 1) := dk_177 (dk_at dksJ32_init_0 23 rfl rfl)
abbrev cJ32_init_2 : ByteArray := prog_20_method_2_code
def yJ32_init_2 : MethodName := ⟨RJ32, "<init>", "(Ljava/lang/String;)V"⟩
def dkwJ32_init_2_0 : List UInt8 := [42, 43, 183, 0, 7, 177]
abbrev dktJ32_init_2_0 : List UInt8 := dkwJ32_init_2_0 ++ []
theorem dksJ32_init_2_0 : cJ32_init_2.data.toList.drop 0 = dktJ32_init_2_0 := by decide +kernel
theorem dJ32_init_2_0 : decode cJ32_init_2 0 = .ok (.aload_n 0, 1) := dk_42 (dk_at dksJ32_init_2_0 0 rfl rfl)
theorem dJ32_init_2_1 : decode cJ32_init_2 1 = .ok (.aload_n 1, 1) := dk_43 (dk_at dksJ32_init_2_0 1 rfl rfl)
theorem dJ32_init_2_2 : decode cJ32_init_2 2 = .ok (.invokespecial 7, 3) := dk_183 0 7 (dk_at dksJ32_init_2_0 2 rfl rfl)
theorem dJ32_init_2_5 : decode cJ32_init_2 5 = .ok (.return_, 1) := dk_177 (dk_at dksJ32_init_2_0 5 rfl rfl)
theorem q116 : (Jvm.Cond.initialized "java/lang/ArrayIndexOutOfBoundsException") ∈ lw_all := lw_g (lw_at lw_m1 48 rfl) rfl
theorem q294 : (Jvm.Cond.selects "java/lang/ArrayIndexOutOfBoundsException" ({ cls := "java/lang/Throwable", name := "fillInStackTrace", desc := "()Ljava/lang/Throwable;" } : Jvm.MethodName) ({ cls := "java/lang/Throwable", name := "fillInStackTrace", desc := "()Ljava/lang/Throwable;" } : Jvm.MethodName)) ∈ lw_all := lw_g (lw_at lw_m1 226 rfl) rfl
theorem q788 : (Jvm.Cond.selects "java/lang/ArrayIndexOutOfBoundsException" ({ cls := "java/lang/Object", name := "getClass", desc := "()Ljava/lang/Class;" } : Jvm.MethodName) ({ cls := "java/lang/Object", name := "getClass", desc := "()Ljava/lang/Class;" } : Jvm.MethodName)) ∈ lw_all := lw_g (lw_at lw_m4 0 rfl) rfl
theorem q1678 : (Jvm.Cond.instantiable "java/lang/ArrayIndexOutOfBoundsException" (6 : Nat)) ∈ lw_all := lw_g (lw_at lw_m7 170 rfl) rfl
theorem q1679 : (Jvm.Cond.castable "java/lang/ArrayIndexOutOfBoundsException" "java/lang/ArrayIndexOutOfBoundsException") ∈ lw_tbl := lw_at lw_m7 171 rfl
theorem q1682 : (Jvm.Cond.selects "java/lang/ArrayIndexOutOfBoundsException" ({ cls := "java/lang/Throwable", name := "fillInStackTrace", desc := "(I)Ljava/lang/Throwable;" } : Jvm.MethodName) ({ cls := "java/lang/Throwable", name := "fillInStackTrace", desc := "(I)Ljava/lang/Throwable;" } : Jvm.MethodName)) ∈ lw_all := lw_g (lw_at lw_m7 174 rfl) rfl
theorem q1683 : (Jvm.Cond.lays "java/lang/ArrayIndexOutOfBoundsException" "java/lang/Throwable" "cause" "Ljava/lang/Throwable;") ∈ lw_all := lw_g (lw_at lw_m7 175 rfl) rfl
theorem q1684 : (Jvm.Cond.lays "java/lang/ArrayIndexOutOfBoundsException" "java/lang/Throwable" "stackTrace" "[Ljava/lang/StackTraceElement;") ∈ lw_all := lw_g (lw_at lw_m7 176 rfl) rfl
theorem q1685 : (Jvm.Cond.lays "java/lang/ArrayIndexOutOfBoundsException" "java/lang/Throwable" "suppressedExceptions" "Ljava/util/List;") ∈ lw_all := lw_g (lw_at lw_m7 177 rfl) rfl
theorem q1686 : (Jvm.Cond.lays "java/lang/ArrayIndexOutOfBoundsException" "java/lang/Throwable" "detailMessage" "Ljava/lang/String;") ∈ lw_all := lw_g (lw_at lw_m7 178 rfl) rfl
theorem q1687 : (Jvm.Cond.lays "java/lang/ArrayIndexOutOfBoundsException" "java/lang/Throwable" "backtrace" "Ljava/lang/Object;") ∈ lw_all := lw_g (lw_at lw_m7 179 rfl) rfl
theorem q1689 : (Jvm.Cond.instanceMethod ({ cls := "java/lang/ArrayIndexOutOfBoundsException", name := "<init>", desc := "(I)V" } : Jvm.MethodName)) ∈ lw_all := lw_g (lw_at lw_m7 181 rfl) rfl
theorem q1690 : (Jvm.Cond.code ({ cls := "java/lang/ArrayIndexOutOfBoundsException", name := "<init>", desc := "(I)V" } : Jvm.MethodName) prog_20_method_3_code (2 : Nat) (Option.none : Option Jvm.ClassFile.FieldType)) ∈ lw_all := lw_g (lw_at lw_m7 182 rfl) rfl
theorem q1691 : (Jvm.Cond.classLink "java/lang/ArrayIndexOutOfBoundsException" (10 : Nat) "java/lang/StringBuilder") ∈ lw_all := lw_g (lw_at lw_m7 183 rfl) rfl
theorem q1692 : (Jvm.Cond.methodLink "java/lang/ArrayIndexOutOfBoundsException" (12 : Nat) ({ cls := "java/lang/StringBuilder", name := "<init>", desc := "()V" } : Jvm.MethodName)) ∈ lw_all := lw_g (lw_at lw_m7 184 rfl) rfl
theorem q1693 : (Jvm.Cond.stringRef "java/lang/ArrayIndexOutOfBoundsException" (13 : Nat) "Array index out of range: ") ∈ lw_tbl := lw_at lw_m7 185 rfl
theorem q1694 : (Jvm.Cond.methodLink "java/lang/ArrayIndexOutOfBoundsException" (15 : Nat) ({ cls := "java/lang/StringBuilder", name := "append", desc := "(Ljava/lang/String;)Ljava/lang/StringBuilder;" } : Jvm.MethodName)) ∈ lw_all := lw_g (lw_at lw_m7 186 rfl) rfl
theorem q1755 : (Jvm.Cond.methodLink "java/lang/ArrayIndexOutOfBoundsException" (19 : Nat) ({ cls := "java/lang/StringBuilder", name := "append", desc := "(I)Ljava/lang/StringBuilder;" } : Jvm.MethodName)) ∈ lw_all := lw_g (lw_at lw_m8 7 rfl) rfl
theorem q1780 : (Jvm.Cond.methodLink "java/lang/ArrayIndexOutOfBoundsException" (22 : Nat) ({ cls := "java/lang/StringBuilder", name := "toString", desc := "()Ljava/lang/String;" } : Jvm.MethodName)) ∈ lw_all := lw_g (lw_at lw_m8 32 rfl) rfl
theorem q1837 : (Jvm.Cond.methodLink "java/lang/ArrayIndexOutOfBoundsException" (7 : Nat) ({ cls := "java/lang/IndexOutOfBoundsException", name := "<init>", desc := "(Ljava/lang/String;)V" } : Jvm.MethodName)) ∈ lw_all := lw_g (lw_at lw_m8 89 rfl) rfl
theorem q1849 : (Jvm.Cond.lays "java/lang/ArrayIndexOutOfBoundsException" "java/lang/Throwable" "depth" "I") ∈ lw_all := lw_g (lw_at lw_m8 101 rfl) rfl
theorem q1850 : (Jvm.Cond.superclass "java/lang/ArrayIndexOutOfBoundsException" "java/lang/IndexOutOfBoundsException") ∈ lw_all := lw_g (lw_at lw_m8 102 rfl) rfl
theorem q1923 : (Jvm.Cond.instanceMethod ({ cls := "java/lang/ArrayIndexOutOfBoundsException", name := "<init>", desc := "(Ljava/lang/String;)V" } : Jvm.MethodName)) ∈ lw_all := lw_g (lw_at lw_m8 175 rfl) rfl
theorem q1924 : (Jvm.Cond.code ({ cls := "java/lang/ArrayIndexOutOfBoundsException", name := "<init>", desc := "(Ljava/lang/String;)V" } : Jvm.MethodName) prog_20_method_2_code (2 : Nat) (Option.none : Option Jvm.ClassFile.FieldType)) ∈ lw_all := lw_g (lw_at lw_m8 176 rfl) rfl
theorem q2386 : (Jvm.Cond.castable "java/lang/ArrayIndexOutOfBoundsException" "java/lang/Object") ∈ lw_tbl := lw_at lw_m10 158 rfl
theorem in_J32 : ∀ w ∈ wsJ320, w ∈ lw_all := lw_in wsJ320 [1683, 1684, 1685, 1686, 1687, 1849] (by decide +kernel) (by decide +kernel)
/-! java/lang/Object -/
set_option maxRecDepth 100000
def RJ33 : String := "java/lang/Object"
abbrev cJ33_init : ByteArray := object_method_1_code
def yJ33_init : MethodName := ⟨RJ33, "<init>", "()V"⟩
theorem dJ33_init_0 : decode cJ33_init 0 = .ok (.return_, 1) := by decide +kernel
theorem q123 : (Jvm.Cond.instanceMethod ({ cls := "java/lang/Object", name := "<init>", desc := "()V" } : Jvm.MethodName)) ∈ lw_all := lw_g (lw_at lw_m1 55 rfl) rfl
theorem q124 : (Jvm.Cond.code ({ cls := "java/lang/Object", name := "<init>", desc := "()V" } : Jvm.MethodName) object_method_1_code (1 : Nat) (Option.none : Option Jvm.ClassFile.FieldType)) ∈ lw_all := lw_g (lw_at lw_m1 56 rfl) rfl
theorem q774 : (Jvm.Cond.instanceMethod ({ cls := "java/lang/Object", name := "getClass", desc := "()Ljava/lang/Class;" } : Jvm.MethodName)) ∈ lw_all := lw_g (lw_at lw_m3 226 rfl) rfl
theorem q775 : (Jvm.Cond.sameMethod "java/lang/Object" "java/lang/Object" "getClass" "()Ljava/lang/Class;") ∈ lw_all := lw_g (lw_at lw_m3 227 rfl) rfl
theorem q802 : (Jvm.Cond.native ({ cls := "java/lang/Object", name := "getClass", desc := "()Ljava/lang/Class;" } : Jvm.MethodName)) ∈ lw_all := lw_g (lw_at lw_m4 14 rfl) rfl
theorem q1663 : (Jvm.Cond.native ({ cls := "java/lang/Object", name := "clone", desc := "()Ljava/lang/Object;" } : Jvm.MethodName)) ∈ lw_all := lw_g (lw_at lw_m7 155 rfl) rfl
theorem q1664 : (Jvm.Cond.instanceMethod ({ cls := "java/lang/Object", name := "clone", desc := "()Ljava/lang/Object;" } : Jvm.MethodName)) ∈ lw_all := lw_g (lw_at lw_m7 156 rfl) rfl
theorem q2359 : (Jvm.Cond.initialized "java/lang/Object") ∈ lw_all := lw_g (lw_at lw_m10 131 rfl) rfl
theorem q2391 : (Jvm.Cond.declares ({ cls := "java/lang/Object", name := "getClass", desc := "()Ljava/lang/Class;" } : Jvm.MethodName)) ∈ lw_tbl := lw_at lw_m10 163 rfl
theorem q2402 : (Jvm.Cond.instantiable "java/lang/Object" (0 : Nat)) ∈ lw_all := lw_g (lw_at lw_m10 174 rfl) rfl
/-! java/lang/AbstractStringBuilder -/
set_option maxRecDepth 100000
def RJ5 : String := "java/lang/AbstractStringBuilder"
abbrev cJ5_init : ByteArray := prog_18_method_2_code
def yJ5_init : MethodName := ⟨RJ5, "<init>", "(I)V"⟩
def dkwJ5_init_1 : List UInt8 := [167, 0, 16, 42, 27, 184, 0, 26, 181, 0, 15, 42, 4, 181, 0, 22, 177]
abbrev dktJ5_init_1 : List UInt8 := dkwJ5_init_1 ++ []
def dkwJ5_init_0 : List UInt8 := [42, 183, 0, 3, 178, 0, 18, 153, 0, 18, 42, 27, 188, 8, 181, 0, 15, 42, 3, 181, 0, 22]
abbrev dktJ5_init_0 : List UInt8 := dkwJ5_init_0 ++ dktJ5_init_1
theorem dksJ5_init_0 : cJ5_init.data.toList.drop 0 = dktJ5_init_0 := by decide +kernel
theorem dksJ5_init_1 : cJ5_init.data.toList.drop 22 = dktJ5_init_1 := dk_seg dksJ5_init_0 22 rfl rfl
theorem dJ5_init_0 : decode cJ5_init 0 = .ok (.aload_n 0, 1) := dk_42 (dk_at dksJ5_init_0 0 rfl rfl)
theorem dJ5_init_1 : decode cJ5_init 1 = .ok (.invokespecial 3, 3) := dk_183 0 3 (dk_at dksJ5_init_0 1 rfl rfl)
theorem dJ5_init_4 : decode cJ5_init 4 = .ok (.getstatic 18, 3) := dk_178 0 18 (dk_at dksJ5_init_0 4 rfl rfl)
theorem dJ5_init_7 : decode cJ5_init 7 = .ok (.ifCond .eq 18, 3) := dk_153 0 18 (dk_at dksJ5_init_0 7 rfl rfl)
theorem dJ5_init_10 : decode cJ5_init 10 = .ok (.aload_n 0, 1) := dk_42 (dk_at dksJ5_init_0 10 rfl rfl)
theorem dJ5_init_11 : decode cJ5_init 11 = .ok (.iload_n 1, 1) := dk_27 (dk_at dksJ5_init_0 11 rfl rfl)
theorem dJ5_init_12 : decode cJ5_init 12 = .ok (.newarray .byte, 2) := dk_188_8 (dk_at dksJ5_init_0 12 rfl rfl)
theorem dJ5_init_14 : decode cJ5_init 14 = .ok (.putfield 15, 3) := dk_181 0 15 (dk_at dksJ5_init_0 14 rfl rfl)
theorem dJ5_init_17 : decode cJ5_init 17 = .ok (.aload_n 0, 1) := dk_42 (dk_at dksJ5_init_0 17 rfl rfl)
theorem dJ5_init_18 : decode cJ5_init 18 = .ok (.iconst 0, 1) := dk_3 (dk_at dksJ5_init_0 18 rfl rfl)
theorem dJ5_init_19 : decode cJ5_init 19 = .ok (.putfield 22, 3) := dk_181 0 22 (dk_at dksJ5_init_0 19 rfl rfl)
theorem dJ5_init_22 : decode cJ5_init 22 = .ok (.goto 16, 3) := dk_167 0 16 (dk_at dksJ5_init_1 0 rfl rfl)
theorem dJ5_init_25 : decode cJ5_init 25 = .ok (.aload_n 0, 1) := dk_42 (dk_at dksJ5_init_1 3 rfl rfl)
theorem dJ5_init_26 : decode cJ5_init 26 = .ok (.iload_n 1, 1) := dk_27 (dk_at dksJ5_init_1 4 rfl rfl)
theorem dJ5_init_27 : decode cJ5_init 27 = .ok (.invokestatic 26, 3) := dk_184 0 26 (dk_at dksJ5_init_1 5 rfl rfl)
theorem dJ5_init_30 : decode cJ5_init 30 = .ok (.putfield 15, 3) := dk_181 0 15 (dk_at dksJ5_init_1 8 rfl rfl)
theorem dJ5_init_33 : decode cJ5_init 33 = .ok (.aload_n 0, 1) := dk_42 (dk_at dksJ5_init_1 11 rfl rfl)
theorem dJ5_init_34 : decode cJ5_init 34 = .ok (.iconst 1, 1) := dk_4 (dk_at dksJ5_init_1 12 rfl rfl)
theorem dJ5_init_35 : decode cJ5_init 35 = .ok (.putfield 22, 3) := dk_181 0 22 (dk_at dksJ5_init_1 13 rfl rfl)
theorem dJ5_init_38 : decode cJ5_init 38 = .ok (.return_, 1) := dk_177 (dk_at dksJ5_init_1 16 rfl rfl)
abbrev cJ5_compareTo : ByteArray := prog_18_method_5_code
def yJ5_compareTo : MethodName := ⟨RJ5, "compareTo", "(Ljava/lang/AbstractStringBuilder;)I"⟩
def dkwJ5_compareTo_4 : List UInt8 := [184, 0, 97, 172]
abbrev dktJ5_compareTo_4 : List UInt8 := dkwJ5_compareTo_4 ++ []
def dkwJ5_compareTo_3 : List UInt8 := [182, 0, 83, 153, 0, 15, 44, 45, 21, 4, 21, 5, 184, 0, 94, 167, 0, 12, 44, 45, 21, 4, 21, 5]
abbrev dktJ5_compareTo_3 : List UInt8 := dkwJ5_compareTo_3 ++ dktJ5_compareTo_4
def dkwJ5_compareTo_2 : List UInt8 := [45, 21, 4, 21, 5, 184, 0, 87, 167, 0, 12, 44, 45, 21, 4, 21, 5, 184, 0, 93, 172, 42]
abbrev dktJ5_compareTo_2 : List UInt8 := dkwJ5_compareTo_2 ++ dktJ5_compareTo_3
def dkwJ5_compareTo_1 : List UInt8 := [180, 0, 79, 54, 5, 42, 180, 0, 22, 43, 180, 0, 22, 160, 0, 32, 42, 182, 0, 83, 153, 0, 15, 44]
abbrev dktJ5_compareTo_1 : List UInt8 := dkwJ5_compareTo_1 ++ dktJ5_compareTo_2
def dkwJ5_compareTo_0 : List UInt8 := [42, 43, 166, 0, 5, 3, 172, 42, 180, 0, 15, 77, 43, 180, 0, 15, 78, 42, 180, 0, 79, 54, 4, 43]
abbrev dktJ5_compareTo_0 : List UInt8 := dkwJ5_compareTo_0 ++ dktJ5_compareTo_1
theorem dksJ5_compareTo_0 : cJ5_compareTo.data.toList.drop 0 = dktJ5_compareTo_0 := by decide +kernel
theorem dksJ5_compareTo_1 : cJ5_compareTo.data.toList.drop 24 = dktJ5_compareTo_1 := dk_seg dksJ5_compareTo_0 24 rfl rfl
theorem dksJ5_compareTo_2 : cJ5_compareTo.data.toList.drop 48 = dktJ5_compareTo_2 := dk_seg dksJ5_compareTo_1 24 rfl rfl
theorem dksJ5_compareTo_3 : cJ5_compareTo.data.toList.drop 70 = dktJ5_compareTo_3 := dk_seg dksJ5_compareTo_2 22 rfl rfl
theorem dksJ5_compareTo_4 : cJ5_compareTo.data.toList.drop 94 = dktJ5_compareTo_4 := dk_seg dksJ5_compareTo_3 24 rfl rfl
theorem dJ5_compareTo_0 : decode cJ5_compareTo 0 = .ok (.aload_n 0, 1) := dk_42 (dk_at dksJ5_compareTo_0 0 rfl rfl)
theorem dJ5_compareTo_1 : decode cJ5_compareTo 1 = .ok (.aload_n 1, 1) := dk_43 (dk_at dksJ5_compareTo_0 1 rfl rfl)
theorem dJ5_compareTo_2 : decode cJ5_compareTo 2 = .ok (.if_acmp .ne 5, 3) := dk_166 0 5 (dk_at dksJ5_compareTo_0 2 rfl rfl)
theorem dJ5_compareTo_5 : decode cJ5_compareTo 5 = .ok (.iconst 0, 1) := dk_3 (dk_at dksJ5_compareTo_0 5 rfl rfl)
theorem dJ5_compareTo_6 : decode cJ5_compareTo 6 = .ok (.ireturn, 1) := dk_172 (dk_at dksJ5_compareTo_0 6 rfl rfl)
theorem dJ5_compareTo_7 : decode cJ5_compareTo 7 = .ok (.aload_n 0, 1) := dk_42 (dk_at dksJ5_compareTo_0 7 rfl rfl)
theorem dJ5_compareTo_8 : decode cJ5_compareTo 8 = .ok (.getfield 15, 3) := dk_180 0 15 (dk_at dksJ5_compareTo_0 8 rfl rfl)
theorem dJ5_compareTo_11 : decode cJ5_compareTo 11 = .ok (.astore_n 2, 1) := dk_77 (dk_at dksJ5_compareTo_0 11 rfl rfl)
theorem dJ5_compareTo_12 : decode cJ5_compareTo 12 = .ok (.aload_n 1, 1) := dk_43 (dk_at dksJ5_compareTo_0 12 rfl rfl)
theorem dJ5_compareTo_13 : decode cJ5_compareTo 13 = .ok (.getfield 15, 3) := dk_180 0 15 (dk_at dksJ5_compareTo_0 13 rfl rfl)
theorem dJ5_compareTo_16 : decode cJ5_compareTo 16 = .ok (.astore_n 3, 1) := dk_78 (dk_at dksJ5_compareTo_0 16 rfl rfl)
theorem dJ5_compareTo_17 : decode cJ5_compareTo 17 = .ok (.aload_n 0, 1) := dk_42 (dk_at dksJ5_compareTo_0 17 rfl rfl)
theorem dJ5_compareTo_18 : decode cJ5_compareTo 18 = .ok (.getfield 79, 3) := dk_180 0 79 (dk_at dksJ5_compareTo_0 18 rfl rfl)
theorem dJ5_compareTo_21 : decode cJ5_compareTo 21 = .ok (.istore 4, 2) := dk_54 4 (dk_at dksJ5_compareTo_0 21 rfl rfl)
theorem dJ5_compareTo_23 : decode cJ5_compareTo 23 = .ok (.aload_n 1, 1) := dk_43 (dk_at dksJ5_compareTo_0 23 rfl rfl)
theorem dJ5_compareTo_24 : decode cJ5_compareTo 24 = .ok (.getfield 79, 3) := dk_180 0 79 (dk_at dksJ5_compareTo_1 0 rfl rfl)
theorem dJ5_compareTo_27 : decode cJ5_compareTo 27 = .ok (.istore 5, 2) := dk_54 5 (dk_at dksJ5_compareTo_1 3 rfl rfl)
theorem dJ5_compareTo_29 : decode cJ5_compareTo 29 = .ok (.aload_n 0, 1) := dk_42 (dk_at dksJ5_compareTo_1 5 rfl rfl)
theorem dJ5_compareTo_30 : decode cJ5_compareTo 30 = .ok (.getfield 22, 3) := dk_180 0 22 (dk_at dksJ5_compareTo_1 6 rfl rfl)
theorem dJ5_compareTo_33 : decode cJ5_compareTo 33 = .ok (.aload_n 1, 1) := dk_43 (dk_at dksJ5_compareTo_1 9 rfl rfl)
theorem dJ5_compareTo_34 : decode cJ5_compareTo 34 = .ok (.getfield 22, 3) := dk_180 0 22 (dk_at dksJ5_compareTo_1 10 rfl rfl)
theorem dJ5_compareTo_37 : decode cJ5_compareTo 37 = .ok (.if_icmp .ne 32, 3) := dk_160 0 32 (dk_at dksJ5_compareTo_1 13 rfl rfl)
theorem dJ5_compareTo_40 : decode cJ5_compareTo 40 = .ok (.aload_n 0, 1) := dk_42 (dk_at dksJ5_compareTo_1 16 rfl rfl)
theorem dJ5_compareTo_41 : decode cJ5_compareTo 41 = .ok (.invokevirtual 83, 3) := dk_182 0 83 (dk_at dksJ5_compareTo_1 17 rfl rfl)
theorem dJ5_compareTo_44 : decode cJ5_compareTo 44 = .ok (.ifCond .eq 15, 3) := dk_153 0 15 (dk_at dksJ5_compareTo_1 20 rfl rfl)
theorem dJ5_compareTo_47 : decode cJ5_compareTo 47 = .ok (.aload_n 2, 1) := dk_44 (dk_at dksJ5_compareTo_1 23 rfl rfl)
theorem dJ5_compareTo_48 : decode cJ5_compareTo 48 = .ok (.aload_n 3, 1) := dk_45 (dk_at dksJ5_compareTo_2 0 rfl rfl)
theorem dJ5_compareTo_49 : decode cJ5_compareTo 49 = .ok (.iload 4, 2) := dk_21 4 (dk_at dksJ5_compareTo_2 1 rfl rfl)
theorem dJ5_compareTo_51 : decode cJ5_compareTo 51 = .ok (.iload 5, 2) := dk_21 5 (dk_at dksJ5_compareTo_2 3 rfl rfl)
theorem dJ5_compareTo_53 : decode cJ5_compareTo 53 = .ok (.invokestatic 87, 3) := dk_184 0 87 (dk_at dksJ5_compareTo_2 5 rfl rfl)
theorem dJ5_compareTo_56 : decode cJ5_compareTo 56 = .ok (.goto 12, 3) := dk_167 0 12 (dk_at dksJ5_compareTo_2 8 rfl rfl)
theorem dJ5_compareTo_59 : decode cJ5_compareTo 59 = .ok (.aload_n 2, 1) := dk_44 (dk_at dksJ5_compareTo_2 11 rfl rfl)
theorem dJ5_compareTo_60 : decode cJ5_compareTo 60 = .ok (.aload_n 3, 1) := dk_45 (dk_at dksJ5_compareTo_2 12 rfl rfl)
theorem dJ5_compareTo_61 : decode cJ5_compareTo 61 = .ok (.iload 4, 2) := dk_21 4 (dk_at dksJ5_compareTo_2 13 rfl rfl)
theorem dJ5_compareTo_63 : decode cJ5_compareTo 63 = .ok (.iload 5, 2) := dk_21 5 (dk_at dksJ5_compareTo_2 15 rfl rfl)
theorem dJ5_compareTo_65 : decode cJ5_compareTo 65 = .ok (.invokestatic 93, 3) := dk_184 0 93 (dk_at dksJ5_compareTo_2 17 rfl rfl)
theorem dJ5_compareTo_68 : decode cJ5_compareTo 68 = .ok (.ireturn, 1) := dk_172 (dk_at dksJ5_compareTo_2 20 rfl rfl)
theorem dJ5_compareTo_69 : decode cJ5_compareTo 69 = .ok (.aload_n 0, 1) := dk_42 (dk_at dksJ5_compareTo_2 21 rfl rfl)
theorem dJ5_compareTo_70 : decode cJ5_compareTo 70 = .ok (.invokevirtual 83, 3) := dk_182 0 83 (dk_at dksJ5_compareTo_3 0 rfl rfl)
theorem dJ5_compareTo_73 : decode cJ5_compareTo 73 = .ok (.ifCond .eq 15, 3) := dk_153 0 15 (dk_at dksJ5_compareTo_3 3 rfl rfl)
theorem dJ5_compareTo_76 : decode cJ5_compareTo 76 = .ok (.aload_n 2, 1) := dk_44 (dk_at dksJ5_compareTo_3 6 rfl rfl)
theorem dJ5_compareTo_77 : decode cJ5_compareTo 77 = .ok (.aload_n 3, 1) := dk_45 (dk_at dksJ5_compareTo_3 7 rfl rfl)
theorem dJ5_compareTo_78 : decode cJ5_compareTo 78 = .ok (.iload 4, 2) := dk_21 4 (dk_at dksJ5_compareTo_3 8 rfl rfl)
theorem dJ5_compareTo_80 : decode cJ5_compareTo 80 = .ok (.iload 5, 2) := dk_21 5 (dk_at dksJ5_compareTo_3 10 rfl rfl)
theorem dJ5_compareTo_82 : decode cJ5_compareTo 82 = .ok (.invokestatic 94, 3) := dk_184 0 94 (dk_at dksJ5_compareTo_3 12 rfl rfl)
theorem dJ5_compareTo_85 : decode cJ5_compareTo 85 = .ok (.goto 12, 3) := dk_167 0 12 (dk_at dksJ5_compareTo_3 15 rfl rfl)
theorem dJ5_compareTo_88 : decode cJ5_compareTo 88 = .ok (.aload_n 2, 1) := dk_44 (dk_at dksJ5_compareTo_3 18 rfl rfl)
theorem dJ5_compareTo_89 : decode cJ5_compareTo 89 = .ok (.aload_n 3, 1) := dk_45 (dk_at dksJ5_compareTo_3 19 rfl rfl)
theorem dJ5_compareTo_90 : decode cJ5_compareTo 90 = .ok (.iload 4, 2) := dk_21 4 (dk_at dksJ5_compareTo_3 20 rfl rfl)
theorem dJ5_compareTo_92 : decode cJ5_compareTo 92 = .ok (.iload 5, 2) := dk_21 5 (dk_at dksJ5_compareTo_3 22 rfl rfl)
theorem dJ5_compareTo_94 : decode cJ5_compareTo 94 = .ok (.invokestatic 97, 3) := dk_184 0 97 (dk_at dksJ5_compareTo_4 0 rfl rfl)
theorem dJ5_compareTo_97 : decode cJ5_compareTo 97 = .ok (.ireturn, 1) := dk_172 (dk_at dksJ5_compareTo_4 3 rfl rfl)
abbrev cJ5_isLatin1 : ByteArray := prog_18_method_68_code
def yJ5_isLatin1 : MethodName := ⟨RJ5, "isLatin1", "()Z"⟩
def dkwJ5_isLatin1_0 : List UInt8 := [178, 0, 18, 153, 0, 14, 42, 180, 0, 22, 154, 0, 7, 4, 167, 0, 4, 3, 172]
abbrev dktJ5_isLatin1_0 : List UInt8 := dkwJ5_isLatin1_0 ++ []
theorem dksJ5_isLatin1_0 : cJ5_isLatin1.data.toList.drop 0 = dktJ5_isLatin1_0 := by decide +kernel
theorem dJ5_isLatin1_0 : decode cJ5_isLatin1 0 = .ok (.getstatic 18, 3) := dk_178 0 18 (dk_at dksJ5_isLatin1_0 0 rfl rfl)
theorem dJ5_isLatin1_3 : decode cJ5_isLatin1 3 = .ok (.ifCond .eq 14, 3) := dk_153 0 14 (dk_at dksJ5_isLatin1_0 3 rfl rfl)
theorem dJ5_isLatin1_6 : decode cJ5_isLatin1 6 = .ok (.aload_n 0, 1) := dk_42 (dk_at dksJ5_isLatin1_0 6 rfl rfl)
theorem dJ5_isLatin1_7 : decode cJ5_isLatin1 7 = .ok (.getfield 22, 3) := dk_180 0 22 (dk_at dksJ5_isLatin1_0 7 rfl rfl)
theorem dJ5_isLatin1_10 : decode cJ5_isLatin1 10 = .ok (.ifCond .ne 7, 3) := dk_154 0 7 (dk_at dksJ5_isLatin1_0 10 rfl rfl)
theorem dJ5_isLatin1_13 : decode cJ5_isLatin1 13 = .ok (.iconst 1, 1) := dk_4 (dk_at dksJ5_isLatin1_0 13 rfl rfl)
theorem dJ5_isLatin1_14 : decode cJ5_isLatin1 14 = .ok (.goto 4, 3) := dk_167 0 4 (dk_at dksJ5_isLatin1_0 14 rfl rfl)
theorem dJ5_isLatin1_17 : decode cJ5_isLatin1 17 = .ok (.iconst 0, 1) := dk_3 (dk_at dksJ5_isLatin1_0 17 rfl rfl)
theorem dJ5_isLatin1_18 : decode cJ5_isLatin1 18 = .ok (.ireturn, 1) := dk_172 (dk_at dksJ5_isLatin1_0 18 rfl rfl)
abbrev cJ5_setLength : ByteArray := prog_18_method_13_code
def yJ5_setLength : MethodName := ⟨RJ5, "setLength", "(I)V"⟩
def dkwJ5_setLength_3 : List UInt8 := [164, 0, 8, 42, 4, 181, 0, 73, 42, 27, 181, 0, 79, 177]
abbrev dktJ5_setLength_3 : List UInt8 := dkwJ5_setLength_3 ++ []
def dkwJ5_setLength_2 : List UInt8 := [167, 0, 31, 42, 180, 0, 15, 42, 180, 0, 79, 27, 184, 0, 137, 167, 0, 16, 42, 180, 0, 79, 27]
abbrev dktJ5_setLength_2 : List UInt8 := dkwJ5_setLength_2 ++ dktJ5_setLength_3
def dkwJ5_setLength_1 : List UInt8 := [162, 0, 40, 42, 182, 0, 83, 153, 0, 18, 42, 180, 0, 15, 42, 180, 0, 79, 27, 184, 0, 133]
abbrev dktJ5_setLength_1 : List UInt8 := dkwJ5_setLength_1 ++ dktJ5_setLength_2
def dkwJ5_setLength_0 : List UInt8 := [27, 156, 0, 12, 187, 0, 129, 89, 27, 183, 0, 131, 191, 42, 27, 182, 0, 100, 42, 180, 0, 79, 27]
abbrev dktJ5_setLength_0 : List UInt8 := dkwJ5_setLength_0 ++ dktJ5_setLength_1
theorem dksJ5_setLength_0 : cJ5_setLength.data.toList.drop 0 = dktJ5_setLength_0 := by decide +kernel
theorem dksJ5_setLength_1 : cJ5_setLength.data.toList.drop 23 = dktJ5_setLength_1 := dk_seg dksJ5_setLength_0 23 rfl rfl
theorem dksJ5_setLength_2 : cJ5_setLength.data.toList.drop 45 = dktJ5_setLength_2 := dk_seg dksJ5_setLength_1 22 rfl rfl
theorem dksJ5_setLength_3 : cJ5_setLength.data.toList.drop 68 = dktJ5_setLength_3 := dk_seg dksJ5_setLength_2 23 rfl rfl
theorem dJ5_setLength_0 : decode cJ5_setLength 0 = .ok (.iload_n 1, 1) := dk_27 (dk_at dksJ5_setLength_0 0 rfl rfl)
theorem dJ5_setLength_1 : decode cJ5_setLength 1 = .ok (.ifCond .ge 12, 3) := dk_156 0 12 (dk_at dksJ5_setLength_0 1 rfl rfl)
theorem dJ5_setLength_4 : decode cJ5_setLength 4 = .ok (.new 129, 3) := dk_187 0 129 (dk_at dksJ5_setLength_0 4 rfl rfl)
theorem dJ5_setLength_7 : decode cJ5_setLength 7 = .ok (.dup, 1) := dk_89 (dk_at dksJ5_setLength_0 7 rfl rfl)
theorem dJ5_setLength_8 : decode cJ5_setLength 8 = .ok (.iload_n 1, 1) := dk_27 (dk_at dksJ5_setLength_0 8 rfl rfl)
theorem dJ5_setLength_9 : decode cJ5_setLength 9 = .ok (.invokespecial 131, 3) := dk_183 0 131 (dk_at dksJ5_setLength_0 9 rfl rfl)
theorem dJ5_setLength_12 : decode cJ5_setLength 12 = .ok (.athrow, 1) := dk_191 (dk_at dksJ5_setLength_0 12 rfl rfl)
theorem dJ5_setLength_13 : decode cJ5_setLength 13 = .ok (.aload_n 0, 1) := dk_42 (dk_at dksJ5_setLength_0 13 rfl rfl)
theorem dJ5_setLength_14 : decode cJ5_setLength 14 = .ok (.iload_n 1, 1) := dk_27 (dk_at dksJ5_setLength_0 14 rfl rfl)
theorem dJ5_setLength_15 : decode cJ5_setLength 15 = .ok (.invokevirtual 100, 3) := dk_182 0 100 (dk_at dksJ5_setLength_0 15 rfl rfl)
theorem dJ5_setLength_18 : decode cJ5_setLength 18 = .ok (.aload_n 0, 1) := dk_42 (dk_at dksJ5_setLength_0 18 rfl rfl)
theorem dJ5_setLength_19 : decode cJ5_setLength 19 = .ok (.getfield 79, 3) := dk_180 0 79 (dk_at dksJ5_setLength_0 19 rfl rfl)
theorem dJ5_setLength_22 : decode cJ5_setLength 22 = .ok (.iload_n 1, 1) := dk_27 (dk_at dksJ5_setLength_0 22 rfl rfl)
theorem dJ5_setLength_23 : decode cJ5_setLength 23 = .ok (.if_icmp .ge 40, 3) := dk_162 0 40 (dk_at dksJ5_setLength_1 0 rfl rfl)
theorem dJ5_setLength_26 : decode cJ5_setLength 26 = .ok (.aload_n 0, 1) := dk_42 (dk_at dksJ5_setLength_1 3 rfl rfl)
theorem dJ5_setLength_27 : decode cJ5_setLength 27 = .ok (.invokevirtual 83, 3) := dk_182 0 83 (dk_at dksJ5_setLength_1 4 rfl rfl)
theorem dJ5_setLength_30 : decode cJ5_setLength 30 = .ok (.ifCond .eq 18, 3) := dk_153 0 18 (dk_at dksJ5_setLength_1 7 rfl rfl)
theorem dJ5_setLength_33 : decode cJ5_setLength 33 = .ok (.aload_n 0, 1) := dk_42 (dk_at dksJ5_setLength_1 10 rfl rfl)
theorem dJ5_setLength_34 : decode cJ5_setLength 34 = .ok (.getfield 15, 3) := dk_180 0 15 (dk_at dksJ5_setLength_1 11 rfl rfl)
theorem dJ5_setLength_37 : decode cJ5_setLength 37 = .ok (.aload_n 0, 1) := dk_42 (dk_at dksJ5_setLength_1 14 rfl rfl)
theorem dJ5_setLength_38 : decode cJ5_setLength 38 = .ok (.getfield 79, 3) := dk_180 0 79 (dk_at dksJ5_setLength_1 15 rfl rfl)
theorem dJ5_setLength_41 : decode cJ5_setLength 41 = .ok (.iload_n 1, 1) := dk_27 (dk_at dksJ5_setLength_1 18 rfl rfl)
theorem dJ5_setLength_42 : decode cJ5_setLength 42 = .ok (.invokestatic 133, 3) := dk_184 0 133 (dk_at dksJ5_setLength_1 19 rfl rfl)
theorem dJ5_setLength_45 : decode cJ5_setLength 45 = .ok (.goto 31, 3) := dk_167 0 31 (dk_at dksJ5_setLength_2 0 rfl rfl)
theorem dJ5_setLength_48 : decode cJ5_setLength 48 = .ok (.aload_n 0, 1) := dk_42 (dk_at dksJ5_setLength_2 3 rfl rfl)
theorem dJ5_setLength_49 : decode cJ5_setLength 49 = .ok (.getfield 15, 3) := dk_180 0 15 (dk_at dksJ5_setLength_2 4 rfl rfl)
theorem dJ5_setLength_52 : decode cJ5_setLength 52 = .ok (.aload_n 0, 1) := dk_42 (dk_at dksJ5_setLength_2 7 rfl rfl)
theorem dJ5_setLength_53 : decode cJ5_setLength 53 = .ok (.getfield 79, 3) := dk_180 0 79 (dk_at dksJ5_setLength_2 8 rfl rfl)
theorem dJ5_setLength_56 : decode cJ5_setLength 56 = .ok (.iload_n 1, 1) := dk_27 (dk_at dksJ5_setLength_2 11 rfl rfl)
theorem dJ5_setLength_57 : decode cJ5_setLength 57 = .ok (.invokestatic 137, 3) := dk_184 0 137 (dk_at dksJ5_setLength_2 12 rfl rfl)
theorem dJ5_setLength_60 : decode cJ5_setLength 60 = .ok (.goto 16, 3) := dk_167 0 16 (dk_at dksJ5_setLength_2 15 rfl rfl)
theorem dJ5_setLength_63 : decode cJ5_setLength 63 = .ok (.aload_n 0, 1) := dk_42 (dk_at dksJ5_setLength_2 18 rfl rfl)
theorem dJ5_setLength_64 : decode cJ5_setLength 64 = .ok (.getfield 79, 3) := dk_180 0 79 (dk_at dksJ5_setLength_2 19 rfl rfl)
theorem dJ5_setLength_67 : decode cJ5_setLength 67 = .ok (.iload_n 1, 1) := dk_27 (dk_at dksJ5_setLength_2 22 rfl rfl)
theorem dJ5_setLength_68 : decode cJ5_setLength 68 = .ok (.if_icmp .le 8, 3) := dk_164 0 8 (dk_at dksJ5_setLength_3 0 rfl rfl)
theorem dJ5_setLength_71 : decode cJ5_setLength 71 = .ok (.aload_n 0, 1) := dk_42 (dk_at dksJ5_setLength_3 3 rfl rfl)
theorem dJ5_setLength_72 : decode cJ5_setLength 72 = .ok (.iconst 1, 1) := dk_4 (dk_at dksJ5_setLength_3 4 rfl rfl)
theorem dJ5_setLength_73 : decode cJ5_setLength 73 = .ok (.putfield 73, 3) := dk_181 0 73 (dk_at dksJ5_setLength_3 5 rfl rfl)
theorem dJ5_setLength_76 : decode cJ5_setLength 76 = .ok (.aload_n 0, 1) := dk_42 (dk_at dksJ5_setLength_3 8 rfl rfl)
theorem dJ5_setLength_77 : decode cJ5_setLength 77 = .ok (.iload_n 1, 1) := dk_27 (dk_at dksJ5_setLength_3 9 rfl rfl)
theorem dJ5_setLength_78 : decode cJ5_setLength 78 = .ok (.putfield 79, 3) := dk_181 0 79 (dk_at dksJ5_setLength_3 10 rfl rfl)
theorem dJ5_setLength_81 : decode cJ5_setLength 81 = .ok (.return_, 1) := dk_177 (dk_at dksJ5_setLength_3 13 rfl rfl)
abbrev cJ5_ensureCapacityInternal : ByteArray := prog_18_method_9_code
def yJ5_ensureCapacityInternal : MethodName := ⟨RJ5, "ensureCapacityInternal", "(I)V"⟩
def dkwJ5_ensureCapacityInternal_1 : List UInt8 := [182, 0, 104, 42, 180, 0, 22, 120, 184, 0, 108, 181, 0, 15, 177]
abbrev dktJ5_ensureCapacityInternal_1 : List UInt8 := dkwJ5_ensureCapacityInternal_1 ++ []
def dkwJ5_ensureCapacityInternal_0 : List UInt8 := [42, 180, 0, 15, 190, 42, 180, 0, 22, 122, 61, 27, 28, 100, 158, 0, 24, 42, 42, 180, 0, 15, 42, 27]
abbrev dktJ5_ensureCapacityInternal_0 : List UInt8 := dkwJ5_ensureCapacityInternal_0 ++ dktJ5_ensureCapacityInternal_1
theorem dksJ5_ensureCapacityInternal_0 : cJ5_ensureCapacityInternal.data.toList.drop 0 = dktJ5_ensureCapacityInternal_0 := by decide +kernel
theorem dksJ5_ensureCapacityInternal_1 : cJ5_ensureCapacityInternal.data.toList.drop 24 = dktJ5_ensureCapacityInternal_1 := dk_seg dksJ5_ensureCapacityInternal_0 24 rfl rfl
theorem dJ5_ensureCapacityInternal_0 : decode cJ5_ensureCapacityInternal 0 = .ok (.aload_n 0, 1) := dk_42 (dk_at dksJ5_ensureCapacityInternal_0 0 rfl rfl)
theorem dJ5_ensureCapacityInternal_1 : decode cJ5_ensureCapacityInternal 1 = .ok (.getfield 15, 3) := dk_180 0 15 (dk_at dksJ5_ensureCapacityInternal_0 1 rfl rfl)
theorem dJ5_ensureCapacityInternal_4 : decode cJ5_ensureCapacityInternal 4 = .ok (.arraylength, 1) := dk_190 (dk_at dksJ5_ensureCapacityInternal_0 4 rfl rfl)
theorem dJ5_ensureCapacityInternal_5 : decode cJ5_ensureCapacityInternal 5 = .ok (.aload_n 0, 1) := dk_42 (dk_at dksJ5_ensureCapacityInternal_0 5 rfl rfl)
theorem dJ5_ensureCapacityInternal_6 : decode cJ5_ensureCapacityInternal 6 = .ok (.getfield 22, 3) := dk_180 0 22 (dk_at dksJ5_ensureCapacityInternal_0 6 rfl rfl)
theorem dJ5_ensureCapacityInternal_9 : decode cJ5_ensureCapacityInternal 9 = .ok (.ishr, 1) := dk_122 (dk_at dksJ5_ensureCapacityInternal_0 9 rfl rfl)
theorem dJ5_ensureCapacityInternal_10 : decode cJ5_ensureCapacityInternal 10 = .ok (.istore_n 2, 1) := dk_61 (dk_at dksJ5_ensureCapacityInternal_0 10 rfl rfl)
theorem dJ5_ensureCapacityInternal_11 : decode cJ5_ensureCapacityInternal 11 = .ok (.iload_n 1, 1) := dk_27 (dk_at dksJ5_ensureCapacityInternal_0 11 rfl rfl)
theorem dJ5_ensureCapacityInternal_12 : decode cJ5_ensureCapacityInternal 12 = .ok (.iload_n 2, 1) := dk_28 (dk_at dksJ5_ensureCapacityInternal_0 12 rfl rfl)
theorem dJ5_ensureCapacityInternal_13 : decode cJ5_ensureCapacityInternal 13 = .ok (.isub, 1) := dk_100 (dk_at dksJ5_ensureCapacityInternal_0 13 rfl rfl)
theorem dJ5_ensureCapacityInternal_14 : decode cJ5_ensureCapacityInternal 14 = .ok (.ifCond .le 24, 3) := dk_158 0 24 (dk_at dksJ5_ensureCapacityInternal_0 14 rfl rfl)
theorem dJ5_ensureCapacityInternal_17 : decode cJ5_ensureCapacityInternal 17 = .ok (.aload_n 0, 1) := dk_42 (dk_at dksJ5_ensureCapacityInternal_0 17 rfl rfl)
theorem dJ5_ensureCapacityInternal_18 : decode cJ5_ensureCapacityInternal 18 = .ok (.aload_n 0, 1) := dk_42 (dk_at dksJ5_ensureCapacityInternal_0 18 rfl rfl)
theorem dJ5_ensureCapacityInternal_19 : decode cJ5_ensureCapacityInternal 19 = .ok (.getfield 15, 3) := dk_180 0 15 (dk_at dksJ5_ensureCapacityInternal_0 19 rfl rfl)
theorem dJ5_ensureCapacityInternal_22 : decode cJ5_ensureCapacityInternal 22 = .ok (.aload_n 0, 1) := dk_42 (dk_at dksJ5_ensureCapacityInternal_0 22 rfl rfl)
theorem dJ5_ensureCapacityInternal_23 : decode cJ5_ensureCapacityInternal 23 = .ok (.iload_n 1, 1) := dk_27 (dk_at dksJ5_ensureCapacityInternal_0 23 rfl rfl)
theorem dJ5_ensureCapacityInternal_24 : decode cJ5_ensureCapacityInternal 24 = .ok (.invokevirtual 104, 3) := dk_182 0 104 (dk_at dksJ5_ensureCapacityInternal_1 0 rfl rfl)
theorem dJ5_ensureCapacityInternal_27 : decode cJ5_ensureCapacityInternal 27 = .ok (.aload_n 0, 1) := dk_42 (dk_at dksJ5_ensureCapacityInternal_1 3 rfl rfl)
theorem dJ5_ensureCapacityInternal_28 : decode cJ5_ensureCapacityInternal 28 = .ok (.getfield 22, 3) := dk_180 0 22 (dk_at dksJ5_ensureCapacityInternal_1 4 rfl rfl)
theorem dJ5_ensureCapacityInternal_31 : decode cJ5_ensureCapacityInternal 31 = .ok (.ishl, 1) := dk_120 (dk_at dksJ5_ensureCapacityInternal_1 7 rfl rfl)
theorem dJ5_ensureCapacityInternal_32 : decode cJ5_ensureCapacityInternal 32 = .ok (.invokestatic 108, 3) := dk_184 0 108 (dk_at dksJ5_ensureCapacityInternal_1 8 rfl rfl)
theorem dJ5_ensureCapacityInternal_35 : decode cJ5_ensureCapacityInternal 35 = .ok (.putfield 15, 3) := dk_181 0 15 (dk_at dksJ5_ensureCapacityInternal_1 11 rfl rfl)
theorem dJ5_ensureCapacityInternal_38 : decode cJ5_ensureCapacityInternal 38 = .ok (.return_, 1) := dk_177 (dk_at dksJ5_ensureCapacityInternal_1 14 rfl rfl)
abbrev cJ5_newCapacity : ByteArray := prog_18_method_10_code
def yJ5_newCapacity : MethodName := ⟨RJ5, "newCapacity", "(I)I"⟩
def dkwJ5_newCapacity_2 : List UInt8 := [183, 0, 124, 191, 21, 5, 42, 180, 0, 22, 122, 172]
abbrev dktJ5_newCapacity_2 : List UInt8 := dkwJ5_newCapacity_2 ++ []
def dkwJ5_newCapacity_1 : List UInt8 := [180, 0, 22, 120, 96, 184, 0, 114, 54, 5, 21, 5, 18, 39, 160, 0, 13, 187, 0, 120, 89, 18, 122]
abbrev dktJ5_newCapacity_1 : List UInt8 := dkwJ5_newCapacity_1 ++ dktJ5_newCapacity_2
def dkwJ5_newCapacity_0 : List UInt8 := [42, 180, 0, 15, 190, 61, 27, 42, 180, 0, 22, 120, 62, 29, 28, 100, 54, 4, 28, 21, 4, 28, 5, 42]
abbrev dktJ5_newCapacity_0 : List UInt8 := dkwJ5_newCapacity_0 ++ dktJ5_newCapacity_1
theorem dksJ5_newCapacity_0 : cJ5_newCapacity.data.toList.drop 0 = dktJ5_newCapacity_0 := by decide +kernel
theorem dksJ5_newCapacity_1 : cJ5_newCapacity.data.toList.drop 24 = dktJ5_newCapacity_1 := dk_seg dksJ5_newCapacity_0 24 rfl rfl
theorem dksJ5_newCapacity_2 : cJ5_newCapacity.data.toList.drop 47 = dktJ5_newCapacity_2 := dk_seg dksJ5_newCapacity_1 23 rfl rfl
theorem dJ5_newCapacity_0 : decode cJ5_newCapacity 0 = .ok (.aload_n 0, 1) := dk_42 (dk_at dksJ5_newCapacity_0 0 rfl rfl)
theorem dJ5_newCapacity_1 : decode cJ5_newCapacity 1 = .ok (.getfield 15, 3) := dk_180 0 15 (dk_at dksJ5_newCapacity_0 1 rfl rfl)
theorem dJ5_newCapacity_4 : decode cJ5_newCapacity 4 = .ok (.arraylength, 1) := dk_190 (dk_at dksJ5_newCapacity_0 4 rfl rfl)
theorem dJ5_newCapacity_5 : decode cJ5_newCapacity 5 = .ok (.istore_n 2, 1) := dk_61 (dk_at dksJ5_newCapacity_0 5 rfl rfl)
theorem dJ5_newCapacity_6 : decode cJ5_newCapacity 6 = .ok (.iload_n 1, 1) := dk_27 (dk_at dksJ5_newCapacity_0 6 rfl rfl)
theorem dJ5_newCapacity_7 : decode cJ5_newCapacity 7 = .ok (.aload_n 0, 1) := dk_42 (dk_at dksJ5_newCapacity_0 7 rfl rfl)
theorem dJ5_newCapacity_8 : decode cJ5_newCapacity 8 = .ok (.getfield 22, 3) := dk_180 0 22 (dk_at dksJ5_newCapacity_0 8 rfl rfl)
theorem dJ5_newCapacity_11 : decode cJ5_newCapacity 11 = .ok (.ishl, 1) := dk_120 (dk_at dksJ5_newCapacity_0 11 rfl rfl)
theorem dJ5_newCapacity_12 : decode cJ5_newCapacity 12 = .ok (.istore_n 3, 1) := dk_62 (dk_at dksJ5_newCapacity_0 12 rfl rfl)
theorem dJ5_newCapacity_13 : decode cJ5_newCapacity 13 = .ok (.iload_n 3, 1) := dk_29 (dk_at dksJ5_newCapacity_0 13 rfl rfl)
theorem dJ5_newCapacity_14 : decode cJ5_newCapacity 14 = .ok (.iload_n 2, 1) := dk_28 (dk_at dksJ5_newCapacity_0 14 rfl rfl)
theorem dJ5_newCapacity_15 : decode cJ5_newCapacity 15 = .ok (.isub, 1) := dk_100 (dk_at dksJ5_newCapacity_0 15 rfl rfl)
theorem dJ5_newCapacity_16 : decode cJ5_newCapacity 16 = .ok (.istore 4, 2) := dk_54 4 (dk_at dksJ5_newCapacity_0 16 rfl rfl)
theorem dJ5_newCapacity_18 : decode cJ5_newCapacity 18 = .ok (.iload_n 2, 1) := dk_28 (dk_at dksJ5_newCapacity_0 18 rfl rfl)
theorem dJ5_newCapacity_19 : decode cJ5_newCapacity 19 = .ok (.iload 4, 2) := dk_21 4 (dk_at dksJ5_newCapacity_0 19 rfl rfl)
theorem dJ5_newCapacity_21 : decode cJ5_newCapacity 21 = .ok (.iload_n 2, 1) := dk_28 (dk_at dksJ5_newCapacity_0 21 rfl rfl)
theorem dJ5_newCapacity_22 : decode cJ5_newCapacity 22 = .ok (.iconst 2, 1) := dk_5 (dk_at dksJ5_newCapacity_0 22 rfl rfl)
theorem dJ5_newCapacity_23 : decode cJ5_newCapacity 23 = .ok (.aload_n 0, 1) := dk_42 (dk_at dksJ5_newCapacity_0 23 rfl rfl)
theorem dJ5_newCapacity_24 : decode cJ5_newCapacity 24 = .ok (.getfield 22, 3) := dk_180 0 22 (dk_at dksJ5_newCapacity_1 0 rfl rfl)
theorem dJ5_newCapacity_27 : decode cJ5_newCapacity 27 = .ok (.ishl, 1) := dk_120 (dk_at dksJ5_newCapacity_1 3 rfl rfl)
theorem dJ5_newCapacity_28 : decode cJ5_newCapacity 28 = .ok (.iadd, 1) := dk_96 (dk_at dksJ5_newCapacity_1 4 rfl rfl)
theorem dJ5_newCapacity_29 : decode cJ5_newCapacity 29 = .ok (.invokestatic 114, 3) := dk_184 0 114 (dk_at dksJ5_newCapacity_1 5 rfl rfl)
theorem dJ5_newCapacity_32 : decode cJ5_newCapacity 32 = .ok (.istore 5, 2) := dk_54 5 (dk_at dksJ5_newCapacity_1 8 rfl rfl)
theorem dJ5_newCapacity_34 : decode cJ5_newCapacity 34 = .ok (.iload 5, 2) := dk_21 5 (dk_at dksJ5_newCapacity_1 10 rfl rfl)
theorem dJ5_newCapacity_36 : decode cJ5_newCapacity 36 = .ok (.ldc 39, 2) := dk_18 39 (dk_at dksJ5_newCapacity_1 12 rfl rfl)
theorem dJ5_newCapacity_38 : decode cJ5_newCapacity 38 = .ok (.if_icmp .ne 13, 3) := dk_160 0 13 (dk_at dksJ5_newCapacity_1 14 rfl rfl)
theorem dJ5_newCapacity_41 : decode cJ5_newCapacity 41 = .ok (.new 120, 3) := dk_187 0 120 (dk_at dksJ5_newCapacity_1 17 rfl rfl)
theorem dJ5_newCapacity_44 : decode cJ5_newCapacity 44 = .ok (.dup, 1) := dk_89 (dk_at dksJ5_newCapacity_1 20 rfl rfl)
theorem dJ5_newCapacity_45 : decode cJ5_newCapacity 45 = .ok (.ldc 122, 2) := dk_18 122 (dk_at dksJ5_newCapacity_1 21 rfl rfl)
theorem dJ5_newCapacity_47 : decode cJ5_newCapacity 47 = .ok (.invokespecial 124, 3) := dk_183 0 124 (dk_at dksJ5_newCapacity_2 0 rfl rfl)
theorem dJ5_newCapacity_50 : decode cJ5_newCapacity 50 = .ok (.athrow, 1) := dk_191 (dk_at dksJ5_newCapacity_2 3 rfl rfl)
theorem dJ5_newCapacity_51 : decode cJ5_newCapacity 51 = .ok (.iload 5, 2) := dk_21 5 (dk_at dksJ5_newCapacity_2 4 rfl rfl)
theorem dJ5_newCapacity_53 : decode cJ5_newCapacity 53 = .ok (.aload_n 0, 1) := dk_42 (dk_at dksJ5_newCapacity_2 6 rfl rfl)
theorem dJ5_newCapacity_54 : decode cJ5_newCapacity 54 = .ok (.getfield 22, 3) := dk_180 0 22 (dk_at dksJ5_newCapacity_2 7 rfl rfl)
theorem dJ5_newCapacity_57 : decode cJ5_newCapacity 57 = .ok (.ishr, 1) := dk_122 (dk_at dksJ5_newCapacity_2 10 rfl rfl)
theorem dJ5_newCapacity_58 : decode cJ5_newCapacity 58 = .ok (.ireturn, 1) := dk_172 (dk_at dksJ5_newCapacity_2 11 rfl rfl)
abbrev cJ5_append : ByteArray := prog_18_method_22_code
def yJ5_append : MethodName := ⟨RJ5, "append", "(Ljava/lang/String;)Ljava/lang/AbstractStringBuilder;"⟩
def dkwJ5_append_1 : List UInt8 := [42, 42, 180, 0, 79, 43, 182, 0, 208, 42, 89, 180, 0, 79, 28, 96, 181, 0, 79, 42, 176]
abbrev dktJ5_append_1 : List UInt8 := dkwJ5_append_1 ++ []
def dkwJ5_append_0 : List UInt8 := [43, 199, 0, 8, 42, 182, 0, 204, 176, 43, 182, 0, 32, 61, 42, 42, 180, 0, 79, 28, 96, 182, 0, 100]
abbrev dktJ5_append_0 : List UInt8 := dkwJ5_append_0 ++ dktJ5_append_1
theorem dksJ5_append_0 : cJ5_append.data.toList.drop 0 = dktJ5_append_0 := by decide +kernel
theorem dksJ5_append_1 : cJ5_append.data.toList.drop 24 = dktJ5_append_1 := dk_seg dksJ5_append_0 24 rfl rfl
theorem dJ5_append_0 : decode cJ5_append 0 = .ok (.aload_n 1, 1) := dk_43 (dk_at dksJ5_append_0 0 rfl rfl)
theorem dJ5_append_1 : decode cJ5_append 1 = .ok (.ifnonnull 8, 3) := dk_199 0 8 (dk_at dksJ5_append_0 1 rfl rfl)
theorem dJ5_append_4 : decode cJ5_append 4 = .ok (.aload_n 0, 1) := dk_42 (dk_at dksJ5_append_0 4 rfl rfl)
theorem dJ5_append_5 : decode cJ5_append 5 = .ok (.invokevirtual 204, 3) := dk_182 0 204 (dk_at dksJ5_append_0 5 rfl rfl)
theorem dJ5_append_8 : decode cJ5_append 8 = .ok (.areturn, 1) := dk_176 (dk_at dksJ5_append_0 8 rfl rfl)
theorem dJ5_append_9 : decode cJ5_append 9 = .ok (.aload_n 1, 1) := dk_43 (dk_at dksJ5_append_0 9 rfl rfl)
theorem dJ5_append_10 : decode cJ5_append 10 = .ok (.invokevirtual 32, 3) := dk_182 0 32 (dk_at dksJ5_append_0 10 rfl rfl)
theorem dJ5_append_13 : decode cJ5_append 13 = .ok (.istore_n 2, 1) := dk_61 (dk_at dksJ5_append_0 13 rfl rfl)
theorem dJ5_append_14 : decode cJ5_append 14 = .ok (.aload_n 0, 1) := dk_42 (dk_at dksJ5_append_0 14 rfl rfl)
theorem dJ5_append_15 : decode cJ5_append 15 = .ok (.aload_n 0, 1) := dk_42 (dk_at dksJ5_append_0 15 rfl rfl)
theorem dJ5_append_16 : decode cJ5_append 16 = .ok (.getfield 79, 3) := dk_180 0 79 (dk_at dksJ5_append_0 16 rfl rfl)
theorem dJ5_append_19 : decode cJ5_append 19 = .ok (.iload_n 2, 1) := dk_28 (dk_at dksJ5_append_0 19 rfl rfl)
theorem dJ5_append_20 : decode cJ5_append 20 = .ok (.iadd, 1) := dk_96 (dk_at dksJ5_append_0 20 rfl rfl)
theorem dJ5_append_21 : decode cJ5_append 21 = .ok (.invokevirtual 100, 3) := dk_182 0 100 (dk_at dksJ5_append_0 21 rfl rfl)
theorem dJ5_append_24 : decode cJ5_append 24 = .ok (.aload_n 0, 1) := dk_42 (dk_at dksJ5_append_1 0 rfl rfl)
theorem dJ5_append_25 : decode cJ5_append 25 = .ok (.aload_n 0, 1) := dk_42 (dk_at dksJ5_append_1 1 rfl rfl)
theorem dJ5_append_26 : decode cJ5_append 26 = .ok (.getfield 79, 3) := dk_180 0 79 (dk_at dksJ5_append_1 2 rfl rfl)
theorem dJ5_append_29 : decode cJ5_append 29 = .ok (.aload_n 1, 1) := dk_43 (dk_at dksJ5_append_1 5 rfl rfl)
theorem dJ5_append_30 : decode cJ5_append 30 = .ok (.invokevirtual 208, 3) := dk_182 0 208 (dk_at dksJ5_append_1 6 rfl rfl)
theorem dJ5_append_33 : decode cJ5_append 33 = .ok (.aload_n 0, 1) := dk_42 (dk_at dksJ5_append_1 9 rfl rfl)
theorem dJ5_append_34 : decode cJ5_append 34 = .ok (.dup, 1) := dk_89 (dk_at dksJ5_append_1 10 rfl rfl)
theorem dJ5_append_35 : decode cJ5_append 35 = .ok (.getfield 79, 3) := dk_180 0 79 (dk_at dksJ5_append_1 11 rfl rfl)
theorem dJ5_append_38 : decode cJ5_append 38 = .ok (.iload_n 2, 1) := dk_28 (dk_at dksJ5_append_1 14 rfl rfl)
theorem dJ5_append_39 : decode cJ5_append 39 = .ok (.iadd, 1) := dk_96 (dk_at dksJ5_append_1 15 rfl rfl)
theorem dJ5_append_40 : decode cJ5_append 40 = .ok (.putfield 79, 3) := dk_181 0 79 (dk_at dksJ5_append_1 16 rfl rfl)
theorem dJ5_append_43 : decode cJ5_append 43 = .ok (.aload_n 0, 1) := dk_42 (dk_at dksJ5_append_1 19 rfl rfl)
theorem dJ5_append_44 : decode cJ5_append 44 = .ok (.areturn, 1) := dk_176 (dk_at dksJ5_append_1 20 rfl rfl)
abbrev cJ5_appendNull : ByteArray := prog_18_method_26_code
def yJ5_appendNull : MethodName := ⟨RJ5, "appendNull", "()Ljava/lang/AbstractStringBuilder;"⟩
def dkwJ5_appendNull_3 : List UInt8 := [184, 0, 226, 60, 42, 27, 181, 0, 79, 42, 176]
abbrev dktJ5_appendNull_3 : List UInt8 := dkwJ5_appendNull_3 ++ []
def dkwJ5_appendNull_2 : List UInt8 := [16, 108, 84, 44, 27, 132, 1, 1, 16, 108, 84, 167, 0, 17, 44, 27, 16, 110, 16, 117, 16, 108, 16, 108]
abbrev dktJ5_appendNull_2 : List UInt8 := dkwJ5_appendNull_2 ++ dktJ5_appendNull_3
def dkwJ5_appendNull_1 : List UInt8 := [153, 0, 38, 44, 27, 132, 1, 1, 16, 110, 84, 44, 27, 132, 1, 1, 16, 117, 84, 44, 27, 132, 1, 1]
abbrev dktJ5_appendNull_1 : List UInt8 := dkwJ5_appendNull_1 ++ dktJ5_appendNull_2
def dkwJ5_appendNull_0 : List UInt8 := [42, 42, 180, 0, 79, 7, 96, 182, 0, 100, 42, 180, 0, 79, 60, 42, 180, 0, 15, 77, 42, 182, 0, 83]
abbrev dktJ5_appendNull_0 : List UInt8 := dkwJ5_appendNull_0 ++ dktJ5_appendNull_1
theorem dksJ5_appendNull_0 : cJ5_appendNull.data.toList.drop 0 = dktJ5_appendNull_0 := by decide +kernel
theorem dksJ5_appendNull_1 : cJ5_appendNull.data.toList.drop 24 = dktJ5_appendNull_1 := dk_seg dksJ5_appendNull_0 24 rfl rfl
theorem dksJ5_appendNull_2 : cJ5_appendNull.data.toList.drop 48 = dktJ5_appendNull_2 := dk_seg dksJ5_appendNull_1 24 rfl rfl
theorem dksJ5_appendNull_3 : cJ5_appendNull.data.toList.drop 72 = dktJ5_appendNull_3 := dk_seg dksJ5_appendNull_2 24 rfl rfl
theorem dJ5_appendNull_0 : decode cJ5_appendNull 0 = .ok (.aload_n 0, 1) := dk_42 (dk_at dksJ5_appendNull_0 0 rfl rfl)
theorem dJ5_appendNull_1 : decode cJ5_appendNull 1 = .ok (.aload_n 0, 1) := dk_42 (dk_at dksJ5_appendNull_0 1 rfl rfl)
theorem dJ5_appendNull_2 : decode cJ5_appendNull 2 = .ok (.getfield 79, 3) := dk_180 0 79 (dk_at dksJ5_appendNull_0 2 rfl rfl)
theorem dJ5_appendNull_5 : decode cJ5_appendNull 5 = .ok (.iconst 4, 1) := dk_7 (dk_at dksJ5_appendNull_0 5 rfl rfl)
theorem dJ5_appendNull_6 : decode cJ5_appendNull 6 = .ok (.iadd, 1) := dk_96 (dk_at dksJ5_appendNull_0 6 rfl rfl)
theorem dJ5_appendNull_7 : decode cJ5_appendNull 7 = .ok (.invokevirtual 100, 3) := dk_182 0 100 (dk_at dksJ5_appendNull_0 7 rfl rfl)
theorem dJ5_appendNull_10 : decode cJ5_appendNull 10 = .ok (.aload_n 0, 1) := dk_42 (dk_at dksJ5_appendNull_0 10 rfl rfl)
theorem dJ5_appendNull_11 : decode cJ5_appendNull 11 = .ok (.getfield 79, 3) := dk_180 0 79 (dk_at dksJ5_appendNull_0 11 rfl rfl)
theorem dJ5_appendNull_14 : decode cJ5_appendNull 14 = .ok (.istore_n 1, 1) := dk_60 (dk_at dksJ5_appendNull_0 14 rfl rfl)
theorem dJ5_appendNull_15 : decode cJ5_appendNull 15 = .ok (.aload_n 0, 1) := dk_42 (dk_at dksJ5_appendNull_0 15 rfl rfl)
theorem dJ5_appendNull_16 : decode cJ5_appendNull 16 = .ok (.getfield 15, 3) := dk_180 0 15 (dk_at dksJ5_appendNull_0 16 rfl rfl)
theorem dJ5_appendNull_19 : decode cJ5_appendNull 19 = .ok (.astore_n 2, 1) := dk_77 (dk_at dksJ5_appendNull_0 19 rfl rfl)
theorem dJ5_appendNull_20 : decode cJ5_appendNull 20 = .ok (.aload_n 0, 1) := dk_42 (dk_at dksJ5_appendNull_0 20 rfl rfl)
theorem dJ5_appendNull_21 : decode cJ5_appendNull 21 = .ok (.invokevirtual 83, 3) := dk_182 0 83 (dk_at dksJ5_appendNull_0 21 rfl rfl)
theorem dJ5_appendNull_24 : decode cJ5_appendNull 24 = .ok (.ifCond .eq 38, 3) := dk_153 0 38 (dk_at dksJ5_appendNull_1 0 rfl rfl)
theorem dJ5_appendNull_27 : decode cJ5_appendNull 27 = .ok (.aload_n 2, 1) := dk_44 (dk_at dksJ5_appendNull_1 3 rfl rfl)
theorem dJ5_appendNull_28 : decode cJ5_appendNull 28 = .ok (.iload_n 1, 1) := dk_27 (dk_at dksJ5_appendNull_1 4 rfl rfl)
theorem dJ5_appendNull_29 : decode cJ5_appendNull 29 = .ok (.iinc 1 1, 3) := dk_132 1 1 (dk_at dksJ5_appendNull_1 5 rfl rfl)
theorem dJ5_appendNull_32 : decode cJ5_appendNull 32 = .ok (.bipush 110, 2) := dk_16 110 (dk_at dksJ5_appendNull_1 8 rfl rfl)
theorem dJ5_appendNull_34 : decode cJ5_appendNull 34 = .ok (.bastore, 1) := dk_84 (dk_at dksJ5_appendNull_1 10 rfl rfl)
theorem dJ5_appendNull_35 : decode cJ5_appendNull 35 = .ok (.aload_n 2, 1) := dk_44 (dk_at dksJ5_appendNull_1 11 rfl rfl)
theorem dJ5_appendNull_36 : decode cJ5_appendNull 36 = .ok (.iload_n 1, 1) := dk_27 (dk_at dksJ5_appendNull_1 12 rfl rfl)
theorem dJ5_appendNull_37 : decode cJ5_appendNull 37 = .ok (.iinc 1 1, 3) := dk_132 1 1 (dk_at dksJ5_appendNull_1 13 rfl rfl)
theorem dJ5_appendNull_40 : decode cJ5_appendNull 40 = .ok (.bipush 117, 2) := dk_16 117 (dk_at dksJ5_appendNull_1 16 rfl rfl)
theorem dJ5_appendNull_42 : decode cJ5_appendNull 42 = .ok (.bastore, 1) := dk_84 (dk_at dksJ5_appendNull_1 18 rfl rfl)
theorem dJ5_appendNull_43 : decode cJ5_appendNull 43 = .ok (.aload_n 2, 1) := dk_44 (dk_at dksJ5_appendNull_1 19 rfl rfl)
theorem dJ5_appendNull_44 : decode cJ5_appendNull 44 = .ok (.iload_n 1, 1) := dk_27 (dk_at dksJ5_appendNull_1 20 rfl rfl)
theorem dJ5_appendNull_45 : decode cJ5_appendNull 45 = .ok (.iinc 1 1, 3) := dk_132 1 1 (dk_at dksJ5_appendNull_1 21 rfl rfl)
theorem dJ5_appendNull_48 : decode cJ5_appendNull 48 = .ok (.bipush 108, 2) := dk_16 108 (dk_at dksJ5_appendNull_2 0 rfl rfl)
theorem dJ5_appendNull_50 : decode cJ5_appendNull 50 = .ok (.bastore, 1) := dk_84 (dk_at dksJ5_appendNull_2 2 rfl rfl)
theorem dJ5_appendNull_51 : decode cJ5_appendNull 51 = .ok (.aload_n 2, 1) := dk_44 (dk_at dksJ5_appendNull_2 3 rfl rfl)
theorem dJ5_appendNull_52 : decode cJ5_appendNull 52 = .ok (.iload_n 1, 1) := dk_27 (dk_at dksJ5_appendNull_2 4 rfl rfl)
theorem dJ5_appendNull_53 : decode cJ5_appendNull 53 = .ok (.iinc 1 1, 3) := dk_132 1 1 (dk_at dksJ5_appendNull_2 5 rfl rfl)
theorem dJ5_appendNull_56 : decode cJ5_appendNull 56 = .ok (.bipush 108, 2) := dk_16 108 (dk_at dksJ5_appendNull_2 8 rfl rfl)
theorem dJ5_appendNull_58 : decode cJ5_appendNull 58 = .ok (.bastore, 1) := dk_84 (dk_at dksJ5_appendNull_2 10 rfl rfl)
theorem dJ5_appendNull_59 : decode cJ5_appendNull 59 = .ok (.goto 17, 3) := dk_167 0 17 (dk_at dksJ5_appendNull_2 11 rfl rfl)
theorem dJ5_appendNull_62 : decode cJ5_appendNull 62 = .ok (.aload_n 2, 1) := dk_44 (dk_at dksJ5_appendNull_2 14 rfl rfl)
theorem dJ5_appendNull_63 : decode cJ5_appendNull 63 = .ok (.iload_n 1, 1) := dk_27 (dk_at dksJ5_appendNull_2 15 rfl rfl)
theorem dJ5_appendNull_64 : decode cJ5_appendNull 64 = .ok (.bipush 110, 2) := dk_16 110 (dk_at dksJ5_appendNull_2 16 rfl rfl)
theorem dJ5_appendNull_66 : decode cJ5_appendNull 66 = .ok (.bipush 117, 2) := dk_16 117 (dk_at dksJ5_appendNull_2 18 rfl rfl)
theorem dJ5_appendNull_68 : decode cJ5_appendNull 68 = .ok (.bipush 108, 2) := dk_16 108 (dk_at dksJ5_appendNull_2 20 rfl rfl)
theorem dJ5_appendNull_70 : decode cJ5_appendNull 70 = .ok (.bipush 108, 2) := dk_16 108 (dk_at dksJ5_appendNull_2 22 rfl rfl)
theorem dJ5_appendNull_72 : decode cJ5_appendNull 72 = .ok (.invokestatic 226, 3) := dk_184 0 226 (dk_at dksJ5_appendNull_3 0 rfl rfl)
theorem dJ5_appendNull_75 : decode cJ5_appendNull 75 = .ok (.istore_n 1, 1) := dk_60 (dk_at dksJ5_appendNull_3 3 rfl rfl)
theorem dJ5_appendNull_76 : decode cJ5_appendNull 76 = .ok (.aload_n 0, 1) := dk_42 (dk_at dksJ5_appendNull_3 4 rfl rfl)
theorem dJ5_appendNull_77 : decode cJ5_appendNull 77 = .ok (.iload_n 1, 1) := dk_27 (dk_at dksJ5_appendNull_3 5 rfl rfl)
theorem dJ5_appendNull_78 : decode cJ5_appendNull 78 = .ok (.putfield 79, 3) := dk_181 0 79 (dk_at dksJ5_appendNull_3 6 rfl rfl)
theorem dJ5_appendNull_81 : decode cJ5_appendNull 81 = .ok (.aload_n 0, 1) := dk_42 (dk_at dksJ5_appendNull_3 9 rfl rfl)
theorem dJ5_appendNull_82 : decode cJ5_appendNull 82 = .ok (.areturn, 1) := dk_176 (dk_at dksJ5_appendNull_3 10 rfl rfl)
abbrev cJ5_putStringAt : ByteArray := prog_18_method_73_code
def yJ5_putStringAt : MethodName := ⟨RJ5, "putStringAt", "(ILjava/lang/String;)V"⟩
def dkwJ5_putStringAt_0 : List UInt8 := [42, 44, 182, 1, 141, 44, 42, 180, 0, 15, 27, 42, 180, 0, 22, 182, 1, 143, 177]
abbrev dktJ5_putStringAt_0 : List UInt8 := dkwJ5_putStringAt_0 ++ []
theorem dksJ5_putStringAt_0 : cJ5_putStringAt.data.toList.drop 0 = dktJ5_putStringAt_0 := by decide +kernel
theorem dJ5_putStringAt_0 : decode cJ5_putStringAt 0 = .ok (.aload_n 0, 1) := dk_42 (dk_at dksJ5_putStringAt_0 0 rfl rfl)
theorem dJ5_putStringAt_1 : decode cJ5_putStringAt 1 = .ok (.aload_n 2, 1) := dk_44 (dk_at dksJ5_putStringAt_0 1 rfl rfl)
theorem dJ5_putStringAt_2 : decode cJ5_putStringAt 2 = .ok (.invokevirtual 397, 3) := dk_182 1 141 (dk_at dksJ5_putStringAt_0 2 rfl rfl)
theorem dJ5_putStringAt_5 : decode cJ5_putStringAt 5 = .ok (.aload_n 2, 1) := dk_44 (dk_at dksJ5_putStringAt_0 5 rfl rfl)
theorem dJ5_putStringAt_6 : decode cJ5_putStringAt 6 = .ok (.aload_n 0, 1) := dk_42 (dk_at dksJ5_putStringAt_0 6 rfl rfl)
theorem dJ5_putStringAt_7 : decode cJ5_putStringAt 7 = .ok (.getfield 15, 3) := dk_180 0 15 (dk_at dksJ5_putStringAt_0 7 rfl rfl)
theorem dJ5_putStringAt_10 : decode cJ5_putStringAt 10 = .ok (.iload_n 1, 1) := dk_27 (dk_at dksJ5_putStringAt_0 10 rfl rfl)
theorem dJ5_putStringAt_11 : decode cJ5_putStringAt 11 = .ok (.aload_n 0, 1) := dk_42 (dk_at dksJ5_putStringAt_0 11 rfl rfl)
theorem dJ5_putStringAt_12 : decode cJ5_putStringAt 12 = .ok (.getfield 22, 3) := dk_180 0 22 (dk_at dksJ5_putStringAt_0 12 rfl rfl)
theorem dJ5_putStringAt_15 : decode cJ5_putStringAt 15 = .ok (.invokevirtual 399, 3) := dk_182 1 143 (dk_at dksJ5_putStringAt_0 15 rfl rfl)
theorem dJ5_putStringAt_18 : decode cJ5_putStringAt 18 = .ok (.return_, 1) := dk_177 (dk_at dksJ5_putStringAt_0 18 rfl rfl)
abbrev cJ5_inflateIfNeededFor : ByteArray := prog_18_method_71_code
def yJ5_inflateIfNeededFor : MethodName := ⟨RJ5, "inflateIfNeededFor", "(Ljava/lang/String;)V"⟩
def dkwJ5_inflateIfNeededFor_0 : List UInt8 := [178, 0, 18, 153, 0, 18, 42, 180, 0, 22, 43, 182, 0, 40, 159, 0, 7, 42, 182, 0, 195, 177]
abbrev dktJ5_inflateIfNeededFor_0 : List UInt8 := dkwJ5_inflateIfNeededFor_0 ++ []
theorem dksJ5_inflateIfNeededFor_0 : cJ5_inflateIfNeededFor.data.toList.drop 0 = dktJ5_inflateIfNeededFor_0 := by decide +kernel
theorem dJ5_inflateIfNeededFor_0 : decode cJ5_inflateIfNeededFor 0 = .ok (.getstatic 18, 3) := dk_178 0 18 (dk_at dksJ5_inflateIfNeededFor_0 0 rfl rfl)
theorem dJ5_inflateIfNeededFor_3 : decode cJ5_inflateIfNeededFor 3 = .ok (.ifCond .eq 18, 3) := dk_153 0 18 (dk_at dksJ5_inflateIfNeededFor_0 3 rfl rfl)
theorem dJ5_inflateIfNeededFor_6 : decode cJ5_inflateIfNeededFor 6 = .ok (.aload_n 0, 1) := dk_42 (dk_at dksJ5_inflateIfNeededFor_0 6 rfl rfl)
theorem dJ5_inflateIfNeededFor_7 : decode cJ5_inflateIfNeededFor 7 = .ok (.getfield 22, 3) := dk_180 0 22 (dk_at dksJ5_inflateIfNeededFor_0 7 rfl rfl)
theorem dJ5_inflateIfNeededFor_10 : decode cJ5_inflateIfNeededFor 10 = .ok (.aload_n 1, 1) := dk_43 (dk_at dksJ5_inflateIfNeededFor_0 10 rfl rfl)
theorem dJ5_inflateIfNeededFor_11 : decode cJ5_inflateIfNeededFor 11 = .ok (.invokevirtual 40, 3) := dk_182 0 40 (dk_at dksJ5_inflateIfNeededFor_0 11 rfl rfl)
theorem dJ5_inflateIfNeededFor_14 : decode cJ5_inflateIfNeededFor 14 = .ok (.if_icmp .eq 7, 3) := dk_159 0 7 (dk_at dksJ5_inflateIfNeededFor_0 14 rfl rfl)
theorem dJ5_inflateIfNeededFor_17 : decode cJ5_inflateIfNeededFor 17 = .ok (.aload_n 0, 1) := dk_42 (dk_at dksJ5_inflateIfNeededFor_0 17 rfl rfl)
theorem dJ5_inflateIfNeededFor_18 : decode cJ5_inflateIfNeededFor 18 = .ok (.invokevirtual 195, 3) := dk_182 0 195 (dk_at dksJ5_inflateIfNeededFor_0 18 rfl rfl)
theorem dJ5_inflateIfNeededFor_21 : decode cJ5_inflateIfNeededFor 21 = .ok (.return_, 1) := dk_177 (dk_at dksJ5_inflateIfNeededFor_0 21 rfl rfl)
abbrev cJ5_inflate : ByteArray := prog_18_method_11_code
def yJ5_inflate : MethodName := ⟨RJ5, "inflate", "()V"⟩
def dkwJ5_inflate_1 : List UInt8 := [42, 180, 0, 79, 184, 0, 125, 42, 43, 181, 0, 15, 42, 4, 181, 0, 22, 177]
abbrev dktJ5_inflate_1 : List UInt8 := dkwJ5_inflate_1 ++ []
def dkwJ5_inflate_0 : List UInt8 := [42, 182, 0, 83, 154, 0, 4, 177, 42, 180, 0, 15, 190, 184, 0, 26, 76, 42, 180, 0, 15, 3, 43, 3]
abbrev dktJ5_inflate_0 : List UInt8 := dkwJ5_inflate_0 ++ dktJ5_inflate_1
theorem dksJ5_inflate_0 : cJ5_inflate.data.toList.drop 0 = dktJ5_inflate_0 := by decide +kernel
theorem dksJ5_inflate_1 : cJ5_inflate.data.toList.drop 24 = dktJ5_inflate_1 := dk_seg dksJ5_inflate_0 24 rfl rfl
theorem dJ5_inflate_0 : decode cJ5_inflate 0 = .ok (.aload_n 0, 1) := dk_42 (dk_at dksJ5_inflate_0 0 rfl rfl)
theorem dJ5_inflate_1 : decode cJ5_inflate 1 = .ok (.invokevirtual 83, 3) := dk_182 0 83 (dk_at dksJ5_inflate_0 1 rfl rfl)
theorem dJ5_inflate_4 : decode cJ5_inflate 4 = .ok (.ifCond .ne 4, 3) := dk_154 0 4 (dk_at dksJ5_inflate_0 4 rfl rfl)
theorem dJ5_inflate_7 : decode cJ5_inflate 7 = .ok (.return_, 1) := dk_177 (dk_at dksJ5_inflate_0 7 rfl rfl)
theorem dJ5_inflate_8 : decode cJ5_inflate 8 = .ok (.aload_n 0, 1) := dk_42 (dk_at dksJ5_inflate_0 8 rfl rfl)
theorem dJ5_inflate_9 : decode cJ5_inflate 9 = .ok (.getfield 15, 3) := dk_180 0 15 (dk_at dksJ5_inflate_0 9 rfl rfl)
theorem dJ5_inflate_12 : decode cJ5_inflate 12 = .ok (.arraylength, 1) := dk_190 (dk_at dksJ5_inflate_0 12 rfl rfl)
theorem dJ5_inflate_13 : decode cJ5_inflate 13 = .ok (.invokestatic 26, 3) := dk_184 0 26 (dk_at dksJ5_inflate_0 13 rfl rfl)
theorem dJ5_inflate_16 : decode cJ5_inflate 16 = .ok (.astore_n 1, 1) := dk_76 (dk_at dksJ5_inflate_0 16 rfl rfl)
theorem dJ5_inflate_17 : decode cJ5_inflate 17 = .ok (.aload_n 0, 1) := dk_42 (dk_at dksJ5_inflate_0 17 rfl rfl)
theorem dJ5_inflate_18 : decode cJ5_inflate 18 = .ok (.getfield 15, 3) := dk_180 0 15 (dk_at dksJ5_inflate_0 18 rfl rfl)
theorem dJ5_inflate_21 : decode cJ5_inflate 21 = .ok (.iconst 0, 1) := dk_3 (dk_at dksJ5_inflate_0 21 rfl rfl)
theorem dJ5_inflate_22 : decode cJ5_inflate 22 = .ok (.aload_n 1, 1) := dk_43 (dk_at dksJ5_inflate_0 22 rfl rfl)
theorem dJ5_inflate_23 : decode cJ5_inflate 23 = .ok (.iconst 0, 1) := dk_3 (dk_at dksJ5_inflate_0 23 rfl rfl)
theorem dJ5_inflate_24 : decode cJ5_inflate 24 = .ok (.aload_n 0, 1) := dk_42 (dk_at dksJ5_inflate_1 0 rfl rfl)
theorem dJ5_inflate_25 : decode cJ5_inflate 25 = .ok (.getfield 79, 3) := dk_180 0 79 (dk_at dksJ5_inflate_1 1 rfl rfl)
theorem dJ5_inflate_28 : decode cJ5_inflate 28 = .ok (.invokestatic 125, 3) := dk_184 0 125 (dk_at dksJ5_inflate_1 4 rfl rfl)
theorem dJ5_inflate_31 : decode cJ5_inflate 31 = .ok (.aload_n 0, 1) := dk_42 (dk_at dksJ5_inflate_1 7 rfl rfl)
theorem dJ5_inflate_32 : decode cJ5_inflate 32 = .ok (.aload_n 1, 1) := dk_43 (dk_at dksJ5_inflate_1 8 rfl rfl)
theorem dJ5_inflate_33 : decode cJ5_inflate 33 = .ok (.putfield 15, 3) := dk_181 0 15 (dk_at dksJ5_inflate_1 9 rfl rfl)
theorem dJ5_inflate_36 : decode cJ5_inflate 36 = .ok (.aload_n 0, 1) := dk_42 (dk_at dksJ5_inflate_1 12 rfl rfl)
theorem dJ5_inflate_37 : decode cJ5_inflate 37 = .ok (.iconst 1, 1) := dk_4 (dk_at dksJ5_inflate_1 13 rfl rfl)
theorem dJ5_inflate_38 : decode cJ5_inflate 38 = .ok (.putfield 22, 3) := dk_181 0 22 (dk_at dksJ5_inflate_1 14 rfl rfl)
theorem dJ5_inflate_41 : decode cJ5_inflate 41 = .ok (.return_, 1) := dk_177 (dk_at dksJ5_inflate_1 17 rfl rfl)
abbrev cJ5_append_2 : ByteArray := prog_18_method_32_code
def yJ5_append_2 : MethodName := ⟨RJ5, "append", "(I)Ljava/lang/AbstractStringBuilder;"⟩
def dkwJ5_append_2_2 : List UInt8 := [42, 29, 181, 0, 79, 42, 176]
abbrev dktJ5_append_2_2 : List UInt8 := dkwJ5_append_2_2 ++ []
def dkwJ5_append_2_1 : List UInt8 := [27, 29, 42, 180, 0, 15, 184, 0, 248, 87, 167, 0, 14, 27, 28, 29, 42, 180, 0, 15, 184, 0, 251, 87]
abbrev dktJ5_append_2_1 : List UInt8 := dkwJ5_append_2_1 ++ dktJ5_append_2_2
def dkwJ5_append_2_0 : List UInt8 := [42, 180, 0, 79, 61, 28, 27, 184, 0, 245, 96, 62, 42, 29, 182, 0, 100, 42, 182, 0, 83, 153, 0, 16]
abbrev dktJ5_append_2_0 : List UInt8 := dkwJ5_append_2_0 ++ dktJ5_append_2_1
theorem dksJ5_append_2_0 : cJ5_append_2.data.toList.drop 0 = dktJ5_append_2_0 := by decide +kernel
theorem dksJ5_append_2_1 : cJ5_append_2.data.toList.drop 24 = dktJ5_append_2_1 := dk_seg dksJ5_append_2_0 24 rfl rfl
theorem dksJ5_append_2_2 : cJ5_append_2.data.toList.drop 48 = dktJ5_append_2_2 := dk_seg dksJ5_append_2_1 24 rfl rfl
theorem dJ5_append_2_0 : decode cJ5_append_2 0 = .ok (.aload_n 0, 1) := dk_42 (dk_at dksJ5_append_2_0 0 rfl rfl)
theorem dJ5_append_2_1 : decode cJ5_append_2 1 = .ok (.getfield 79, 3) := dk_180 0 79 (dk_at dksJ5_append_2_0 1 rfl rfl)
theorem dJ5_append_2_4 : decode cJ5_append_2 4 = .ok (.istore_n 2, 1) := dk_61 (dk_at dksJ5_append_2_0 4 rfl rfl)
theorem dJ5_append_2_5 : decode cJ5_append_2 5 = .ok (.iload_n 2, 1) := dk_28 (dk_at dksJ5_append_2_0 5 rfl rfl)
theorem dJ5_append_2_6 : decode cJ5_append_2 6 = .ok (.iload_n 1, 1) := dk_27 (dk_at dksJ5_append_2_0 6 rfl rfl)
theorem dJ5_append_2_7 : decode cJ5_append_2 7 = .ok (.invokestatic 245, 3) := dk_184 0 245 (dk_at dksJ5_append_2_0 7 rfl rfl)
theorem dJ5_append_2_10 : decode cJ5_append_2 10 = .ok (.iadd, 1) := dk_96 (dk_at dksJ5_append_2_0 10 rfl rfl)
theorem dJ5_append_2_11 : decode cJ5_append_2 11 = .ok (.istore_n 3, 1) := dk_62 (dk_at dksJ5_append_2_0 11 rfl rfl)
theorem dJ5_append_2_12 : decode cJ5_append_2 12 = .ok (.aload_n 0, 1) := dk_42 (dk_at dksJ5_append_2_0 12 rfl rfl)
theorem dJ5_append_2_13 : decode cJ5_append_2 13 = .ok (.iload_n 3, 1) := dk_29 (dk_at dksJ5_append_2_0 13 rfl rfl)
theorem dJ5_append_2_14 : decode cJ5_append_2 14 = .ok (.invokevirtual 100, 3) := dk_182 0 100 (dk_at dksJ5_append_2_0 14 rfl rfl)
theorem dJ5_append_2_17 : decode cJ5_append_2 17 = .ok (.aload_n 0, 1) := dk_42 (dk_at dksJ5_append_2_0 17 rfl rfl)
theorem dJ5_append_2_18 : decode cJ5_append_2 18 = .ok (.invokevirtual 83, 3) := dk_182 0 83 (dk_at dksJ5_append_2_0 18 rfl rfl)
theorem dJ5_append_2_21 : decode cJ5_append_2 21 = .ok (.ifCond .eq 16, 3) := dk_153 0 16 (dk_at dksJ5_append_2_0 21 rfl rfl)
theorem dJ5_append_2_24 : decode cJ5_append_2 24 = .ok (.iload_n 1, 1) := dk_27 (dk_at dksJ5_append_2_1 0 rfl rfl)
theorem dJ5_append_2_25 : decode cJ5_append_2 25 = .ok (.iload_n 3, 1) := dk_29 (dk_at dksJ5_append_2_1 1 rfl rfl)
theorem dJ5_append_2_26 : decode cJ5_append_2 26 = .ok (.aload_n 0, 1) := dk_42 (dk_at dksJ5_append_2_1 2 rfl rfl)
theorem dJ5_append_2_27 : decode cJ5_append_2 27 = .ok (.getfield 15, 3) := dk_180 0 15 (dk_at dksJ5_append_2_1 3 rfl rfl)
theorem dJ5_append_2_30 : decode cJ5_append_2 30 = .ok (.invokestatic 248, 3) := dk_184 0 248 (dk_at dksJ5_append_2_1 6 rfl rfl)
theorem dJ5_append_2_33 : decode cJ5_append_2 33 = .ok (.pop, 1) := dk_87 (dk_at dksJ5_append_2_1 9 rfl rfl)
theorem dJ5_append_2_34 : decode cJ5_append_2 34 = .ok (.goto 14, 3) := dk_167 0 14 (dk_at dksJ5_append_2_1 10 rfl rfl)
theorem dJ5_append_2_37 : decode cJ5_append_2 37 = .ok (.iload_n 1, 1) := dk_27 (dk_at dksJ5_append_2_1 13 rfl rfl)
theorem dJ5_append_2_38 : decode cJ5_append_2 38 = .ok (.iload_n 2, 1) := dk_28 (dk_at dksJ5_append_2_1 14 rfl rfl)
theorem dJ5_append_2_39 : decode cJ5_append_2 39 = .ok (.iload_n 3, 1) := dk_29 (dk_at dksJ5_append_2_1 15 rfl rfl)
theorem dJ5_append_2_40 : decode cJ5_append_2 40 = .ok (.aload_n 0, 1) := dk_42 (dk_at dksJ5_append_2_1 16 rfl rfl)
theorem dJ5_append_2_41 : decode cJ5_append_2 41 = .ok (.getfield 15, 3) := dk_180 0 15 (dk_at dksJ5_append_2_1 17 rfl rfl)
theorem dJ5_append_2_44 : decode cJ5_append_2 44 = .ok (.invokestatic 251, 3) := dk_184 0 251 (dk_at dksJ5_append_2_1 20 rfl rfl)
theorem dJ5_append_2_47 : decode cJ5_append_2 47 = .ok (.pop, 1) := dk_87 (dk_at dksJ5_append_2_1 23 rfl rfl)
theorem dJ5_append_2_48 : decode cJ5_append_2 48 = .ok (.aload_n 0, 1) := dk_42 (dk_at dksJ5_append_2_2 0 rfl rfl)
theorem dJ5_append_2_49 : decode cJ5_append_2 49 = .ok (.iload_n 3, 1) := dk_29 (dk_at dksJ5_append_2_2 1 rfl rfl)
theorem dJ5_append_2_50 : decode cJ5_append_2 50 = .ok (.putfield 79, 3) := dk_181 0 79 (dk_at dksJ5_append_2_2 2 rfl rfl)
theorem dJ5_append_2_53 : decode cJ5_append_2 53 = .ok (.aload_n 0, 1) := dk_42 (dk_at dksJ5_append_2_2 5 rfl rfl)
theorem dJ5_append_2_54 : decode cJ5_append_2 54 = .ok (.areturn, 1) := dk_176 (dk_at dksJ5_append_2_2 6 rfl rfl)
abbrev cJ5_getValue : ByteArray := prog_18_method_64_code
def yJ5_getValue : MethodName := ⟨RJ5, "getValue", "()[B"⟩
theorem dJ5_getValue_0 : decode cJ5_getValue 0 = .ok (.aload_n 0, 1) := by decide +kernel
theorem dJ5_getValue_1 : decode cJ5_getValue 1 = .ok (.getfield 15, 3) := by decide +kernel
theorem dJ5_getValue_4 : decode cJ5_getValue 4 = .ok (.areturn, 1) := by decide +kernel
abbrev cJ5_length : ByteArray := prog_18_method_6_code
def yJ5_length : MethodName := ⟨RJ5, "length", "()I"⟩
theorem dJ5_length_0 : decode cJ5_length 0 = .ok (.aload_n 0, 1) := by decide +kernel
theorem dJ5_length_1 : decode cJ5_length 1 = .ok (.getfield 79, 3) := by decide +kernel
theorem dJ5_length_4 : decode cJ5_length 4 = .ok (.ireturn, 1) := by decide +kernel
abbrev cJ5_append_3 : ByteArray := prog_18_method_31_code
def yJ5_append_3 : MethodName := ⟨RJ5, "append", "(C)Ljava/lang/AbstractStringBuilder;"⟩
def dkwJ5_append_3_3 : List UInt8 := [181, 0, 79, 27, 184, 0, 197, 42, 176]
abbrev dktJ5_append_3_3 : List UInt8 := dkwJ5_append_3_3 ++ []
def dkwJ5_append_3_2 : List UInt8 := [182, 0, 83, 153, 0, 7, 42, 182, 0, 195, 42, 180, 0, 15, 42, 89, 180, 0, 79, 90, 4, 96]
abbrev dktJ5_append_3_2 : List UInt8 := dkwJ5_append_3_2 ++ dktJ5_append_3_3
def dkwJ5_append_3_1 : List UInt8 := [42, 180, 0, 15, 42, 89, 180, 0, 79, 90, 4, 96, 181, 0, 79, 27, 145, 84, 167, 0, 33, 42]
abbrev dktJ5_append_3_1 : List UInt8 := dkwJ5_append_3_1 ++ dktJ5_append_3_2
def dkwJ5_append_3_0 : List UInt8 := [42, 42, 180, 0, 79, 4, 96, 182, 0, 100, 42, 182, 0, 83, 153, 0, 31, 27, 184, 0, 191, 153, 0, 24]
abbrev dktJ5_append_3_0 : List UInt8 := dkwJ5_append_3_0 ++ dktJ5_append_3_1
theorem dksJ5_append_3_0 : cJ5_append_3.data.toList.drop 0 = dktJ5_append_3_0 := by decide +kernel
theorem dksJ5_append_3_1 : cJ5_append_3.data.toList.drop 24 = dktJ5_append_3_1 := dk_seg dksJ5_append_3_0 24 rfl rfl
theorem dksJ5_append_3_2 : cJ5_append_3.data.toList.drop 46 = dktJ5_append_3_2 := dk_seg dksJ5_append_3_1 22 rfl rfl
theorem dksJ5_append_3_3 : cJ5_append_3.data.toList.drop 68 = dktJ5_append_3_3 := dk_seg dksJ5_append_3_2 22 rfl rfl
theorem dJ5_append_3_0 : decode cJ5_append_3 0 = .ok (.aload_n 0, 1) := dk_42 (dk_at dksJ5_append_3_0 0 rfl rfl)
theorem dJ5_append_3_1 : decode cJ5_append_3 1 = .ok (.aload_n 0, 1) := dk_42 (dk_at dksJ5_append_3_0 1 rfl rfl)
theorem dJ5_append_3_2 : decode cJ5_append_3 2 = .ok (.getfield 79, 3) := dk_180 0 79 (dk_at dksJ5_append_3_0 2 rfl rfl)
theorem dJ5_append_3_5 : decode cJ5_append_3 5 = .ok (.iconst 1, 1) := dk_4 (dk_at dksJ5_append_3_0 5 rfl rfl)
theorem dJ5_append_3_6 : decode cJ5_append_3 6 = .ok (.iadd, 1) := dk_96 (dk_at dksJ5_append_3_0 6 rfl rfl)
theorem dJ5_append_3_7 : decode cJ5_append_3 7 = .ok (.invokevirtual 100, 3) := dk_182 0 100 (dk_at dksJ5_append_3_0 7 rfl rfl)
theorem dJ5_append_3_10 : decode cJ5_append_3 10 = .ok (.aload_n 0, 1) := dk_42 (dk_at dksJ5_append_3_0 10 rfl rfl)
theorem dJ5_append_3_11 : decode cJ5_append_3 11 = .ok (.invokevirtual 83, 3) := dk_182 0 83 (dk_at dksJ5_append_3_0 11 rfl rfl)
theorem dJ5_append_3_14 : decode cJ5_append_3 14 = .ok (.ifCond .eq 31, 3) := dk_153 0 31 (dk_at dksJ5_append_3_0 14 rfl rfl)
theorem dJ5_append_3_17 : decode cJ5_append_3 17 = .ok (.iload_n 1, 1) := dk_27 (dk_at dksJ5_append_3_0 17 rfl rfl)
theorem dJ5_append_3_18 : decode cJ5_append_3 18 = .ok (.invokestatic 191, 3) := dk_184 0 191 (dk_at dksJ5_append_3_0 18 rfl rfl)
theorem dJ5_append_3_21 : decode cJ5_append_3 21 = .ok (.ifCond .eq 24, 3) := dk_153 0 24 (dk_at dksJ5_append_3_0 21 rfl rfl)
theorem dJ5_append_3_24 : decode cJ5_append_3 24 = .ok (.aload_n 0, 1) := dk_42 (dk_at dksJ5_append_3_1 0 rfl rfl)
theorem dJ5_append_3_25 : decode cJ5_append_3 25 = .ok (.getfield 15, 3) := dk_180 0 15 (dk_at dksJ5_append_3_1 1 rfl rfl)
theorem dJ5_append_3_28 : decode cJ5_append_3 28 = .ok (.aload_n 0, 1) := dk_42 (dk_at dksJ5_append_3_1 4 rfl rfl)
theorem dJ5_append_3_29 : decode cJ5_append_3 29 = .ok (.dup, 1) := dk_89 (dk_at dksJ5_append_3_1 5 rfl rfl)
theorem dJ5_append_3_30 : decode cJ5_append_3 30 = .ok (.getfield 79, 3) := dk_180 0 79 (dk_at dksJ5_append_3_1 6 rfl rfl)
theorem dJ5_append_3_33 : decode cJ5_append_3 33 = .ok (.dup_x1, 1) := dk_90 (dk_at dksJ5_append_3_1 9 rfl rfl)
theorem dJ5_append_3_34 : decode cJ5_append_3 34 = .ok (.iconst 1, 1) := dk_4 (dk_at dksJ5_append_3_1 10 rfl rfl)
theorem dJ5_append_3_35 : decode cJ5_append_3 35 = .ok (.iadd, 1) := dk_96 (dk_at dksJ5_append_3_1 11 rfl rfl)
theorem dJ5_append_3_36 : decode cJ5_append_3 36 = .ok (.putfield 79, 3) := dk_181 0 79 (dk_at dksJ5_append_3_1 12 rfl rfl)
theorem dJ5_append_3_39 : decode cJ5_append_3 39 = .ok (.iload_n 1, 1) := dk_27 (dk_at dksJ5_append_3_1 15 rfl rfl)
theorem dJ5_append_3_40 : decode cJ5_append_3 40 = .ok (.i2b, 1) := dk_145 (dk_at dksJ5_append_3_1 16 rfl rfl)
theorem dJ5_append_3_41 : decode cJ5_append_3 41 = .ok (.bastore, 1) := dk_84 (dk_at dksJ5_append_3_1 17 rfl rfl)
theorem dJ5_append_3_42 : decode cJ5_append_3 42 = .ok (.goto 33, 3) := dk_167 0 33 (dk_at dksJ5_append_3_1 18 rfl rfl)
theorem dJ5_append_3_45 : decode cJ5_append_3 45 = .ok (.aload_n 0, 1) := dk_42 (dk_at dksJ5_append_3_1 21 rfl rfl)
theorem dJ5_append_3_46 : decode cJ5_append_3 46 = .ok (.invokevirtual 83, 3) := dk_182 0 83 (dk_at dksJ5_append_3_2 0 rfl rfl)
theorem dJ5_append_3_49 : decode cJ5_append_3 49 = .ok (.ifCond .eq 7, 3) := dk_153 0 7 (dk_at dksJ5_append_3_2 3 rfl rfl)
theorem dJ5_append_3_52 : decode cJ5_append_3 52 = .ok (.aload_n 0, 1) := dk_42 (dk_at dksJ5_append_3_2 6 rfl rfl)
theorem dJ5_append_3_53 : decode cJ5_append_3 53 = .ok (.invokevirtual 195, 3) := dk_182 0 195 (dk_at dksJ5_append_3_2 7 rfl rfl)
theorem dJ5_append_3_56 : decode cJ5_append_3 56 = .ok (.aload_n 0, 1) := dk_42 (dk_at dksJ5_append_3_2 10 rfl rfl)
theorem dJ5_append_3_57 : decode cJ5_append_3 57 = .ok (.getfield 15, 3) := dk_180 0 15 (dk_at dksJ5_append_3_2 11 rfl rfl)
theorem dJ5_append_3_60 : decode cJ5_append_3 60 = .ok (.aload_n 0, 1) := dk_42 (dk_at dksJ5_append_3_2 14 rfl rfl)
theorem dJ5_append_3_61 : decode cJ5_append_3 61 = .ok (.dup, 1) := dk_89 (dk_at dksJ5_append_3_2 15 rfl rfl)
theorem dJ5_append_3_62 : decode cJ5_append_3 62 = .ok (.getfield 79, 3) := dk_180 0 79 (dk_at dksJ5_append_3_2 16 rfl rfl)
theorem dJ5_append_3_65 : decode cJ5_append_3 65 = .ok (.dup_x1, 1) := dk_90 (dk_at dksJ5_append_3_2 19 rfl rfl)
theorem dJ5_append_3_66 : decode cJ5_append_3 66 = .ok (.iconst 1, 1) := dk_4 (dk_at dksJ5_append_3_2 20 rfl rfl)
theorem dJ5_append_3_67 : decode cJ5_append_3 67 = .ok (.iadd, 1) := dk_96 (dk_at dksJ5_append_3_2 21 rfl rfl)
theorem dJ5_append_3_68 : decode cJ5_append_3 68 = .ok (.putfield 79, 3) := dk_181 0 79 (dk_at dksJ5_append_3_3 0 rfl rfl)
theorem dJ5_append_3_71 : decode cJ5_append_3 71 = .ok (.iload_n 1, 1) := dk_27 (dk_at dksJ5_append_3_3 3 rfl rfl)
theorem dJ5_append_3_72 : decode cJ5_append_3 72 = .ok (.invokestatic 197, 3) := dk_184 0 197 (dk_at dksJ5_append_3_3 4 rfl rfl)
theorem dJ5_append_3_75 : decode cJ5_append_3 75 = .ok (.aload_n 0, 1) := dk_42 (dk_at dksJ5_append_3_3 7 rfl rfl)
theorem dJ5_append_3_76 : decode cJ5_append_3 76 = .ok (.areturn, 1) := dk_176 (dk_at dksJ5_append_3_3 8 rfl rfl)
abbrev cJ5_charAt : ByteArray := prog_18_method_14_code
def yJ5_charAt : MethodName := ⟨RJ5, "charAt", "(I)C"⟩
def dkwJ5_charAt_1 : List UInt8 := [21, 4, 184, 0, 144, 28, 154, 0, 12, 45, 27, 51, 17, 0, 255, 126, 146, 172, 45, 27, 184, 0, 148, 172]
abbrev dktJ5_charAt_1 : List UInt8 := dkwJ5_charAt_1 ++ []
def dkwJ5_charAt_0 : List UInt8 := [42, 180, 0, 22, 61, 42, 180, 0, 15, 78, 42, 180, 0, 79, 45, 190, 28, 122, 184, 0, 138, 54, 4, 27]
abbrev dktJ5_charAt_0 : List UInt8 := dkwJ5_charAt_0 ++ dktJ5_charAt_1
theorem dksJ5_charAt_0 : cJ5_charAt.data.toList.drop 0 = dktJ5_charAt_0 := by decide +kernel
theorem dksJ5_charAt_1 : cJ5_charAt.data.toList.drop 24 = dktJ5_charAt_1 := dk_seg dksJ5_charAt_0 24 rfl rfl
theorem dJ5_charAt_0 : decode cJ5_charAt 0 = .ok (.aload_n 0, 1) := dk_42 (dk_at dksJ5_charAt_0 0 rfl rfl)
theorem dJ5_charAt_1 : decode cJ5_charAt 1 = .ok (.getfield 22, 3) := dk_180 0 22 (dk_at dksJ5_charAt_0 1 rfl rfl)
theorem dJ5_charAt_4 : decode cJ5_charAt 4 = .ok (.istore_n 2, 1) := dk_61 (dk_at dksJ5_charAt_0 4 rfl rfl)
theorem dJ5_charAt_5 : decode cJ5_charAt 5 = .ok (.aload_n 0, 1) := dk_42 (dk_at dksJ5_charAt_0 5 rfl rfl)
theorem dJ5_charAt_6 : decode cJ5_charAt 6 = .ok (.getfield 15, 3) := dk_180 0 15 (dk_at dksJ5_charAt_0 6 rfl rfl)
theorem dJ5_charAt_9 : decode cJ5_charAt 9 = .ok (.astore_n 3, 1) := dk_78 (dk_at dksJ5_charAt_0 9 rfl rfl)
theorem dJ5_charAt_10 : decode cJ5_charAt 10 = .ok (.aload_n 0, 1) := dk_42 (dk_at dksJ5_charAt_0 10 rfl rfl)
theorem dJ5_charAt_11 : decode cJ5_charAt 11 = .ok (.getfield 79, 3) := dk_180 0 79 (dk_at dksJ5_charAt_0 11 rfl rfl)
theorem dJ5_charAt_14 : decode cJ5_charAt 14 = .ok (.aload_n 3, 1) := dk_45 (dk_at dksJ5_charAt_0 14 rfl rfl)
theorem dJ5_charAt_15 : decode cJ5_charAt 15 = .ok (.arraylength, 1) := dk_190 (dk_at dksJ5_charAt_0 15 rfl rfl)
theorem dJ5_charAt_16 : decode cJ5_charAt 16 = .ok (.iload_n 2, 1) := dk_28 (dk_at dksJ5_charAt_0 16 rfl rfl)
theorem dJ5_charAt_17 : decode cJ5_charAt 17 = .ok (.ishr, 1) := dk_122 (dk_at dksJ5_charAt_0 17 rfl rfl)
theorem dJ5_charAt_18 : decode cJ5_charAt 18 = .ok (.invokestatic 138, 3) := dk_184 0 138 (dk_at dksJ5_charAt_0 18 rfl rfl)
theorem dJ5_charAt_21 : decode cJ5_charAt 21 = .ok (.istore 4, 2) := dk_54 4 (dk_at dksJ5_charAt_0 21 rfl rfl)
theorem dJ5_charAt_23 : decode cJ5_charAt 23 = .ok (.iload_n 1, 1) := dk_27 (dk_at dksJ5_charAt_0 23 rfl rfl)
theorem dJ5_charAt_24 : decode cJ5_charAt 24 = .ok (.iload 4, 2) := dk_21 4 (dk_at dksJ5_charAt_1 0 rfl rfl)
theorem dJ5_charAt_26 : decode cJ5_charAt 26 = .ok (.invokestatic 144, 3) := dk_184 0 144 (dk_at dksJ5_charAt_1 2 rfl rfl)
theorem dJ5_charAt_29 : decode cJ5_charAt 29 = .ok (.iload_n 2, 1) := dk_28 (dk_at dksJ5_charAt_1 5 rfl rfl)
theorem dJ5_charAt_30 : decode cJ5_charAt 30 = .ok (.ifCond .ne 12, 3) := dk_154 0 12 (dk_at dksJ5_charAt_1 6 rfl rfl)
theorem dJ5_charAt_33 : decode cJ5_charAt 33 = .ok (.aload_n 3, 1) := dk_45 (dk_at dksJ5_charAt_1 9 rfl rfl)
theorem dJ5_charAt_34 : decode cJ5_charAt 34 = .ok (.iload_n 1, 1) := dk_27 (dk_at dksJ5_charAt_1 10 rfl rfl)
theorem dJ5_charAt_35 : decode cJ5_charAt 35 = .ok (.baload, 1) := dk_51 (dk_at dksJ5_charAt_1 11 rfl rfl)
theorem dJ5_charAt_36 : decode cJ5_charAt 36 = .ok (.sipush 255, 3) := dk_17 0 255 (dk_at dksJ5_charAt_1 12 rfl rfl)
theorem dJ5_charAt_39 : decode cJ5_charAt 39 = .ok (.iand, 1) := dk_126 (dk_at dksJ5_charAt_1 15 rfl rfl)
theorem dJ5_charAt_40 : decode cJ5_charAt 40 = .ok (.i2c, 1) := dk_146 (dk_at dksJ5_charAt_1 16 rfl rfl)
theorem dJ5_charAt_41 : decode cJ5_charAt 41 = .ok (.ireturn, 1) := dk_172 (dk_at dksJ5_charAt_1 17 rfl rfl)
theorem dJ5_charAt_42 : decode cJ5_charAt 42 = .ok (.aload_n 3, 1) := dk_45 (dk_at dksJ5_charAt_1 18 rfl rfl)
theorem dJ5_charAt_43 : decode cJ5_charAt 43 = .ok (.iload_n 1, 1) := dk_27 (dk_at dksJ5_charAt_1 19 rfl rfl)
theorem dJ5_charAt_44 : decode cJ5_charAt 44 = .ok (.invokestatic 148, 3) := dk_184 0 148 (dk_at dksJ5_charAt_1 20 rfl rfl)
theorem dJ5_charAt_47 : decode cJ5_charAt 47 = .ok (.ireturn, 1) := dk_172 (dk_at dksJ5_charAt_1 23 rfl rfl)
theorem q78 : (Jvm.Cond.initialized "java/lang/AbstractStringBuilder") ∈ lw_all := lw_g (lw_at lw_m1 10 rfl) rfl
theorem q249 : (Jvm.Cond.instanceMethod ({ cls := "java/lang/AbstractStringBuilder", name := "<init>", desc := "(I)V" } : Jvm.MethodName)) ∈ lw_all := lw_g (lw_at lw_m1 181 rfl) rfl
theorem q250 : (Jvm.Cond.code ({ cls := "java/lang/AbstractStringBuilder", name := "<init>", desc := "(I)V" } : Jvm.MethodName) prog_18_method_2_code (2 : Nat) (Option.none : Option Jvm.ClassFile.FieldType)) ∈ lw_all := lw_g (lw_at lw_m1 182 rfl) rfl
theorem q251 : (Jvm.Cond.methodLink "java/lang/AbstractStringBuilder" (3 : Nat) ({ cls := "java/lang/Object", name := "<init>", desc := "()V" } : Jvm.MethodName)) ∈ lw_all := lw_g (lw_at lw_m1 183 rfl) rfl
theorem q252 : (Jvm.Cond.fieldLink "java/lang/AbstractStringBuilder" (18 : Nat) "java/lang/String" "COMPACT_STRINGS" "Z") ∈ lw_all := lw_g (lw_at lw_m1 184 rfl) rfl
theorem q254 : (Jvm.Cond.methodLink "java/lang/AbstractStringBuilder" (26 : Nat) ({ cls := "java/lang/StringUTF16", name := "newBytesFor", desc := "(I)[B" } : Jvm.MethodName)) ∈ lw_all := lw_g (lw_at lw_m1 186 rfl) rfl
theorem q339 : (Jvm.Cond.fieldLink "java/lang/AbstractStringBuilder" (15 : Nat) "java/lang/AbstractStringBuilder" "value" "[B") ∈ lw_all := lw_g (lw_at lw_m2 31 rfl) rfl
theorem q340 : (Jvm.Cond.fieldLink "java/lang/AbstractStringBuilder" (22 : Nat) "java/lang/AbstractStringBuilder" "coder" "B") ∈ lw_all := lw_g (lw_at lw_m2 32 rfl) rfl
theorem q341 : (Jvm.Cond.fieldLink "java/lang/AbstractStringBuilder" (73 : Nat) "java/lang/AbstractStringBuilder" "maybeLatin1" "Z") ∈ lw_all := lw_g (lw_at lw_m2 33 rfl) rfl
theorem q343 : (Jvm.Cond.fieldLink "java/lang/AbstractStringBuilder" (79 : Nat) "java/lang/AbstractStringBuilder" "count" "I") ∈ lw_all := lw_g (lw_at lw_m2 35 rfl) rfl
theorem q345 : (Jvm.Cond.soleField "java/lang/AbstractStringBuilder" "value") ∈ lw_all := lw_g (lw_at lw_m2 37 rfl) rfl
theorem q347 : (Jvm.Cond.soleField "java/lang/AbstractStringBuilder" "coder") ∈ lw_all := lw_g (lw_at lw_m2 39 rfl) rfl
theorem q349 : (Jvm.Cond.soleField "java/lang/AbstractStringBuilder" "maybeLatin1") ∈ lw_all := lw_g (lw_at lw_m2 41 rfl) rfl
theorem q351 : (Jvm.Cond.soleField "java/lang/AbstractStringBuilder" "count") ∈ lw_all := lw_g (lw_at lw_m2 43 rfl) rfl
theorem q1045 : (Jvm.Cond.instanceMethod ({ cls := "java/lang/AbstractStringBuilder", name := "compareTo", desc := "(Ljava/lang/AbstractStringBuilder;)I" } : Jvm.MethodName)) ∈ lw_all := lw_g (lw_at lw_m5 17 rfl) rfl
theorem q1046 : (Jvm.Cond.code ({ cls := "java/lang/AbstractStringBuilder", name := "compareTo", desc := "(Ljava/lang/AbstractStringBuilder;)I" } : Jvm.MethodName) prog_18_method_5_code (6 : Nat) (Option.some Jvm.ClassFile.FieldType.int)) ∈ lw_all := lw_g (lw_at lw_m5 18 rfl) rfl
theorem q1047 : (Jvm.Cond.methodLink "java/lang/AbstractStringBuilder" (83 : Nat) ({ cls := "java/lang/AbstractStringBuilder", name := "isLatin1", desc := "()Z" } : Jvm.MethodName)) ∈ lw_all := lw_g (lw_at lw_m5 19 rfl) rfl
theorem q1048 : (Jvm.Cond.instanceMethod ({ cls := "java/lang/AbstractStringBuilder", name := "isLatin1", desc := "()Z" } : Jvm.MethodName)) ∈ lw_all := lw_g (lw_at lw_m5 20 rfl) rfl
theorem q1049 : (Jvm.Cond.sameMethod "java/lang/AbstractStringBuilder" "java/lang/AbstractStringBuilder" "isLatin1" "()Z") ∈ lw_all := lw_g (lw_at lw_m5 21 rfl) rfl
theorem q1051 : (Jvm.Cond.code ({ cls := "java/lang/AbstractStringBuilder", name := "isLatin1", desc := "()Z" } : Jvm.MethodName) prog_18_method_68_code (1 : Nat) (Option.some Jvm.ClassFile.FieldType.boolean)) ∈ lw_all := lw_g (lw_at lw_m5 23 rfl) rfl
theorem q1052 : (Jvm.Cond.methodLink "java/lang/AbstractStringBuilder" (87 : Nat) ({ cls := "java/lang/StringLatin1", name := "compareTo", desc := "([B[BII)I" } : Jvm.MethodName)) ∈ lw_all := lw_g (lw_at lw_m5 24 rfl) rfl
theorem q1053 : (Jvm.Cond.methodLink "java/lang/AbstractStringBuilder" (93 : Nat) ({ cls := "java/lang/StringUTF16", name := "compareTo", desc := "([B[BII)I" } : Jvm.MethodName)) ∈ lw_all := lw_g (lw_at lw_m5 25 rfl) rfl
theorem q1067 : (Jvm.Cond.methodLink "java/lang/AbstractStringBuilder" (94 : Nat) ({ cls := "java/lang/StringLatin1", name := "compareToUTF16", desc := "([B[BII)I" } : Jvm.MethodName)) ∈ lw_all := lw_g (lw_at lw_m5 39 rfl) rfl
theorem q1071 : (Jvm.Cond.methodLink "java/lang/AbstractStringBuilder" (97 : Nat) ({ cls := "java/lang/StringUTF16", name := "compareToLatin1", desc := "([B[BII)I" } : Jvm.MethodName)) ∈ lw_all := lw_g (lw_at lw_m5 43 rfl) rfl
theorem q1646 : (Jvm.Cond.instanceMethod ({ cls := "java/lang/AbstractStringBuilder", name := "setLength", desc := "(I)V" } : Jvm.MethodName)) ∈ lw_all := lw_g (lw_at lw_m7 138 rfl) rfl
theorem q1647 : (Jvm.Cond.code ({ cls := "java/lang/AbstractStringBuilder", name := "setLength", desc := "(I)V" } : Jvm.MethodName) prog_18_method_13_code (2 : Nat) (Option.none : Option Jvm.ClassFile.FieldType)) ∈ lw_all := lw_g (lw_at lw_m7 139 rfl) rfl
theorem q1648 : (Jvm.Cond.methodLink "java/lang/AbstractStringBuilder" (100 : Nat) ({ cls := "java/lang/AbstractStringBuilder", name := "ensureCapacityInternal", desc := "(I)V" } : Jvm.MethodName)) ∈ lw_all := lw_g (lw_at lw_m7 140 rfl) rfl
theorem q1649 : (Jvm.Cond.privateMethod ({ cls := "java/lang/AbstractStringBuilder", name := "ensureCapacityInternal", desc := "(I)V" } : Jvm.MethodName)) ∈ lw_tbl := lw_at lw_m7 141 rfl
theorem q1650 : (Jvm.Cond.instanceMethod ({ cls := "java/lang/AbstractStringBuilder", name := "ensureCapacityInternal", desc := "(I)V" } : Jvm.MethodName)) ∈ lw_all := lw_g (lw_at lw_m7 142 rfl) rfl
theorem q1651 : (Jvm.Cond.code ({ cls := "java/lang/AbstractStringBuilder", name := "ensureCapacityInternal", desc := "(I)V" } : Jvm.MethodName) prog_18_method_9_code (3 : Nat) (Option.none : Option Jvm.ClassFile.FieldType)) ∈ lw_all := lw_g (lw_at lw_m7 143 rfl) rfl
theorem q1652 : (Jvm.Cond.methodLink "java/lang/AbstractStringBuilder" (104 : Nat) ({ cls := "java/lang/AbstractStringBuilder", name := "newCapacity", desc := "(I)I" } : Jvm.MethodName)) ∈ lw_all := lw_g (lw_at lw_m7 144 rfl) rfl
theorem q1653 : (Jvm.Cond.privateMethod ({ cls := "java/lang/AbstractStringBuilder", name := "newCapacity", desc := "(I)I" } : Jvm.MethodName)) ∈ lw_tbl := lw_at lw_m7 145 rfl
theorem q1654 : (Jvm.Cond.instanceMethod ({ cls := "java/lang/AbstractStringBuilder", name := "newCapacity", desc := "(I)I" } : Jvm.MethodName)) ∈ lw_all := lw_g (lw_at lw_m7 146 rfl) rfl
theorem q1655 : (Jvm.Cond.code ({ cls := "java/lang/AbstractStringBuilder", name := "newCapacity", desc := "(I)I" } : Jvm.MethodName) prog_18_method_10_code (6 : Nat) (Option.some Jvm.ClassFile.FieldType.int)) ∈ lw_all := lw_g (lw_at lw_m7 147 rfl) rfl
theorem q1656 : (Jvm.Cond.methodLink "java/lang/AbstractStringBuilder" (114 : Nat) ({ cls := "jdk/internal/util/ArraysSupport", name := "newLength", desc := "(III)I" } : Jvm.MethodName)) ∈ lw_all := lw_g (lw_at lw_m7 148 rfl) rfl
theorem q1657 : (Jvm.Cond.constant "java/lang/AbstractStringBuilder" (39 : Nat) (2147483647 : Int32)) ∈ lw_all := lw_g (lw_at lw_m7 149 rfl) rfl
theorem q1658 : (Jvm.Cond.methodLink "java/lang/AbstractStringBuilder" (108 : Nat) ({ cls := "java/util/Arrays", name := "copyOf", desc := "([BI)[B" } : Jvm.MethodName)) ∈ lw_all := lw_g (lw_at lw_m7 150 rfl) rfl
theorem q1668 : (Jvm.Cond.methodLink "java/lang/AbstractStringBuilder" (133 : Nat) ({ cls := "java/lang/StringLatin1", name := "fillNull", desc := "([BII)V" } : Jvm.MethodName)) ∈ lw_all := lw_g (lw_at lw_m7 160 rfl) rfl
theorem q1699 : (Jvm.Cond.instanceMethod ({ cls := "java/lang/AbstractStringBuilder", name := "append", desc := "(Ljava/lang/String;)Ljava/lang/AbstractStringBuilder;" } : Jvm.MethodName)) ∈ lw_all := lw_g (lw_at lw_m7 191 rfl) rfl
theorem q1700 : (Jvm.Cond.code ({ cls := "java/lang/AbstractStringBuilder", name := "append", desc := "(Ljava/lang/String;)Ljava/lang/AbstractStringBuilder;" } : Jvm.MethodName) prog_18_method_22_code (3 : Nat) (Option.some (Jvm.ClassFile.FieldType.object "java/lang/AbstractStringBuilder"))) ∈ lw_all := lw_g (lw_at lw_m7 192 rfl) rfl
theorem q1701 : (Jvm.Cond.methodLink "java/lang/AbstractStringBuilder" (204 : Nat) ({ cls := "java/lang/AbstractStringBuilder", name := "appendNull", desc := "()Ljava/lang/AbstractStringBuilder;" } : Jvm.MethodName)) ∈ lw_all := lw_g (lw_at lw_m7 193 rfl) rfl
theorem q1702 : (Jvm.Cond.privateMethod ({ cls := "java/lang/AbstractStringBuilder", name := "appendNull", desc := "()Ljava/lang/AbstractStringBuilder;" } : Jvm.MethodName)) ∈ lw_tbl := lw_at lw_m7 194 rfl
theorem q1703 : (Jvm.Cond.instanceMethod ({ cls := "java/lang/AbstractStringBuilder", name := "appendNull", desc := "()Ljava/lang/AbstractStringBuilder;" } : Jvm.MethodName)) ∈ lw_all := lw_g (lw_at lw_m7 195 rfl) rfl
theorem q1704 : (Jvm.Cond.code ({ cls := "java/lang/AbstractStringBuilder", name := "appendNull", desc := "()Ljava/lang/AbstractStringBuilder;" } : Jvm.MethodName) prog_18_method_26_code (3 : Nat) (Option.some (Jvm.ClassFile.FieldType.object "java/lang/AbstractStringBuilder"))) ∈ lw_all := lw_g (lw_at lw_m7 196 rfl) rfl
theorem q1705 : (Jvm.Cond.methodLink "java/lang/AbstractStringBuilder" (226 : Nat) ({ cls := "java/lang/StringUTF16", name := "putCharsAt", desc := "([BICCCC)I" } : Jvm.MethodName)) ∈ lw_all := lw_g (lw_at lw_m7 197 rfl) rfl
theorem q1717 : (Jvm.Cond.methodLink "java/lang/AbstractStringBuilder" (32 : Nat) ({ cls := "java/lang/String", name := "length", desc := "()I" } : Jvm.MethodName)) ∈ lw_all := lw_g (lw_at lw_m7 209 rfl) rfl
theorem q1721 : (Jvm.Cond.methodLink "java/lang/AbstractStringBuilder" (208 : Nat) ({ cls := "java/lang/AbstractStringBuilder", name := "putStringAt", desc := "(ILjava/lang/String;)V" } : Jvm.MethodName)) ∈ lw_all := lw_g (lw_at lw_m7 213 rfl) rfl
theorem q1722 : (Jvm.Cond.privateMethod ({ cls := "java/lang/AbstractStringBuilder", name := "putStringAt", desc := "(ILjava/lang/String;)V" } : Jvm.MethodName)) ∈ lw_tbl := lw_at lw_m7 214 rfl
theorem q1723 : (Jvm.Cond.instanceMethod ({ cls := "java/lang/AbstractStringBuilder", name := "putStringAt", desc := "(ILjava/lang/String;)V" } : Jvm.MethodName)) ∈ lw_all := lw_g (lw_at lw_m7 215 rfl) rfl
theorem q1724 : (Jvm.Cond.code ({ cls := "java/lang/AbstractStringBuilder", name := "putStringAt", desc := "(ILjava/lang/String;)V" } : Jvm.MethodName) prog_18_method_73_code (3 : Nat) (Option.none : Option Jvm.ClassFile.FieldType)) ∈ lw_all := lw_g (lw_at lw_m7 216 rfl) rfl
theorem q1725 : (Jvm.Cond.methodLink "java/lang/AbstractStringBuilder" (397 : Nat) ({ cls := "java/lang/AbstractStringBuilder", name := "inflateIfNeededFor", desc := "(Ljava/lang/String;)V" } : Jvm.MethodName)) ∈ lw_all := lw_g (lw_at lw_m7 217 rfl) rfl
theorem q1726 : (Jvm.Cond.privateMethod ({ cls := "java/lang/AbstractStringBuilder", name := "inflateIfNeededFor", desc := "(Ljava/lang/String;)V" } : Jvm.MethodName)) ∈ lw_tbl := lw_at lw_m7 218 rfl
theorem q1727 : (Jvm.Cond.instanceMethod ({ cls := "java/lang/AbstractStringBuilder", name := "inflateIfNeededFor", desc := "(Ljava/lang/String;)V" } : Jvm.MethodName)) ∈ lw_all := lw_g (lw_at lw_m7 219 rfl) rfl
theorem q1728 : (Jvm.Cond.code ({ cls := "java/lang/AbstractStringBuilder", name := "inflateIfNeededFor", desc := "(Ljava/lang/String;)V" } : Jvm.MethodName) prog_18_method_71_code (2 : Nat) (Option.none : Option Jvm.ClassFile.FieldType)) ∈ lw_all := lw_g (lw_at lw_m7 220 rfl) rfl
theorem q1729 : (Jvm.Cond.methodLink "java/lang/AbstractStringBuilder" (40 : Nat) ({ cls := "java/lang/String", name := "coder", desc := "()B" } : Jvm.MethodName)) ∈ lw_all := lw_g (lw_at lw_m7 221 rfl) rfl
theorem q1730 : (Jvm.Cond.methodLink "java/lang/AbstractStringBuilder" (195 : Nat) ({ cls := "java/lang/AbstractStringBuilder", name := "inflate", desc := "()V" } : Jvm.MethodName)) ∈ lw_all := lw_g (lw_at lw_m7 222 rfl) rfl
theorem q1731 : (Jvm.Cond.privateMethod ({ cls := "java/lang/AbstractStringBuilder", name := "inflate", desc := "()V" } : Jvm.MethodName)) ∈ lw_tbl := lw_at lw_m7 223 rfl
theorem q1732 : (Jvm.Cond.instanceMethod ({ cls := "java/lang/AbstractStringBuilder", name := "inflate", desc := "()V" } : Jvm.MethodName)) ∈ lw_all := lw_g (lw_at lw_m7 224 rfl) rfl
theorem q1733 : (Jvm.Cond.code ({ cls := "java/lang/AbstractStringBuilder", name := "inflate", desc := "()V" } : Jvm.MethodName) prog_18_method_11_code (2 : Nat) (Option.none : Option Jvm.ClassFile.FieldType)) ∈ lw_all := lw_g (lw_at lw_m7 225 rfl) rfl
theorem q1734 : (Jvm.Cond.methodLink "java/lang/AbstractStringBuilder" (125 : Nat) ({ cls := "java/lang/StringLatin1", name := "inflate", desc := "([BI[BII)V" } : Jvm.MethodName)) ∈ lw_all := lw_g (lw_at lw_m7 226 rfl) rfl
theorem q1749 : (Jvm.Cond.methodLink "java/lang/AbstractStringBuilder" (399 : Nat) ({ cls := "java/lang/String", name := "getBytes", desc := "([BIB)V" } : Jvm.MethodName)) ∈ lw_all := lw_g (lw_at lw_m8 1 rfl) rfl
theorem q1760 : (Jvm.Cond.instanceMethod ({ cls := "java/lang/AbstractStringBuilder", name := "append", desc := "(I)Ljava/lang/AbstractStringBuilder;" } : Jvm.MethodName)) ∈ lw_all := lw_g (lw_at lw_m8 12 rfl) rfl
theorem q1761 : (Jvm.Cond.code ({ cls := "java/lang/AbstractStringBuilder", name := "append", desc := "(I)Ljava/lang/AbstractStringBuilder;" } : Jvm.MethodName) prog_18_method_32_code (4 : Nat) (Option.some (Jvm.ClassFile.FieldType.object "java/lang/AbstractStringBuilder"))) ∈ lw_all := lw_g (lw_at lw_m8 13 rfl) rfl
theorem q1762 : (Jvm.Cond.methodLink "java/lang/AbstractStringBuilder" (245 : Nat) ({ cls := "java/lang/Integer", name := "stringSize", desc := "(I)I" } : Jvm.MethodName)) ∈ lw_all := lw_g (lw_at lw_m8 14 rfl) rfl
theorem q1765 : (Jvm.Cond.methodLink "java/lang/AbstractStringBuilder" (248 : Nat) ({ cls := "java/lang/Integer", name := "getChars", desc := "(II[B)I" } : Jvm.MethodName)) ∈ lw_all := lw_g (lw_at lw_m8 17 rfl) rfl
theorem q1772 : (Jvm.Cond.methodLink "java/lang/AbstractStringBuilder" (251 : Nat) ({ cls := "java/lang/StringUTF16", name := "getChars", desc := "(III[B)I" } : Jvm.MethodName)) ∈ lw_all := lw_g (lw_at lw_m8 24 rfl) rfl
theorem q1794 : (Jvm.Cond.instanceMethod ({ cls := "java/lang/AbstractStringBuilder", name := "getValue", desc := "()[B" } : Jvm.MethodName)) ∈ lw_all := lw_g (lw_at lw_m8 46 rfl) rfl
theorem q1795 : (Jvm.Cond.sameMethod "java/lang/AbstractStringBuilder" "java/lang/AbstractStringBuilder" "getValue" "()[B") ∈ lw_all := lw_g (lw_at lw_m8 47 rfl) rfl
theorem q1797 : (Jvm.Cond.code ({ cls := "java/lang/AbstractStringBuilder", name := "getValue", desc := "()[B" } : Jvm.MethodName) prog_18_method_64_code (1 : Nat) (Option.some (Jvm.ClassFile.FieldType.array Jvm.ClassFile.FieldType.byte))) ∈ lw_all := lw_g (lw_at lw_m8 49 rfl) rfl
theorem q1799 : (Jvm.Cond.instanceMethod ({ cls := "java/lang/AbstractStringBuilder", name := "length", desc := "()I" } : Jvm.MethodName)) ∈ lw_all := lw_g (lw_at lw_m8 51 rfl) rfl
theorem q1800 : (Jvm.Cond.sameMethod "java/lang/AbstractStringBuilder" "java/lang/AbstractStringBuilder" "length" "()I") ∈ lw_all := lw_g (lw_at lw_m8 52 rfl) rfl
theorem q1805 : (Jvm.Cond.code ({ cls := "java/lang/AbstractStringBuilder", name := "length", desc := "()I" } : Jvm.MethodName) prog_18_method_6_code (1 : Nat) (Option.some Jvm.ClassFile.FieldType.int)) ∈ lw_all := lw_g (lw_at lw_m8 57 rfl) rfl
theorem q1851 : (Jvm.Cond.methodLink "java/lang/AbstractStringBuilder" (137 : Nat) ({ cls := "java/lang/StringUTF16", name := "fillNull", desc := "([BII)V" } : Jvm.MethodName)) ∈ lw_all := lw_g (lw_at lw_m8 103 rfl) rfl
theorem q1866 : (Jvm.Cond.instanceMethod ({ cls := "java/lang/AbstractStringBuilder", name := "append", desc := "(C)Ljava/lang/AbstractStringBuilder;" } : Jvm.MethodName)) ∈ lw_all := lw_g (lw_at lw_m8 118 rfl) rfl
theorem q1867 : (Jvm.Cond.code ({ cls := "java/lang/AbstractStringBuilder", name := "append", desc := "(C)Ljava/lang/AbstractStringBuilder;" } : Jvm.MethodName) prog_18_method_31_code (2 : Nat) (Option.some (Jvm.ClassFile.FieldType.object "java/lang/AbstractStringBuilder"))) ∈ lw_all := lw_g (lw_at lw_m8 119 rfl) rfl
theorem q1868 : (Jvm.Cond.methodLink "java/lang/AbstractStringBuilder" (191 : Nat) ({ cls := "java/lang/StringLatin1", name := "canEncode", desc := "(C)Z" } : Jvm.MethodName)) ∈ lw_all := lw_g (lw_at lw_m8 120 rfl) rfl
theorem q1871 : (Jvm.Cond.methodLink "java/lang/AbstractStringBuilder" (197 : Nat) ({ cls := "java/lang/StringUTF16", name := "putCharSB", desc := "([BII)V" } : Jvm.MethodName)) ∈ lw_all := lw_g (lw_at lw_m8 123 rfl) rfl
theorem q1893 : (Jvm.Cond.instanceMethod ({ cls := "java/lang/AbstractStringBuilder", name := "charAt", desc := "(I)C" } : Jvm.MethodName)) ∈ lw_all := lw_g (lw_at lw_m8 145 rfl) rfl
theorem q1894 : (Jvm.Cond.code ({ cls := "java/lang/AbstractStringBuilder", name := "charAt", desc := "(I)C" } : Jvm.MethodName) prog_18_method_14_code (5 : Nat) (Option.some Jvm.ClassFile.FieldType.char)) ∈ lw_all := lw_g (lw_at lw_m8 146 rfl) rfl
theorem q1895 : (Jvm.Cond.methodLink "java/lang/AbstractStringBuilder" (138 : Nat) ({ cls := "java/lang/Math", name := "min", desc := "(II)I" } : Jvm.MethodName)) ∈ lw_all := lw_g (lw_at lw_m8 147 rfl) rfl
theorem q1896 : (Jvm.Cond.methodLink "java/lang/AbstractStringBuilder" (144 : Nat) ({ cls := "java/lang/String", name := "checkIndex", desc := "(II)V" } : Jvm.MethodName)) ∈ lw_all := lw_g (lw_at lw_m8 148 rfl) rfl
theorem q1897 : (Jvm.Cond.methodLink "java/lang/AbstractStringBuilder" (148 : Nat) ({ cls := "java/lang/StringUTF16", name := "getChar", desc := "([BI)C" } : Jvm.MethodName)) ∈ lw_all := lw_g (lw_at lw_m8 149 rfl) rfl
theorem q2345 : (Jvm.Cond.sameMethod "java/lang/AbstractStringBuilder" "java/lang/AbstractStringBuilder" "compareTo" "(Ljava/lang/AbstractStringBuilder;)I") ∈ lw_all := lw_g (lw_at lw_m10 117 rfl) rfl
theorem q2347 : (Jvm.Cond.sameMethod "java/lang/AbstractStringBuilder" "java/lang/AbstractStringBuilder" "setLength" "(I)V") ∈ lw_all := lw_g (lw_at lw_m10 119 rfl) rfl
theorem q2348 : (Jvm.Cond.sameMethod "java/lang/AbstractStringBuilder" "java/lang/AbstractStringBuilder" "ensureCapacityInternal" "(I)V") ∈ lw_all := lw_g (lw_at lw_m10 120 rfl) rfl
theorem q2349 : (Jvm.Cond.sameMethod "java/lang/AbstractStringBuilder" "java/lang/AbstractStringBuilder" "newCapacity" "(I)I") ∈ lw_all := lw_g (lw_at lw_m10 121 rfl) rfl
theorem q2350 : (Jvm.Cond.sameMethod "java/lang/AbstractStringBuilder" "java/lang/AbstractStringBuilder" "append" "(Ljava/lang/String;)Ljava/lang/AbstractStringBuilder;") ∈ lw_all := lw_g (lw_at lw_m10 122 rfl) rfl
theorem q2351 : (Jvm.Cond.sameMethod "java/lang/AbstractStringBuilder" "java/lang/AbstractStringBuilder" "appendNull" "()Ljava/lang/AbstractStringBuilder;") ∈ lw_all := lw_g (lw_at lw_m10 123 rfl) rfl
theorem q2352 : (Jvm.Cond.sameMethod "java/lang/AbstractStringBuilder" "java/lang/AbstractStringBuilder" "putStringAt" "(ILjava/lang/String;)V") ∈ lw_all := lw_g (lw_at lw_m10 124 rfl) rfl
theorem q2353 : (Jvm.Cond.sameMethod "java/lang/AbstractStringBuilder" "java/lang/AbstractStringBuilder" "inflateIfNeededFor" "(Ljava/lang/String;)V") ∈ lw_all := lw_g (lw_at lw_m10 125 rfl) rfl
theorem q2354 : (Jvm.Cond.sameMethod "java/lang/AbstractStringBuilder" "java/lang/AbstractStringBuilder" "inflate" "()V") ∈ lw_all := lw_g (lw_at lw_m10 126 rfl) rfl
theorem q2355 : (Jvm.Cond.sameMethod "java/lang/AbstractStringBuilder" "java/lang/AbstractStringBuilder" "append" "(I)Ljava/lang/AbstractStringBuilder;") ∈ lw_all := lw_g (lw_at lw_m10 127 rfl) rfl
theorem q2357 : (Jvm.Cond.sameMethod "java/lang/AbstractStringBuilder" "java/lang/AbstractStringBuilder" "append" "(C)Ljava/lang/AbstractStringBuilder;") ∈ lw_all := lw_g (lw_at lw_m10 129 rfl) rfl
theorem q2358 : (Jvm.Cond.sameMethod "java/lang/AbstractStringBuilder" "java/lang/AbstractStringBuilder" "charAt" "(I)C") ∈ lw_all := lw_g (lw_at lw_m10 130 rfl) rfl
/-! java/lang/StringBuilder -/
set_option maxRecDepth 100000
def RJ6 : String := "java/lang/StringBuilder"
def TJ6 : u_T := fun k => match k with
  | 0 => ("java/lang/AbstractStringBuilder", "value", "[B", false)
  | 1 => ("java/lang/AbstractStringBuilder", "coder", "B", false)
  | 2 => ("java/lang/AbstractStringBuilder", "maybeLatin1", "Z", false)
  | _ => ("java/lang/AbstractStringBuilder", "count", "I", false)
def tyJ6 : Nat → FieldType := fun k => match k with
  | 0 => .array .byte
  | 1 => .byte
  | 2 => .boolean
  | _ => .int
abbrev wsJ60 : List Cond := u_ws RJ6 TJ6 4
theorem nmJ6 : ∀ a, a < 4 → ∀ b, b < 4 → a ≠ b → (TJ6 a).2.1 ≠ (TJ6 b).2.1 := by decide +kernel
theorem tyJ6_ok : ∀ k, k < 4 → parseFieldDescriptor (TJ6 k).2.2.1 = some (tyJ6 k) := by decide +kernel
abbrev cJ6_init : ByteArray := prog_35_method_1_code
def yJ6_init : MethodName := ⟨RJ6, "<init>", "()V"⟩
def dkwJ6_init_0 : List UInt8 := [42, 16, 16, 183, 0, 1, 177]
abbrev dktJ6_init_0 : List UInt8 := dkwJ6_init_0 ++ []
theorem dksJ6_init_0 : cJ6_init.data.toList.drop 0 = dktJ6_init_0 := by decide +kernel
theorem dJ6_init_0 : decode cJ6_init 0 = .ok (.aload_n 0, 1) := dk_42 (dk_at dksJ6_init_0 0 rfl rfl)
theorem dJ6_init_1 : decode cJ6_init 1 = .ok (.bipush 16, 2) := dk_16 16 (dk_at dksJ6_init_0 1 rfl rfl)
theorem dJ6_init_3 : decode cJ6_init 3 = .ok (.invokespecial 1, 3) := dk_183 0 1 (dk_at dksJ6_init_0 3 rfl rfl)
theorem dJ6_init_6 : decode cJ6_init 6 = .ok (.return_, 1) := dk_177 (dk_at dksJ6_init_0 6 rfl rfl)
abbrev cJ6_compareTo : ByteArray := prog_35_method_97_code
def yJ6_compareTo : MethodName := ⟨RJ6, "compareTo", "(Ljava/lang/Object;)I"⟩
def dkwJ6_compareTo_0 : List UInt8 := [42, 43, 192, 0, 24, 182, 1, 90, 172]
abbrev dktJ6_compareTo_0 : List UInt8 := dkwJ6_compareTo_0 ++ []
theorem dksJ6_compareTo_0 : cJ6_compareTo.data.toList.drop 0 = dktJ6_compareTo_0 := by decide +kernel
theorem dJ6_compareTo_0 : decode cJ6_compareTo 0 = .ok (.aload_n 0, 1) := dk_42 (dk_at dksJ6_compareTo_0 0 rfl rfl)
theorem dJ6_compareTo_1 : decode cJ6_compareTo 1 = .ok (.aload_n 1, 1) := dk_43 (dk_at dksJ6_compareTo_0 1 rfl rfl)
theorem dJ6_compareTo_2 : decode cJ6_compareTo 2 = .ok (.checkcast 24, 3) := dk_192 0 24 (dk_at dksJ6_compareTo_0 2 rfl rfl)
theorem dJ6_compareTo_5 : decode cJ6_compareTo 5 = .ok (.invokevirtual 346, 3) := dk_182 1 90 (dk_at dksJ6_compareTo_0 5 rfl rfl)
theorem dJ6_compareTo_8 : decode cJ6_compareTo 8 = .ok (.ireturn, 1) := dk_172 (dk_at dksJ6_compareTo_0 8 rfl rfl)
abbrev cJ6_compareTo_2 : ByteArray := prog_35_method_5_code
def yJ6_compareTo_2 : MethodName := ⟨RJ6, "compareTo", "(Ljava/lang/StringBuilder;)I"⟩
def dkwJ6_compareTo_2_0 : List UInt8 := [42, 43, 183, 0, 13, 172]
abbrev dktJ6_compareTo_2_0 : List UInt8 := dkwJ6_compareTo_2_0 ++ []
theorem dksJ6_compareTo_2_0 : cJ6_compareTo_2.data.toList.drop 0 = dktJ6_compareTo_2_0 := by decide +kernel
theorem dJ6_compareTo_2_0 : decode cJ6_compareTo_2 0 = .ok (.aload_n 0, 1) := dk_42 (dk_at dksJ6_compareTo_2_0 0 rfl rfl)
theorem dJ6_compareTo_2_1 : decode cJ6_compareTo_2 1 = .ok (.aload_n 1, 1) := dk_43 (dk_at dksJ6_compareTo_2_0 1 rfl rfl)
theorem dJ6_compareTo_2_2 : decode cJ6_compareTo_2 2 = .ok (.invokespecial 13, 3) := dk_183 0 13 (dk_at dksJ6_compareTo_2_0 2 rfl rfl)
theorem dJ6_compareTo_2_5 : decode cJ6_compareTo_2 5 = .ok (.ireturn, 1) := dk_172 (dk_at dksJ6_compareTo_2_0 5 rfl rfl)
abbrev cJ6_setLength : ByteArray := prog_35_method_89_code
def yJ6_setLength : MethodName := ⟨RJ6, "setLength", "(I)V"⟩
def dkwJ6_setLength_0 : List UInt8 := [42, 27, 183, 1, 77, 177]
abbrev dktJ6_setLength_0 : List UInt8 := dkwJ6_setLength_0 ++ []
theorem dksJ6_setLength_0 : cJ6_setLength.data.toList.drop 0 = dktJ6_setLength_0 := by decide +kernel
theorem dJ6_setLength_0 : decode cJ6_setLength 0 = .ok (.aload_n 0, 1) := dk_42 (dk_at dksJ6_setLength_0 0 rfl rfl)
theorem dJ6_setLength_1 : decode cJ6_setLength 1 = .ok (.iload_n 1, 1) := dk_27 (dk_at dksJ6_setLength_0 1 rfl rfl)
theorem dJ6_setLength_2 : decode cJ6_setLength 2 = .ok (.invokespecial 333, 3) := dk_183 1 77 (dk_at dksJ6_setLength_0 2 rfl rfl)
theorem dJ6_setLength_5 : decode cJ6_setLength 5 = .ok (.return_, 1) := dk_177 (dk_at dksJ6_setLength_0 5 rfl rfl)
abbrev cJ6_append : ByteArray := prog_35_method_7_code
def yJ6_append : MethodName := ⟨RJ6, "append", "(Ljava/lang/String;)Ljava/lang/StringBuilder;"⟩
def dkwJ6_append_0 : List UInt8 := [42, 43, 183, 0, 29, 87, 42, 176]
abbrev dktJ6_append_0 : List UInt8 := dkwJ6_append_0 ++ []
theorem dksJ6_append_0 : cJ6_append.data.toList.drop 0 = dktJ6_append_0 := by decide +kernel
theorem dJ6_append_0 : decode cJ6_append 0 = .ok (.aload_n 0, 1) := dk_42 (dk_at dksJ6_append_0 0 rfl rfl)
theorem dJ6_append_1 : decode cJ6_append 1 = .ok (.aload_n 1, 1) := dk_43 (dk_at dksJ6_append_0 1 rfl rfl)
theorem dJ6_append_2 : decode cJ6_append 2 = .ok (.invokespecial 29, 3) := dk_183 0 29 (dk_at dksJ6_append_0 2 rfl rfl)
theorem dJ6_append_5 : decode cJ6_append 5 = .ok (.pop, 1) := dk_87 (dk_at dksJ6_append_0 5 rfl rfl)
theorem dJ6_append_6 : decode cJ6_append 6 = .ok (.aload_n 0, 1) := dk_42 (dk_at dksJ6_append_0 6 rfl rfl)
theorem dJ6_append_7 : decode cJ6_append 7 = .ok (.areturn, 1) := dk_176 (dk_at dksJ6_append_0 7 rfl rfl)
abbrev cJ6_append_2 : ByteArray := prog_35_method_15_code
def yJ6_append_2 : MethodName := ⟨RJ6, "append", "(I)Ljava/lang/StringBuilder;"⟩
def dkwJ6_append_2_0 : List UInt8 := [42, 27, 183, 0, 53, 87, 42, 176]
abbrev dktJ6_append_2_0 : List UInt8 := dkwJ6_append_2_0 ++ []
theorem dksJ6_append_2_0 : cJ6_append_2.data.toList.drop 0 = dktJ6_append_2_0 := by decide +kernel
theorem dJ6_append_2_0 : decode cJ6_append_2 0 = .ok (.aload_n 0, 1) := dk_42 (dk_at dksJ6_append_2_0 0 rfl rfl)
theorem dJ6_append_2_1 : decode cJ6_append_2 1 = .ok (.iload_n 1, 1) := dk_27 (dk_at dksJ6_append_2_0 1 rfl rfl)
theorem dJ6_append_2_2 : decode cJ6_append_2 2 = .ok (.invokespecial 53, 3) := dk_183 0 53 (dk_at dksJ6_append_2_0 2 rfl rfl)
theorem dJ6_append_2_5 : decode cJ6_append_2 5 = .ok (.pop, 1) := dk_87 (dk_at dksJ6_append_2_0 5 rfl rfl)
theorem dJ6_append_2_6 : decode cJ6_append_2 6 = .ok (.aload_n 0, 1) := dk_42 (dk_at dksJ6_append_2_0 6 rfl rfl)
theorem dJ6_append_2_7 : decode cJ6_append_2 7 = .ok (.areturn, 1) := dk_176 (dk_at dksJ6_append_2_0 7 rfl rfl)
abbrev cJ6_toString : ByteArray := prog_35_method_42_code
def yJ6_toString : MethodName := ⟨RJ6, "toString", "()Ljava/lang/String;"⟩
def dkwJ6_toString_0 : List UInt8 := [187, 0, 18, 89, 42, 183, 0, 137, 176]
abbrev dktJ6_toString_0 : List UInt8 := dkwJ6_toString_0 ++ []
theorem dksJ6_toString_0 : cJ6_toString.data.toList.drop 0 = dktJ6_toString_0 := by decide +kernel
theorem dJ6_toString_0 : decode cJ6_toString 0 = .ok (.new 18, 3) := dk_187 0 18 (dk_at dksJ6_toString_0 0 rfl rfl)
theorem dJ6_toString_3 : decode cJ6_toString 3 = .ok (.dup, 1) := dk_89 (dk_at dksJ6_toString_0 3 rfl rfl)
theorem dJ6_toString_4 : decode cJ6_toString 4 = .ok (.aload_n 0, 1) := dk_42 (dk_at dksJ6_toString_0 4 rfl rfl)
theorem dJ6_toString_5 : decode cJ6_toString 5 = .ok (.invokespecial 137, 3) := dk_183 0 137 (dk_at dksJ6_toString_0 5 rfl rfl)
theorem dJ6_toString_8 : decode cJ6_toString 8 = .ok (.areturn, 1) := dk_176 (dk_at dksJ6_toString_0 8 rfl rfl)
abbrev cJ6_length : ByteArray := prog_35_method_93_code
def yJ6_length : MethodName := ⟨RJ6, "length", "()I"⟩
theorem dJ6_length_0 : decode cJ6_length 0 = .ok (.aload_n 0, 1) := by decide +kernel
theorem dJ6_length_1 : decode cJ6_length 1 = .ok (.invokespecial 343, 3) := by decide +kernel
theorem dJ6_length_4 : decode cJ6_length 4 = .ok (.ireturn, 1) := by decide +kernel
abbrev cJ6_append_3 : ByteArray := prog_35_method_14_code
def yJ6_append_3 : MethodName := ⟨RJ6, "append", "(C)Ljava/lang/StringBuilder;"⟩
def dkwJ6_append_3_0 : List UInt8 := [42, 27, 183, 0, 50, 87, 42, 176]
abbrev dktJ6_append_3_0 : List UInt8 := dkwJ6_append_3_0 ++ []
theorem dksJ6_append_3_0 : cJ6_append_3.data.toList.drop 0 = dktJ6_append_3_0 := by decide +kernel
theorem dJ6_append_3_0 : decode cJ6_append_3 0 = .ok (.aload_n 0, 1) := dk_42 (dk_at dksJ6_append_3_0 0 rfl rfl)
theorem dJ6_append_3_1 : decode cJ6_append_3 1 = .ok (.iload_n 1, 1) := dk_27 (dk_at dksJ6_append_3_0 1 rfl rfl)
theorem dJ6_append_3_2 : decode cJ6_append_3 2 = .ok (.invokespecial 50, 3) := dk_183 0 50 (dk_at dksJ6_append_3_0 2 rfl rfl)
theorem dJ6_append_3_5 : decode cJ6_append_3 5 = .ok (.pop, 1) := dk_87 (dk_at dksJ6_append_3_0 5 rfl rfl)
theorem dJ6_append_3_6 : decode cJ6_append_3 6 = .ok (.aload_n 0, 1) := dk_42 (dk_at dksJ6_append_3_0 6 rfl rfl)
theorem dJ6_append_3_7 : decode cJ6_append_3 7 = .ok (.areturn, 1) := dk_176 (dk_at dksJ6_append_3_0 7 rfl rfl)
abbrev cJ6_charAt : ByteArray := prog_35_method_88_code
def yJ6_charAt : MethodName := ⟨RJ6, "charAt", "(I)C"⟩
def dkwJ6_charAt_0 : List UInt8 := [42, 27, 183, 1, 73, 172]
abbrev dktJ6_charAt_0 : List UInt8 := dkwJ6_charAt_0 ++ []
theorem dksJ6_charAt_0 : cJ6_charAt.data.toList.drop 0 = dktJ6_charAt_0 := by decide +kernel
theorem dJ6_charAt_0 : decode cJ6_charAt 0 = .ok (.aload_n 0, 1) := dk_42 (dk_at dksJ6_charAt_0 0 rfl rfl)
theorem dJ6_charAt_1 : decode cJ6_charAt 1 = .ok (.iload_n 1, 1) := dk_27 (dk_at dksJ6_charAt_0 1 rfl rfl)
theorem dJ6_charAt_2 : decode cJ6_charAt 2 = .ok (.invokespecial 329, 3) := dk_183 1 73 (dk_at dksJ6_charAt_0 2 rfl rfl)
theorem dJ6_charAt_5 : decode cJ6_charAt 5 = .ok (.ireturn, 1) := dk_172 (dk_at dksJ6_charAt_0 5 rfl rfl)
theorem q79 : (Jvm.Cond.initialized "java/lang/StringBuilder") ∈ lw_all := lw_g (lw_at lw_m1 11 rfl) rfl
theorem q244 : (Jvm.Cond.instantiable "java/lang/StringBuilder" (4 : Nat)) ∈ lw_all := lw_g (lw_at lw_m1 176 rfl) rfl
theorem q246 : (Jvm.Cond.instanceMethod ({ cls := "java/lang/StringBuilder", name := "<init>", desc := "()V" } : Jvm.MethodName)) ∈ lw_all := lw_g (lw_at lw_m1 178 rfl) rfl
theorem q247 : (Jvm.Cond.code ({ cls := "java/lang/StringBuilder", name := "<init>", desc := "()V" } : Jvm.MethodName) prog_35_method_1_code (1 : Nat) (Option.none : Option Jvm.ClassFile.FieldType)) ∈ lw_all := lw_g (lw_at lw_m1 179 rfl) rfl
theorem q248 : (Jvm.Cond.methodLink "java/lang/StringBuilder" (1 : Nat) ({ cls := "java/lang/AbstractStringBuilder", name := "<init>", desc := "(I)V" } : Jvm.MethodName)) ∈ lw_all := lw_g (lw_at lw_m1 180 rfl) rfl
theorem q344 : (Jvm.Cond.lays "java/lang/StringBuilder" "java/lang/AbstractStringBuilder" "value" "[B") ∈ lw_all := lw_g (lw_at lw_m2 36 rfl) rfl
theorem q346 : (Jvm.Cond.lays "java/lang/StringBuilder" "java/lang/AbstractStringBuilder" "coder" "B") ∈ lw_all := lw_g (lw_at lw_m2 38 rfl) rfl
theorem q348 : (Jvm.Cond.lays "java/lang/StringBuilder" "java/lang/AbstractStringBuilder" "maybeLatin1" "Z") ∈ lw_all := lw_g (lw_at lw_m2 40 rfl) rfl
theorem q350 : (Jvm.Cond.lays "java/lang/StringBuilder" "java/lang/AbstractStringBuilder" "count" "I") ∈ lw_all := lw_g (lw_at lw_m2 42 rfl) rfl
theorem q352 : (Jvm.Cond.superclass "java/lang/StringBuilder" "java/lang/AbstractStringBuilder") ∈ lw_all := lw_g (lw_at lw_m2 44 rfl) rfl
theorem q792 : (Jvm.Cond.selects "java/lang/StringBuilder" ({ cls := "java/lang/Object", name := "getClass", desc := "()Ljava/lang/Class;" } : Jvm.MethodName) ({ cls := "java/lang/Object", name := "getClass", desc := "()Ljava/lang/Class;" } : Jvm.MethodName)) ∈ lw_all := lw_g (lw_at lw_m4 4 rfl) rfl
theorem q1033 : (Jvm.Cond.castable "java/lang/StringBuilder" "java/lang/Comparable") ∈ lw_tbl := lw_at lw_m5 5 rfl
theorem q1034 : (Jvm.Cond.selects "java/lang/StringBuilder" ({ cls := "java/lang/Comparable", name := "compareTo", desc := "(Ljava/lang/Object;)I" } : Jvm.MethodName) ({ cls := "java/lang/StringBuilder", name := "compareTo", desc := "(Ljava/lang/Object;)I" } : Jvm.MethodName)) ∈ lw_all := lw_g (lw_at lw_m5 6 rfl) rfl
theorem q1035 : (Jvm.Cond.unhidden "java/lang/StringBuilder" "compareTo" "(Ljava/lang/Object;)I") ∈ lw_tbl := lw_at lw_m5 7 rfl
theorem q1036 : (Jvm.Cond.instanceMethod ({ cls := "java/lang/StringBuilder", name := "compareTo", desc := "(Ljava/lang/Object;)I" } : Jvm.MethodName)) ∈ lw_all := lw_g (lw_at lw_m5 8 rfl) rfl
theorem q1037 : (Jvm.Cond.publicMethod ({ cls := "java/lang/StringBuilder", name := "compareTo", desc := "(Ljava/lang/Object;)I" } : Jvm.MethodName)) ∈ lw_tbl := lw_at lw_m5 9 rfl
theorem q1038 : (Jvm.Cond.code ({ cls := "java/lang/StringBuilder", name := "compareTo", desc := "(Ljava/lang/Object;)I" } : Jvm.MethodName) prog_35_method_97_code (2 : Nat) (Option.some Jvm.ClassFile.FieldType.int)) ∈ lw_all := lw_g (lw_at lw_m5 10 rfl) rfl
theorem q1039 : (Jvm.Cond.classLink "java/lang/StringBuilder" (24 : Nat) "java/lang/StringBuilder") ∈ lw_all := lw_g (lw_at lw_m5 11 rfl) rfl
theorem q1040 : (Jvm.Cond.methodLink "java/lang/StringBuilder" (346 : Nat) ({ cls := "java/lang/StringBuilder", name := "compareTo", desc := "(Ljava/lang/StringBuilder;)I" } : Jvm.MethodName)) ∈ lw_all := lw_g (lw_at lw_m5 12 rfl) rfl
theorem q1041 : (Jvm.Cond.instanceMethod ({ cls := "java/lang/StringBuilder", name := "compareTo", desc := "(Ljava/lang/StringBuilder;)I" } : Jvm.MethodName)) ∈ lw_all := lw_g (lw_at lw_m5 13 rfl) rfl
theorem q1042 : (Jvm.Cond.selects "java/lang/StringBuilder" ({ cls := "java/lang/StringBuilder", name := "compareTo", desc := "(Ljava/lang/StringBuilder;)I" } : Jvm.MethodName) ({ cls := "java/lang/StringBuilder", name := "compareTo", desc := "(Ljava/lang/StringBuilder;)I" } : Jvm.MethodName)) ∈ lw_all := lw_g (lw_at lw_m5 14 rfl) rfl
theorem q1043 : (Jvm.Cond.code ({ cls := "java/lang/StringBuilder", name := "compareTo", desc := "(Ljava/lang/StringBuilder;)I" } : Jvm.MethodName) prog_35_method_5_code (2 : Nat) (Option.some Jvm.ClassFile.FieldType.int)) ∈ lw_all := lw_g (lw_at lw_m5 15 rfl) rfl
theorem q1044 : (Jvm.Cond.methodLink "java/lang/StringBuilder" (13 : Nat) ({ cls := "java/lang/AbstractStringBuilder", name := "compareTo", desc := "(Ljava/lang/AbstractStringBuilder;)I" } : Jvm.MethodName)) ∈ lw_all := lw_g (lw_at lw_m5 16 rfl) rfl
theorem q1050 : (Jvm.Cond.selects "java/lang/StringBuilder" ({ cls := "java/lang/AbstractStringBuilder", name := "isLatin1", desc := "()Z" } : Jvm.MethodName) ({ cls := "java/lang/AbstractStringBuilder", name := "isLatin1", desc := "()Z" } : Jvm.MethodName)) ∈ lw_all := lw_g (lw_at lw_m5 22 rfl) rfl
theorem q1642 : (Jvm.Cond.instanceMethod ({ cls := "java/lang/StringBuilder", name := "setLength", desc := "(I)V" } : Jvm.MethodName)) ∈ lw_all := lw_g (lw_at lw_m7 134 rfl) rfl
theorem q1643 : (Jvm.Cond.selects "java/lang/StringBuilder" ({ cls := "java/lang/StringBuilder", name := "setLength", desc := "(I)V" } : Jvm.MethodName) ({ cls := "java/lang/StringBuilder", name := "setLength", desc := "(I)V" } : Jvm.MethodName)) ∈ lw_all := lw_g (lw_at lw_m7 135 rfl) rfl
theorem q1644 : (Jvm.Cond.code ({ cls := "java/lang/StringBuilder", name := "setLength", desc := "(I)V" } : Jvm.MethodName) prog_35_method_89_code (2 : Nat) (Option.none : Option Jvm.ClassFile.FieldType)) ∈ lw_all := lw_g (lw_at lw_m7 136 rfl) rfl
theorem q1645 : (Jvm.Cond.methodLink "java/lang/StringBuilder" (333 : Nat) ({ cls := "java/lang/AbstractStringBuilder", name := "setLength", desc := "(I)V" } : Jvm.MethodName)) ∈ lw_all := lw_g (lw_at lw_m7 137 rfl) rfl
theorem q1695 : (Jvm.Cond.instanceMethod ({ cls := "java/lang/StringBuilder", name := "append", desc := "(Ljava/lang/String;)Ljava/lang/StringBuilder;" } : Jvm.MethodName)) ∈ lw_all := lw_g (lw_at lw_m7 187 rfl) rfl
theorem q1696 : (Jvm.Cond.selects "java/lang/StringBuilder" ({ cls := "java/lang/StringBuilder", name := "append", desc := "(Ljava/lang/String;)Ljava/lang/StringBuilder;" } : Jvm.MethodName) ({ cls := "java/lang/StringBuilder", name := "append", desc := "(Ljava/lang/String;)Ljava/lang/StringBuilder;" } : Jvm.MethodName)) ∈ lw_all := lw_g (lw_at lw_m7 188 rfl) rfl
theorem q1697 : (Jvm.Cond.code ({ cls := "java/lang/StringBuilder", name := "append", desc := "(Ljava/lang/String;)Ljava/lang/StringBuilder;" } : Jvm.MethodName) prog_35_method_7_code (2 : Nat) (Option.some (Jvm.ClassFile.FieldType.object "java/lang/StringBuilder"))) ∈ lw_all := lw_g (lw_at lw_m7 189 rfl) rfl
theorem q1698 : (Jvm.Cond.methodLink "java/lang/StringBuilder" (29 : Nat) ({ cls := "java/lang/AbstractStringBuilder", name := "append", desc := "(Ljava/lang/String;)Ljava/lang/AbstractStringBuilder;" } : Jvm.MethodName)) ∈ lw_all := lw_g (lw_at lw_m7 190 rfl) rfl
theorem q1756 : (Jvm.Cond.instanceMethod ({ cls := "java/lang/StringBuilder", name := "append", desc := "(I)Ljava/lang/StringBuilder;" } : Jvm.MethodName)) ∈ lw_all := lw_g (lw_at lw_m8 8 rfl) rfl
theorem q1757 : (Jvm.Cond.selects "java/lang/StringBuilder" ({ cls := "java/lang/StringBuilder", name := "append", desc := "(I)Ljava/lang/StringBuilder;" } : Jvm.MethodName) ({ cls := "java/lang/StringBuilder", name := "append", desc := "(I)Ljava/lang/StringBuilder;" } : Jvm.MethodName)) ∈ lw_all := lw_g (lw_at lw_m8 9 rfl) rfl
theorem q1758 : (Jvm.Cond.code ({ cls := "java/lang/StringBuilder", name := "append", desc := "(I)Ljava/lang/StringBuilder;" } : Jvm.MethodName) prog_35_method_15_code (2 : Nat) (Option.some (Jvm.ClassFile.FieldType.object "java/lang/StringBuilder"))) ∈ lw_all := lw_g (lw_at lw_m8 10 rfl) rfl
theorem q1759 : (Jvm.Cond.methodLink "java/lang/StringBuilder" (53 : Nat) ({ cls := "java/lang/AbstractStringBuilder", name := "append", desc := "(I)Ljava/lang/AbstractStringBuilder;" } : Jvm.MethodName)) ∈ lw_all := lw_g (lw_at lw_m8 11 rfl) rfl
theorem q1781 : (Jvm.Cond.instanceMethod ({ cls := "java/lang/StringBuilder", name := "toString", desc := "()Ljava/lang/String;" } : Jvm.MethodName)) ∈ lw_all := lw_g (lw_at lw_m8 33 rfl) rfl
theorem q1782 : (Jvm.Cond.selects "java/lang/StringBuilder" ({ cls := "java/lang/StringBuilder", name := "toString", desc := "()Ljava/lang/String;" } : Jvm.MethodName) ({ cls := "java/lang/StringBuilder", name := "toString", desc := "()Ljava/lang/String;" } : Jvm.MethodName)) ∈ lw_all := lw_g (lw_at lw_m8 34 rfl) rfl
theorem q1783 : (Jvm.Cond.code ({ cls := "java/lang/StringBuilder", name := "toString", desc := "()Ljava/lang/String;" } : Jvm.MethodName) prog_35_method_42_code (1 : Nat) (Option.some (Jvm.ClassFile.FieldType.object "java/lang/String"))) ∈ lw_all := lw_g (lw_at lw_m8 35 rfl) rfl
theorem q1784 : (Jvm.Cond.classLink "java/lang/StringBuilder" (18 : Nat) "java/lang/String") ∈ lw_all := lw_g (lw_at lw_m8 36 rfl) rfl
theorem q1786 : (Jvm.Cond.methodLink "java/lang/StringBuilder" (137 : Nat) ({ cls := "java/lang/String", name := "<init>", desc := "(Ljava/lang/StringBuilder;)V" } : Jvm.MethodName)) ∈ lw_all := lw_g (lw_at lw_m8 38 rfl) rfl
theorem q1796 : (Jvm.Cond.selects "java/lang/StringBuilder" ({ cls := "java/lang/AbstractStringBuilder", name := "getValue", desc := "()[B" } : Jvm.MethodName) ({ cls := "java/lang/AbstractStringBuilder", name := "getValue", desc := "()[B" } : Jvm.MethodName)) ∈ lw_all := lw_g (lw_at lw_m8 48 rfl) rfl
theorem q1801 : (Jvm.Cond.selects "java/lang/StringBuilder" ({ cls := "java/lang/AbstractStringBuilder", name := "length", desc := "()I" } : Jvm.MethodName) ({ cls := "java/lang/StringBuilder", name := "length", desc := "()I" } : Jvm.MethodName)) ∈ lw_all := lw_g (lw_at lw_m8 53 rfl) rfl
theorem q1802 : (Jvm.Cond.instanceMethod ({ cls := "java/lang/StringBuilder", name := "length", desc := "()I" } : Jvm.MethodName)) ∈ lw_all := lw_g (lw_at lw_m8 54 rfl) rfl
theorem q1803 : (Jvm.Cond.code ({ cls := "java/lang/StringBuilder", name := "length", desc := "()I" } : Jvm.MethodName) prog_35_method_93_code (1 : Nat) (Option.some Jvm.ClassFile.FieldType.int)) ∈ lw_all := lw_g (lw_at lw_m8 55 rfl) rfl
theorem q1804 : (Jvm.Cond.methodLink "java/lang/StringBuilder" (343 : Nat) ({ cls := "java/lang/AbstractStringBuilder", name := "length", desc := "()I" } : Jvm.MethodName)) ∈ lw_all := lw_g (lw_at lw_m8 56 rfl) rfl
theorem q1862 : (Jvm.Cond.instanceMethod ({ cls := "java/lang/StringBuilder", name := "append", desc := "(C)Ljava/lang/StringBuilder;" } : Jvm.MethodName)) ∈ lw_all := lw_g (lw_at lw_m8 114 rfl) rfl
theorem q1863 : (Jvm.Cond.selects "java/lang/StringBuilder" ({ cls := "java/lang/StringBuilder", name := "append", desc := "(C)Ljava/lang/StringBuilder;" } : Jvm.MethodName) ({ cls := "java/lang/StringBuilder", name := "append", desc := "(C)Ljava/lang/StringBuilder;" } : Jvm.MethodName)) ∈ lw_all := lw_g (lw_at lw_m8 115 rfl) rfl
theorem q1864 : (Jvm.Cond.code ({ cls := "java/lang/StringBuilder", name := "append", desc := "(C)Ljava/lang/StringBuilder;" } : Jvm.MethodName) prog_35_method_14_code (2 : Nat) (Option.some (Jvm.ClassFile.FieldType.object "java/lang/StringBuilder"))) ∈ lw_all := lw_g (lw_at lw_m8 116 rfl) rfl
theorem q1865 : (Jvm.Cond.methodLink "java/lang/StringBuilder" (50 : Nat) ({ cls := "java/lang/AbstractStringBuilder", name := "append", desc := "(C)Ljava/lang/AbstractStringBuilder;" } : Jvm.MethodName)) ∈ lw_all := lw_g (lw_at lw_m8 117 rfl) rfl
theorem q1889 : (Jvm.Cond.instanceMethod ({ cls := "java/lang/StringBuilder", name := "charAt", desc := "(I)C" } : Jvm.MethodName)) ∈ lw_all := lw_g (lw_at lw_m8 141 rfl) rfl
theorem q1890 : (Jvm.Cond.selects "java/lang/StringBuilder" ({ cls := "java/lang/StringBuilder", name := "charAt", desc := "(I)C" } : Jvm.MethodName) ({ cls := "java/lang/StringBuilder", name := "charAt", desc := "(I)C" } : Jvm.MethodName)) ∈ lw_all := lw_g (lw_at lw_m8 142 rfl) rfl
theorem q1891 : (Jvm.Cond.code ({ cls := "java/lang/StringBuilder", name := "charAt", desc := "(I)C" } : Jvm.MethodName) prog_35_method_88_code (2 : Nat) (Option.some Jvm.ClassFile.FieldType.char)) ∈ lw_all := lw_g (lw_at lw_m8 143 rfl) rfl
theorem q1892 : (Jvm.Cond.methodLink "java/lang/StringBuilder" (329 : Nat) ({ cls := "java/lang/AbstractStringBuilder", name := "charAt", desc := "(I)C" } : Jvm.MethodName)) ∈ lw_all := lw_g (lw_at lw_m8 144 rfl) rfl
theorem q2356 : (Jvm.Cond.selects "java/lang/StringBuilder" ({ cls := "java/lang/StringBuilder", name := "length", desc := "()I" } : Jvm.MethodName) ({ cls := "java/lang/StringBuilder", name := "length", desc := "()I" } : Jvm.MethodName)) ∈ lw_all := lw_g (lw_at lw_m10 128 rfl) rfl
theorem q2369 : (Jvm.Cond.castable "java/lang/StringBuilder" "java/lang/Object") ∈ lw_tbl := lw_at lw_m10 141 rfl
theorem in_J6 : ∀ w ∈ wsJ60, w ∈ lw_all := lw_in wsJ60 [344, 346, 348, 350] (by decide +kernel) (by decide +kernel)
/-! java/lang/String -/
set_option maxRecDepth 100000
def RJ7 : String := "java/lang/String"
def TJ7 : u_T := fun k => match k with
  | 0 => ("java/lang/String", "value", "[B", true)
  | 1 => ("java/lang/String", "coder", "B", true)
  | 2 => ("java/lang/String", "hash", "I", false)
  | _ => ("java/lang/String", "hashIsZero", "Z", false)
def tyJ7 : Nat → FieldType := fun k => match k with
  | 0 => .array .byte
  | 1 => .byte
  | 2 => .int
  | _ => .boolean
abbrev wsJ70 : List Cond := u_ws RJ7 TJ7 4
theorem nmJ7 : ∀ a, a < 4 → ∀ b, b < 4 → a ≠ b → (TJ7 a).2.1 ≠ (TJ7 b).2.1 := by decide +kernel
theorem tyJ7_ok : ∀ k, k < 4 → parseFieldDescriptor (TJ7 k).2.2.1 = some (tyJ7 k) := by decide +kernel
abbrev cJ7_compareTo : ByteArray := prog_34_method_162_code
def yJ7_compareTo : MethodName := ⟨RJ7, "compareTo", "(Ljava/lang/Object;)I"⟩
def dkwJ7_compareTo_0 : List UInt8 := [42, 43, 192, 0, 10, 182, 4, 60, 172]
abbrev dktJ7_compareTo_0 : List UInt8 := dkwJ7_compareTo_0 ++ []
theorem dksJ7_compareTo_0 : cJ7_compareTo.data.toList.drop 0 = dktJ7_compareTo_0 := by decide +kernel
theorem dJ7_compareTo_0 : decode cJ7_compareTo 0 = .ok (.aload_n 0, 1) := dk_42 (dk_at dksJ7_compareTo_0 0 rfl rfl)
theorem dJ7_compareTo_1 : decode cJ7_compareTo 1 = .ok (.aload_n 1, 1) := dk_43 (dk_at dksJ7_compareTo_0 1 rfl rfl)
theorem dJ7_compareTo_2 : decode cJ7_compareTo 2 = .ok (.checkcast 10, 3) := dk_192 0 10 (dk_at dksJ7_compareTo_0 2 rfl rfl)
theorem dJ7_compareTo_5 : decode cJ7_compareTo 5 = .ok (.invokevirtual 1084, 3) := dk_182 4 60 (dk_at dksJ7_compareTo_0 5 rfl rfl)
theorem dJ7_compareTo_8 : decode cJ7_compareTo 8 = .ok (.ireturn, 1) := dk_172 (dk_at dksJ7_compareTo_0 8 rfl rfl)
abbrev cJ7_compareTo_2 : ByteArray := prog_34_method_71_code
def yJ7_compareTo_2 : MethodName := ⟨RJ7, "compareTo", "(Ljava/lang/String;)I"⟩
def dkwJ7_compareTo_2_2 : List UInt8 := [154, 0, 11, 44, 45, 184, 2, 79, 167, 0, 8, 44, 45, 184, 2, 82, 172]
abbrev dktJ7_compareTo_2_2 : List UInt8 := dkwJ7_compareTo_2_2 ++ []
def dkwJ7_compareTo_2_1 : List UInt8 := [160, 0, 22, 21, 4, 154, 0, 11, 44, 45, 184, 2, 74, 167, 0, 8, 44, 45, 184, 2, 78, 172, 21, 4]
abbrev dktJ7_compareTo_2_1 : List UInt8 := dkwJ7_compareTo_2_1 ++ dktJ7_compareTo_2_2
def dkwJ7_compareTo_2_0 : List UInt8 := [42, 180, 0, 9, 77, 43, 180, 0, 9, 78, 42, 182, 1, 79, 54, 4, 21, 4, 43, 182, 1, 79]
abbrev dktJ7_compareTo_2_0 : List UInt8 := dkwJ7_compareTo_2_0 ++ dktJ7_compareTo_2_1
theorem dksJ7_compareTo_2_0 : cJ7_compareTo_2.data.toList.drop 0 = dktJ7_compareTo_2_0 := by decide +kernel
theorem dksJ7_compareTo_2_1 : cJ7_compareTo_2.data.toList.drop 22 = dktJ7_compareTo_2_1 := dk_seg dksJ7_compareTo_2_0 22 rfl rfl
theorem dksJ7_compareTo_2_2 : cJ7_compareTo_2.data.toList.drop 46 = dktJ7_compareTo_2_2 := dk_seg dksJ7_compareTo_2_1 24 rfl rfl
theorem dJ7_compareTo_2_0 : decode cJ7_compareTo_2 0 = .ok (.aload_n 0, 1) := dk_42 (dk_at dksJ7_compareTo_2_0 0 rfl rfl)
theorem dJ7_compareTo_2_1 : decode cJ7_compareTo_2 1 = .ok (.getfield 9, 3) := dk_180 0 9 (dk_at dksJ7_compareTo_2_0 1 rfl rfl)
theorem dJ7_compareTo_2_4 : decode cJ7_compareTo_2 4 = .ok (.astore_n 2, 1) := dk_77 (dk_at dksJ7_compareTo_2_0 4 rfl rfl)
theorem dJ7_compareTo_2_5 : decode cJ7_compareTo_2 5 = .ok (.aload_n 1, 1) := dk_43 (dk_at dksJ7_compareTo_2_0 5 rfl rfl)
theorem dJ7_compareTo_2_6 : decode cJ7_compareTo_2 6 = .ok (.getfield 9, 3) := dk_180 0 9 (dk_at dksJ7_compareTo_2_0 6 rfl rfl)
theorem dJ7_compareTo_2_9 : decode cJ7_compareTo_2 9 = .ok (.astore_n 3, 1) := dk_78 (dk_at dksJ7_compareTo_2_0 9 rfl rfl)
theorem dJ7_compareTo_2_10 : decode cJ7_compareTo_2 10 = .ok (.aload_n 0, 1) := dk_42 (dk_at dksJ7_compareTo_2_0 10 rfl rfl)
theorem dJ7_compareTo_2_11 : decode cJ7_compareTo_2 11 = .ok (.invokevirtual 335, 3) := dk_182 1 79 (dk_at dksJ7_compareTo_2_0 11 rfl rfl)
theorem dJ7_compareTo_2_14 : decode cJ7_compareTo_2 14 = .ok (.istore 4, 2) := dk_54 4 (dk_at dksJ7_compareTo_2_0 14 rfl rfl)
theorem dJ7_compareTo_2_16 : decode cJ7_compareTo_2 16 = .ok (.iload 4, 2) := dk_21 4 (dk_at dksJ7_compareTo_2_0 16 rfl rfl)
theorem dJ7_compareTo_2_18 : decode cJ7_compareTo_2 18 = .ok (.aload_n 1, 1) := dk_43 (dk_at dksJ7_compareTo_2_0 18 rfl rfl)
theorem dJ7_compareTo_2_19 : decode cJ7_compareTo_2 19 = .ok (.invokevirtual 335, 3) := dk_182 1 79 (dk_at dksJ7_compareTo_2_0 19 rfl rfl)
theorem dJ7_compareTo_2_22 : decode cJ7_compareTo_2 22 = .ok (.if_icmp .ne 22, 3) := dk_160 0 22 (dk_at dksJ7_compareTo_2_1 0 rfl rfl)
theorem dJ7_compareTo_2_25 : decode cJ7_compareTo_2 25 = .ok (.iload 4, 2) := dk_21 4 (dk_at dksJ7_compareTo_2_1 3 rfl rfl)
theorem dJ7_compareTo_2_27 : decode cJ7_compareTo_2 27 = .ok (.ifCond .ne 11, 3) := dk_154 0 11 (dk_at dksJ7_compareTo_2_1 5 rfl rfl)
theorem dJ7_compareTo_2_30 : decode cJ7_compareTo_2 30 = .ok (.aload_n 2, 1) := dk_44 (dk_at dksJ7_compareTo_2_1 8 rfl rfl)
theorem dJ7_compareTo_2_31 : decode cJ7_compareTo_2 31 = .ok (.aload_n 3, 1) := dk_45 (dk_at dksJ7_compareTo_2_1 9 rfl rfl)
theorem dJ7_compareTo_2_32 : decode cJ7_compareTo_2 32 = .ok (.invokestatic 586, 3) := dk_184 2 74 (dk_at dksJ7_compareTo_2_1 10 rfl rfl)
theorem dJ7_compareTo_2_35 : decode cJ7_compareTo_2 35 = .ok (.goto 8, 3) := dk_167 0 8 (dk_at dksJ7_compareTo_2_1 13 rfl rfl)
theorem dJ7_compareTo_2_38 : decode cJ7_compareTo_2 38 = .ok (.aload_n 2, 1) := dk_44 (dk_at dksJ7_compareTo_2_1 16 rfl rfl)
theorem dJ7_compareTo_2_39 : decode cJ7_compareTo_2 39 = .ok (.aload_n 3, 1) := dk_45 (dk_at dksJ7_compareTo_2_1 17 rfl rfl)
theorem dJ7_compareTo_2_40 : decode cJ7_compareTo_2 40 = .ok (.invokestatic 590, 3) := dk_184 2 78 (dk_at dksJ7_compareTo_2_1 18 rfl rfl)
theorem dJ7_compareTo_2_43 : decode cJ7_compareTo_2 43 = .ok (.ireturn, 1) := dk_172 (dk_at dksJ7_compareTo_2_1 21 rfl rfl)
theorem dJ7_compareTo_2_44 : decode cJ7_compareTo_2 44 = .ok (.iload 4, 2) := dk_21 4 (dk_at dksJ7_compareTo_2_1 22 rfl rfl)
theorem dJ7_compareTo_2_46 : decode cJ7_compareTo_2 46 = .ok (.ifCond .ne 11, 3) := dk_154 0 11 (dk_at dksJ7_compareTo_2_2 0 rfl rfl)
theorem dJ7_compareTo_2_49 : decode cJ7_compareTo_2 49 = .ok (.aload_n 2, 1) := dk_44 (dk_at dksJ7_compareTo_2_2 3 rfl rfl)
theorem dJ7_compareTo_2_50 : decode cJ7_compareTo_2 50 = .ok (.aload_n 3, 1) := dk_45 (dk_at dksJ7_compareTo_2_2 4 rfl rfl)
theorem dJ7_compareTo_2_51 : decode cJ7_compareTo_2 51 = .ok (.invokestatic 591, 3) := dk_184 2 79 (dk_at dksJ7_compareTo_2_2 5 rfl rfl)
theorem dJ7_compareTo_2_54 : decode cJ7_compareTo_2 54 = .ok (.goto 8, 3) := dk_167 0 8 (dk_at dksJ7_compareTo_2_2 8 rfl rfl)
theorem dJ7_compareTo_2_57 : decode cJ7_compareTo_2 57 = .ok (.aload_n 2, 1) := dk_44 (dk_at dksJ7_compareTo_2_2 11 rfl rfl)
theorem dJ7_compareTo_2_58 : decode cJ7_compareTo_2 58 = .ok (.aload_n 3, 1) := dk_45 (dk_at dksJ7_compareTo_2_2 12 rfl rfl)
theorem dJ7_compareTo_2_59 : decode cJ7_compareTo_2 59 = .ok (.invokestatic 594, 3) := dk_184 2 82 (dk_at dksJ7_compareTo_2_2 13 rfl rfl)
theorem dJ7_compareTo_2_62 : decode cJ7_compareTo_2 62 = .ok (.ireturn, 1) := dk_172 (dk_at dksJ7_compareTo_2_2 16 rfl rfl)
abbrev cJ7_coder : ByteArray := prog_34_method_152_code
def yJ7_coder : MethodName := ⟨RJ7, "coder", "()B"⟩
def dkwJ7_coder_0 : List UInt8 := [178, 0, 38, 153, 0, 10, 42, 180, 0, 15, 167, 0, 4, 4, 172]
abbrev dktJ7_coder_0 : List UInt8 := dkwJ7_coder_0 ++ []
theorem dksJ7_coder_0 : cJ7_coder.data.toList.drop 0 = dktJ7_coder_0 := by decide +kernel
theorem dJ7_coder_0 : decode cJ7_coder 0 = .ok (.getstatic 38, 3) := dk_178 0 38 (dk_at dksJ7_coder_0 0 rfl rfl)
theorem dJ7_coder_3 : decode cJ7_coder 3 = .ok (.ifCond .eq 10, 3) := dk_153 0 10 (dk_at dksJ7_coder_0 3 rfl rfl)
theorem dJ7_coder_6 : decode cJ7_coder 6 = .ok (.aload_n 0, 1) := dk_42 (dk_at dksJ7_coder_0 6 rfl rfl)
theorem dJ7_coder_7 : decode cJ7_coder 7 = .ok (.getfield 15, 3) := dk_180 0 15 (dk_at dksJ7_coder_0 7 rfl rfl)
theorem dJ7_coder_10 : decode cJ7_coder 10 = .ok (.goto 4, 3) := dk_167 0 4 (dk_at dksJ7_coder_0 10 rfl rfl)
theorem dJ7_coder_13 : decode cJ7_coder 13 = .ok (.iconst 1, 1) := dk_4 (dk_at dksJ7_coder_0 13 rfl rfl)
theorem dJ7_coder_14 : decode cJ7_coder 14 = .ok (.ireturn, 1) := dk_172 (dk_at dksJ7_coder_0 14 rfl rfl)
abbrev cJ7_checkOffset : ByteArray := prog_34_method_156_code
def yJ7_checkOffset : MethodName := ⟨RJ7, "checkOffset", "(II)V"⟩
def dkwJ7_checkOffset_0 : List UInt8 := [26, 27, 27, 178, 4, 29, 184, 4, 38, 87, 177]
abbrev dktJ7_checkOffset_0 : List UInt8 := dkwJ7_checkOffset_0 ++ []
theorem dksJ7_checkOffset_0 : cJ7_checkOffset.data.toList.drop 0 = dktJ7_checkOffset_0 := by decide +kernel
theorem dJ7_checkOffset_0 : decode cJ7_checkOffset 0 = .ok (.iload_n 0, 1) := dk_26 (dk_at dksJ7_checkOffset_0 0 rfl rfl)
theorem dJ7_checkOffset_1 : decode cJ7_checkOffset 1 = .ok (.iload_n 1, 1) := dk_27 (dk_at dksJ7_checkOffset_0 1 rfl rfl)
theorem dJ7_checkOffset_2 : decode cJ7_checkOffset 2 = .ok (.iload_n 1, 1) := dk_27 (dk_at dksJ7_checkOffset_0 2 rfl rfl)
theorem dJ7_checkOffset_3 : decode cJ7_checkOffset 3 = .ok (.getstatic 1053, 3) := dk_178 4 29 (dk_at dksJ7_checkOffset_0 3 rfl rfl)
theorem dJ7_checkOffset_6 : decode cJ7_checkOffset 6 = .ok (.invokestatic 1062, 3) := dk_184 4 38 (dk_at dksJ7_checkOffset_0 6 rfl rfl)
theorem dJ7_checkOffset_9 : decode cJ7_checkOffset 9 = .ok (.pop, 1) := dk_87 (dk_at dksJ7_checkOffset_0 9 rfl rfl)
theorem dJ7_checkOffset_10 : decode cJ7_checkOffset 10 = .ok (.return_, 1) := dk_177 (dk_at dksJ7_checkOffset_0 10 rfl rfl)
abbrev cJ7_checkBoundsBeginEnd : ByteArray := prog_34_method_158_code
def yJ7_checkBoundsBeginEnd : MethodName := ⟨RJ7, "checkBoundsBeginEnd", "(III)V"⟩
def dkwJ7_checkBoundsBeginEnd_0 : List UInt8 := [26, 27, 28, 178, 4, 29, 184, 4, 38, 87, 177]
abbrev dktJ7_checkBoundsBeginEnd_0 : List UInt8 := dkwJ7_checkBoundsBeginEnd_0 ++ []
theorem dksJ7_checkBoundsBeginEnd_0 : cJ7_checkBoundsBeginEnd.data.toList.drop 0 = dktJ7_checkBoundsBeginEnd_0 := by decide +kernel
theorem dJ7_checkBoundsBeginEnd_0 : decode cJ7_checkBoundsBeginEnd 0 = .ok (.iload_n 0, 1) := dk_26 (dk_at dksJ7_checkBoundsBeginEnd_0 0 rfl rfl)
theorem dJ7_checkBoundsBeginEnd_1 : decode cJ7_checkBoundsBeginEnd 1 = .ok (.iload_n 1, 1) := dk_27 (dk_at dksJ7_checkBoundsBeginEnd_0 1 rfl rfl)
theorem dJ7_checkBoundsBeginEnd_2 : decode cJ7_checkBoundsBeginEnd 2 = .ok (.iload_n 2, 1) := dk_28 (dk_at dksJ7_checkBoundsBeginEnd_0 2 rfl rfl)
theorem dJ7_checkBoundsBeginEnd_3 : decode cJ7_checkBoundsBeginEnd 3 = .ok (.getstatic 1053, 3) := dk_178 4 29 (dk_at dksJ7_checkBoundsBeginEnd_0 3 rfl rfl)
theorem dJ7_checkBoundsBeginEnd_6 : decode cJ7_checkBoundsBeginEnd 6 = .ok (.invokestatic 1062, 3) := dk_184 4 38 (dk_at dksJ7_checkBoundsBeginEnd_0 6 rfl rfl)
theorem dJ7_checkBoundsBeginEnd_9 : decode cJ7_checkBoundsBeginEnd 9 = .ok (.pop, 1) := dk_87 (dk_at dksJ7_checkBoundsBeginEnd_0 9 rfl rfl)
theorem dJ7_checkBoundsBeginEnd_10 : decode cJ7_checkBoundsBeginEnd 10 = .ok (.return_, 1) := dk_177 (dk_at dksJ7_checkBoundsBeginEnd_0 10 rfl rfl)
abbrev cJ7_length : ByteArray := prog_34_method_54_code
def yJ7_length : MethodName := ⟨RJ7, "length", "()I"⟩
def dkwJ7_length_0 : List UInt8 := [42, 180, 0, 9, 190, 42, 182, 1, 79, 122, 172]
abbrev dktJ7_length_0 : List UInt8 := dkwJ7_length_0 ++ []
theorem dksJ7_length_0 : cJ7_length.data.toList.drop 0 = dktJ7_length_0 := by decide +kernel
theorem dJ7_length_0 : decode cJ7_length 0 = .ok (.aload_n 0, 1) := dk_42 (dk_at dksJ7_length_0 0 rfl rfl)
theorem dJ7_length_1 : decode cJ7_length 1 = .ok (.getfield 9, 3) := dk_180 0 9 (dk_at dksJ7_length_0 1 rfl rfl)
theorem dJ7_length_4 : decode cJ7_length 4 = .ok (.arraylength, 1) := dk_190 (dk_at dksJ7_length_0 4 rfl rfl)
theorem dJ7_length_5 : decode cJ7_length 5 = .ok (.aload_n 0, 1) := dk_42 (dk_at dksJ7_length_0 5 rfl rfl)
theorem dJ7_length_6 : decode cJ7_length 6 = .ok (.invokevirtual 335, 3) := dk_182 1 79 (dk_at dksJ7_length_0 6 rfl rfl)
theorem dJ7_length_9 : decode cJ7_length 9 = .ok (.ishr, 1) := dk_122 (dk_at dksJ7_length_0 9 rfl rfl)
theorem dJ7_length_10 : decode cJ7_length 10 = .ok (.ireturn, 1) := dk_172 (dk_at dksJ7_length_0 10 rfl rfl)
abbrev cJ7_checkBoundsOffCount : ByteArray := prog_34_method_157_code
def yJ7_checkBoundsOffCount : MethodName := ⟨RJ7, "checkBoundsOffCount", "(III)I"⟩
def dkwJ7_checkBoundsOffCount_0 : List UInt8 := [26, 27, 28, 178, 4, 29, 184, 4, 41, 172]
abbrev dktJ7_checkBoundsOffCount_0 : List UInt8 := dkwJ7_checkBoundsOffCount_0 ++ []
theorem dksJ7_checkBoundsOffCount_0 : cJ7_checkBoundsOffCount.data.toList.drop 0 = dktJ7_checkBoundsOffCount_0 := by decide +kernel
theorem dJ7_checkBoundsOffCount_0 : decode cJ7_checkBoundsOffCount 0 = .ok (.iload_n 0, 1) := dk_26 (dk_at dksJ7_checkBoundsOffCount_0 0 rfl rfl)
theorem dJ7_checkBoundsOffCount_1 : decode cJ7_checkBoundsOffCount 1 = .ok (.iload_n 1, 1) := dk_27 (dk_at dksJ7_checkBoundsOffCount_0 1 rfl rfl)
theorem dJ7_checkBoundsOffCount_2 : decode cJ7_checkBoundsOffCount 2 = .ok (.iload_n 2, 1) := dk_28 (dk_at dksJ7_checkBoundsOffCount_0 2 rfl rfl)
theorem dJ7_checkBoundsOffCount_3 : decode cJ7_checkBoundsOffCount 3 = .ok (.getstatic 1053, 3) := dk_178 4 29 (dk_at dksJ7_checkBoundsOffCount_0 3 rfl rfl)
theorem dJ7_checkBoundsOffCount_6 : decode cJ7_checkBoundsOffCount 6 = .ok (.invokestatic 1065, 3) := dk_184 4 41 (dk_at dksJ7_checkBoundsOffCount_0 6 rfl rfl)
theorem dJ7_checkBoundsOffCount_9 : decode cJ7_checkBoundsOffCount 9 = .ok (.ireturn, 1) := dk_172 (dk_at dksJ7_checkBoundsOffCount_0 9 rfl rfl)
abbrev cJ7_getBytes : ByteArray := prog_34_method_147_code
def yJ7_getBytes : MethodName := ⟨RJ7, "getBytes", "([BIB)V"⟩
def dkwJ7_getBytes_1 : List UInt8 := [184, 0, 212, 167, 0, 18, 42, 180, 0, 9, 3, 43, 28, 42, 180, 0, 9, 190, 184, 0, 106, 177]
abbrev dktJ7_getBytes_1 : List UInt8 := dkwJ7_getBytes_1 ++ []
def dkwJ7_getBytes_0 : List UInt8 := [42, 182, 1, 79, 29, 160, 0, 23, 42, 180, 0, 9, 3, 43, 28, 29, 120, 42, 180, 0, 9, 190]
abbrev dktJ7_getBytes_0 : List UInt8 := dkwJ7_getBytes_0 ++ dktJ7_getBytes_1
theorem dksJ7_getBytes_0 : cJ7_getBytes.data.toList.drop 0 = dktJ7_getBytes_0 := by decide +kernel
theorem dksJ7_getBytes_1 : cJ7_getBytes.data.toList.drop 22 = dktJ7_getBytes_1 := dk_seg dksJ7_getBytes_0 22 rfl rfl
theorem dJ7_getBytes_0 : decode cJ7_getBytes 0 = .ok (.aload_n 0, 1) := dk_42 (dk_at dksJ7_getBytes_0 0 rfl rfl)
theorem dJ7_getBytes_1 : decode cJ7_getBytes 1 = .ok (.invokevirtual 335, 3) := dk_182 1 79 (dk_at dksJ7_getBytes_0 1 rfl rfl)
theorem dJ7_getBytes_4 : decode cJ7_getBytes 4 = .ok (.iload_n 3, 1) := dk_29 (dk_at dksJ7_getBytes_0 4 rfl rfl)
theorem dJ7_getBytes_5 : decode cJ7_getBytes 5 = .ok (.if_icmp .ne 23, 3) := dk_160 0 23 (dk_at dksJ7_getBytes_0 5 rfl rfl)
theorem dJ7_getBytes_8 : decode cJ7_getBytes 8 = .ok (.aload_n 0, 1) := dk_42 (dk_at dksJ7_getBytes_0 8 rfl rfl)
theorem dJ7_getBytes_9 : decode cJ7_getBytes 9 = .ok (.getfield 9, 3) := dk_180 0 9 (dk_at dksJ7_getBytes_0 9 rfl rfl)
theorem dJ7_getBytes_12 : decode cJ7_getBytes 12 = .ok (.iconst 0, 1) := dk_3 (dk_at dksJ7_getBytes_0 12 rfl rfl)
theorem dJ7_getBytes_13 : decode cJ7_getBytes 13 = .ok (.aload_n 1, 1) := dk_43 (dk_at dksJ7_getBytes_0 13 rfl rfl)
theorem dJ7_getBytes_14 : decode cJ7_getBytes 14 = .ok (.iload_n 2, 1) := dk_28 (dk_at dksJ7_getBytes_0 14 rfl rfl)
theorem dJ7_getBytes_15 : decode cJ7_getBytes 15 = .ok (.iload_n 3, 1) := dk_29 (dk_at dksJ7_getBytes_0 15 rfl rfl)
theorem dJ7_getBytes_16 : decode cJ7_getBytes 16 = .ok (.ishl, 1) := dk_120 (dk_at dksJ7_getBytes_0 16 rfl rfl)
theorem dJ7_getBytes_17 : decode cJ7_getBytes 17 = .ok (.aload_n 0, 1) := dk_42 (dk_at dksJ7_getBytes_0 17 rfl rfl)
theorem dJ7_getBytes_18 : decode cJ7_getBytes 18 = .ok (.getfield 9, 3) := dk_180 0 9 (dk_at dksJ7_getBytes_0 18 rfl rfl)
theorem dJ7_getBytes_21 : decode cJ7_getBytes 21 = .ok (.arraylength, 1) := dk_190 (dk_at dksJ7_getBytes_0 21 rfl rfl)
theorem dJ7_getBytes_22 : decode cJ7_getBytes 22 = .ok (.invokestatic 212, 3) := dk_184 0 212 (dk_at dksJ7_getBytes_1 0 rfl rfl)
theorem dJ7_getBytes_25 : decode cJ7_getBytes 25 = .ok (.goto 18, 3) := dk_167 0 18 (dk_at dksJ7_getBytes_1 3 rfl rfl)
theorem dJ7_getBytes_28 : decode cJ7_getBytes 28 = .ok (.aload_n 0, 1) := dk_42 (dk_at dksJ7_getBytes_1 6 rfl rfl)
theorem dJ7_getBytes_29 : decode cJ7_getBytes 29 = .ok (.getfield 9, 3) := dk_180 0 9 (dk_at dksJ7_getBytes_1 7 rfl rfl)
theorem dJ7_getBytes_32 : decode cJ7_getBytes 32 = .ok (.iconst 0, 1) := dk_3 (dk_at dksJ7_getBytes_1 10 rfl rfl)
theorem dJ7_getBytes_33 : decode cJ7_getBytes 33 = .ok (.aload_n 1, 1) := dk_43 (dk_at dksJ7_getBytes_1 11 rfl rfl)
theorem dJ7_getBytes_34 : decode cJ7_getBytes 34 = .ok (.iload_n 2, 1) := dk_28 (dk_at dksJ7_getBytes_1 12 rfl rfl)
theorem dJ7_getBytes_35 : decode cJ7_getBytes 35 = .ok (.aload_n 0, 1) := dk_42 (dk_at dksJ7_getBytes_1 13 rfl rfl)
theorem dJ7_getBytes_36 : decode cJ7_getBytes 36 = .ok (.getfield 9, 3) := dk_180 0 9 (dk_at dksJ7_getBytes_1 14 rfl rfl)
theorem dJ7_getBytes_39 : decode cJ7_getBytes 39 = .ok (.arraylength, 1) := dk_190 (dk_at dksJ7_getBytes_1 17 rfl rfl)
theorem dJ7_getBytes_40 : decode cJ7_getBytes 40 = .ok (.invokestatic 106, 3) := dk_184 0 106 (dk_at dksJ7_getBytes_1 18 rfl rfl)
theorem dJ7_getBytes_43 : decode cJ7_getBytes 43 = .ok (.return_, 1) := dk_177 (dk_at dksJ7_getBytes_1 21 rfl rfl)
abbrev cJ7_init : ByteArray := prog_34_method_53_code
def yJ7_init : MethodName := ⟨RJ7, "<init>", "(Ljava/lang/StringBuilder;)V"⟩
def dkwJ7_init_0 : List UInt8 := [42, 43, 1, 183, 1, 233, 177]
abbrev dktJ7_init_0 : List UInt8 := dkwJ7_init_0 ++ []
theorem dksJ7_init_0 : cJ7_init.data.toList.drop 0 = dktJ7_init_0 := by decide +kernel
theorem dJ7_init_0 : decode cJ7_init 0 = .ok (.aload_n 0, 1) := dk_42 (dk_at dksJ7_init_0 0 rfl rfl)
theorem dJ7_init_1 : decode cJ7_init 1 = .ok (.aload_n 1, 1) := dk_43 (dk_at dksJ7_init_0 1 rfl rfl)
theorem dJ7_init_2 : decode cJ7_init 2 = .ok (.aconst_null, 1) := dk_1 (dk_at dksJ7_init_0 2 rfl rfl)
theorem dJ7_init_3 : decode cJ7_init 3 = .ok (.invokespecial 489, 3) := dk_183 1 233 (dk_at dksJ7_init_0 3 rfl rfl)
theorem dJ7_init_6 : decode cJ7_init 6 = .ok (.return_, 1) := dk_177 (dk_at dksJ7_init_0 6 rfl rfl)
abbrev cJ7_init_2 : ByteArray := prog_34_method_150_code
def yJ7_init_2 : MethodName := ⟨RJ7, "<init>", "(Ljava/lang/AbstractStringBuilder;Ljava/lang/Void;)V"⟩
def dkwJ7_init_2_4 : List UInt8 := [181, 0, 9, 177]
abbrev dktJ7_init_2_4 : List UInt8 := dkwJ7_init_2_4 ++ []
def dkwJ7_init_2_3 : List UInt8 := [184, 0, 47, 181, 0, 15, 177, 42, 4, 181, 0, 15, 42, 45, 3, 21, 4, 4, 120, 184, 0, 54]
abbrev dktJ7_init_2_3 : List UInt8 := dkwJ7_init_2_3 ++ dktJ7_init_2_4
def dkwJ7_init_2_2 : List UInt8 := [180, 4, 24, 153, 0, 28, 42, 45, 3, 21, 4, 184, 4, 27, 181, 0, 9, 42, 42, 180, 0, 9, 21, 4]
abbrev dktJ7_init_2_2 : List UInt8 := dkwJ7_init_2_2 ++ dktJ7_init_2_3
def dkwJ7_init_2_1 : List UInt8 := [181, 0, 15, 42, 45, 3, 21, 4, 184, 0, 54, 181, 0, 9, 167, 0, 59, 178, 0, 38, 153, 0, 35, 43]
abbrev dktJ7_init_2_1 : List UInt8 := dkwJ7_init_2_1 ++ dktJ7_init_2_2
def dkwJ7_init_2_0 : List UInt8 := [42, 183, 0, 1, 43, 182, 2, 40, 78, 43, 182, 2, 37, 54, 4, 43, 182, 4, 23, 153, 0, 22, 42, 3]
abbrev dktJ7_init_2_0 : List UInt8 := dkwJ7_init_2_0 ++ dktJ7_init_2_1
theorem dksJ7_init_2_0 : cJ7_init_2.data.toList.drop 0 = dktJ7_init_2_0 := by decide +kernel
theorem dksJ7_init_2_1 : cJ7_init_2.data.toList.drop 24 = dktJ7_init_2_1 := dk_seg dksJ7_init_2_0 24 rfl rfl
theorem dksJ7_init_2_2 : cJ7_init_2.data.toList.drop 48 = dktJ7_init_2_2 := dk_seg dksJ7_init_2_1 24 rfl rfl
theorem dksJ7_init_2_3 : cJ7_init_2.data.toList.drop 72 = dktJ7_init_2_3 := dk_seg dksJ7_init_2_2 24 rfl rfl
theorem dksJ7_init_2_4 : cJ7_init_2.data.toList.drop 94 = dktJ7_init_2_4 := dk_seg dksJ7_init_2_3 22 rfl rfl
theorem dJ7_init_2_0 : decode cJ7_init_2 0 = .ok (.aload_n 0, 1) := dk_42 (dk_at dksJ7_init_2_0 0 rfl rfl)
theorem dJ7_init_2_1 : decode cJ7_init_2 1 = .ok (.invokespecial 1, 3) := dk_183 0 1 (dk_at dksJ7_init_2_0 1 rfl rfl)
theorem dJ7_init_2_4 : decode cJ7_init_2 4 = .ok (.aload_n 1, 1) := dk_43 (dk_at dksJ7_init_2_0 4 rfl rfl)
theorem dJ7_init_2_5 : decode cJ7_init_2 5 = .ok (.invokevirtual 552, 3) := dk_182 2 40 (dk_at dksJ7_init_2_0 5 rfl rfl)
theorem dJ7_init_2_8 : decode cJ7_init_2 8 = .ok (.astore_n 3, 1) := dk_78 (dk_at dksJ7_init_2_0 8 rfl rfl)
theorem dJ7_init_2_9 : decode cJ7_init_2 9 = .ok (.aload_n 1, 1) := dk_43 (dk_at dksJ7_init_2_0 9 rfl rfl)
theorem dJ7_init_2_10 : decode cJ7_init_2 10 = .ok (.invokevirtual 549, 3) := dk_182 2 37 (dk_at dksJ7_init_2_0 10 rfl rfl)
theorem dJ7_init_2_13 : decode cJ7_init_2 13 = .ok (.istore 4, 2) := dk_54 4 (dk_at dksJ7_init_2_0 13 rfl rfl)
theorem dJ7_init_2_15 : decode cJ7_init_2 15 = .ok (.aload_n 1, 1) := dk_43 (dk_at dksJ7_init_2_0 15 rfl rfl)
theorem dJ7_init_2_16 : decode cJ7_init_2 16 = .ok (.invokevirtual 1047, 3) := dk_182 4 23 (dk_at dksJ7_init_2_0 16 rfl rfl)
theorem dJ7_init_2_19 : decode cJ7_init_2 19 = .ok (.ifCond .eq 22, 3) := dk_153 0 22 (dk_at dksJ7_init_2_0 19 rfl rfl)
theorem dJ7_init_2_22 : decode cJ7_init_2 22 = .ok (.aload_n 0, 1) := dk_42 (dk_at dksJ7_init_2_0 22 rfl rfl)
theorem dJ7_init_2_23 : decode cJ7_init_2 23 = .ok (.iconst 0, 1) := dk_3 (dk_at dksJ7_init_2_0 23 rfl rfl)
theorem dJ7_init_2_24 : decode cJ7_init_2 24 = .ok (.putfield 15, 3) := dk_181 0 15 (dk_at dksJ7_init_2_1 0 rfl rfl)
theorem dJ7_init_2_27 : decode cJ7_init_2 27 = .ok (.aload_n 0, 1) := dk_42 (dk_at dksJ7_init_2_1 3 rfl rfl)
theorem dJ7_init_2_28 : decode cJ7_init_2 28 = .ok (.aload_n 3, 1) := dk_45 (dk_at dksJ7_init_2_1 4 rfl rfl)
theorem dJ7_init_2_29 : decode cJ7_init_2 29 = .ok (.iconst 0, 1) := dk_3 (dk_at dksJ7_init_2_1 5 rfl rfl)
theorem dJ7_init_2_30 : decode cJ7_init_2 30 = .ok (.iload 4, 2) := dk_21 4 (dk_at dksJ7_init_2_1 6 rfl rfl)
theorem dJ7_init_2_32 : decode cJ7_init_2 32 = .ok (.invokestatic 54, 3) := dk_184 0 54 (dk_at dksJ7_init_2_1 8 rfl rfl)
theorem dJ7_init_2_35 : decode cJ7_init_2 35 = .ok (.putfield 9, 3) := dk_181 0 9 (dk_at dksJ7_init_2_1 11 rfl rfl)
theorem dJ7_init_2_38 : decode cJ7_init_2 38 = .ok (.goto 59, 3) := dk_167 0 59 (dk_at dksJ7_init_2_1 14 rfl rfl)
theorem dJ7_init_2_41 : decode cJ7_init_2 41 = .ok (.getstatic 38, 3) := dk_178 0 38 (dk_at dksJ7_init_2_1 17 rfl rfl)
theorem dJ7_init_2_44 : decode cJ7_init_2 44 = .ok (.ifCond .eq 35, 3) := dk_153 0 35 (dk_at dksJ7_init_2_1 20 rfl rfl)
theorem dJ7_init_2_47 : decode cJ7_init_2 47 = .ok (.aload_n 1, 1) := dk_43 (dk_at dksJ7_init_2_1 23 rfl rfl)
theorem dJ7_init_2_48 : decode cJ7_init_2 48 = .ok (.getfield 1048, 3) := dk_180 4 24 (dk_at dksJ7_init_2_2 0 rfl rfl)
theorem dJ7_init_2_51 : decode cJ7_init_2 51 = .ok (.ifCond .eq 28, 3) := dk_153 0 28 (dk_at dksJ7_init_2_2 3 rfl rfl)
theorem dJ7_init_2_54 : decode cJ7_init_2 54 = .ok (.aload_n 0, 1) := dk_42 (dk_at dksJ7_init_2_2 6 rfl rfl)
theorem dJ7_init_2_55 : decode cJ7_init_2 55 = .ok (.aload_n 3, 1) := dk_45 (dk_at dksJ7_init_2_2 7 rfl rfl)
theorem dJ7_init_2_56 : decode cJ7_init_2 56 = .ok (.iconst 0, 1) := dk_3 (dk_at dksJ7_init_2_2 8 rfl rfl)
theorem dJ7_init_2_57 : decode cJ7_init_2 57 = .ok (.iload 4, 2) := dk_21 4 (dk_at dksJ7_init_2_2 9 rfl rfl)
theorem dJ7_init_2_59 : decode cJ7_init_2 59 = .ok (.invokestatic 1051, 3) := dk_184 4 27 (dk_at dksJ7_init_2_2 11 rfl rfl)
theorem dJ7_init_2_62 : decode cJ7_init_2 62 = .ok (.putfield 9, 3) := dk_181 0 9 (dk_at dksJ7_init_2_2 14 rfl rfl)
theorem dJ7_init_2_65 : decode cJ7_init_2 65 = .ok (.aload_n 0, 1) := dk_42 (dk_at dksJ7_init_2_2 17 rfl rfl)
theorem dJ7_init_2_66 : decode cJ7_init_2 66 = .ok (.aload_n 0, 1) := dk_42 (dk_at dksJ7_init_2_2 18 rfl rfl)
theorem dJ7_init_2_67 : decode cJ7_init_2 67 = .ok (.getfield 9, 3) := dk_180 0 9 (dk_at dksJ7_init_2_2 19 rfl rfl)
theorem dJ7_init_2_70 : decode cJ7_init_2 70 = .ok (.iload 4, 2) := dk_21 4 (dk_at dksJ7_init_2_2 22 rfl rfl)
theorem dJ7_init_2_72 : decode cJ7_init_2 72 = .ok (.invokestatic 47, 3) := dk_184 0 47 (dk_at dksJ7_init_2_3 0 rfl rfl)
theorem dJ7_init_2_75 : decode cJ7_init_2 75 = .ok (.putfield 15, 3) := dk_181 0 15 (dk_at dksJ7_init_2_3 3 rfl rfl)
theorem dJ7_init_2_78 : decode cJ7_init_2 78 = .ok (.return_, 1) := dk_177 (dk_at dksJ7_init_2_3 6 rfl rfl)
theorem dJ7_init_2_79 : decode cJ7_init_2 79 = .ok (.aload_n 0, 1) := dk_42 (dk_at dksJ7_init_2_3 7 rfl rfl)
theorem dJ7_init_2_80 : decode cJ7_init_2 80 = .ok (.iconst 1, 1) := dk_4 (dk_at dksJ7_init_2_3 8 rfl rfl)
theorem dJ7_init_2_81 : decode cJ7_init_2 81 = .ok (.putfield 15, 3) := dk_181 0 15 (dk_at dksJ7_init_2_3 9 rfl rfl)
theorem dJ7_init_2_84 : decode cJ7_init_2 84 = .ok (.aload_n 0, 1) := dk_42 (dk_at dksJ7_init_2_3 12 rfl rfl)
theorem dJ7_init_2_85 : decode cJ7_init_2 85 = .ok (.aload_n 3, 1) := dk_45 (dk_at dksJ7_init_2_3 13 rfl rfl)
theorem dJ7_init_2_86 : decode cJ7_init_2 86 = .ok (.iconst 0, 1) := dk_3 (dk_at dksJ7_init_2_3 14 rfl rfl)
theorem dJ7_init_2_87 : decode cJ7_init_2 87 = .ok (.iload 4, 2) := dk_21 4 (dk_at dksJ7_init_2_3 15 rfl rfl)
theorem dJ7_init_2_89 : decode cJ7_init_2 89 = .ok (.iconst 1, 1) := dk_4 (dk_at dksJ7_init_2_3 17 rfl rfl)
theorem dJ7_init_2_90 : decode cJ7_init_2 90 = .ok (.ishl, 1) := dk_120 (dk_at dksJ7_init_2_3 18 rfl rfl)
theorem dJ7_init_2_91 : decode cJ7_init_2 91 = .ok (.invokestatic 54, 3) := dk_184 0 54 (dk_at dksJ7_init_2_3 19 rfl rfl)
theorem dJ7_init_2_94 : decode cJ7_init_2 94 = .ok (.putfield 9, 3) := dk_181 0 9 (dk_at dksJ7_init_2_4 0 rfl rfl)
theorem dJ7_init_2_97 : decode cJ7_init_2 97 = .ok (.return_, 1) := dk_177 (dk_at dksJ7_init_2_4 3 rfl rfl)
abbrev cJ7_checkIndex : ByteArray := prog_34_method_155_code
def yJ7_checkIndex : MethodName := ⟨RJ7, "checkIndex", "(II)V"⟩
def dkwJ7_checkIndex_0 : List UInt8 := [26, 27, 178, 4, 29, 184, 4, 35, 87, 177]
abbrev dktJ7_checkIndex_0 : List UInt8 := dkwJ7_checkIndex_0 ++ []
theorem dksJ7_checkIndex_0 : cJ7_checkIndex.data.toList.drop 0 = dktJ7_checkIndex_0 := by decide +kernel
theorem dJ7_checkIndex_0 : decode cJ7_checkIndex 0 = .ok (.iload_n 0, 1) := dk_26 (dk_at dksJ7_checkIndex_0 0 rfl rfl)
theorem dJ7_checkIndex_1 : decode cJ7_checkIndex 1 = .ok (.iload_n 1, 1) := dk_27 (dk_at dksJ7_checkIndex_0 1 rfl rfl)
theorem dJ7_checkIndex_2 : decode cJ7_checkIndex 2 = .ok (.getstatic 1053, 3) := dk_178 4 29 (dk_at dksJ7_checkIndex_0 2 rfl rfl)
theorem dJ7_checkIndex_5 : decode cJ7_checkIndex 5 = .ok (.invokestatic 1059, 3) := dk_184 4 35 (dk_at dksJ7_checkIndex_0 5 rfl rfl)
theorem dJ7_checkIndex_8 : decode cJ7_checkIndex 8 = .ok (.pop, 1) := dk_87 (dk_at dksJ7_checkIndex_0 8 rfl rfl)
theorem dJ7_checkIndex_9 : decode cJ7_checkIndex 9 = .ok (.return_, 1) := dk_177 (dk_at dksJ7_checkIndex_0 9 rfl rfl)
theorem q80 : (Jvm.Cond.initialized "java/lang/String") ∈ lw_all := lw_g (lw_at lw_m1 12 rfl) rfl
theorem q253 : (Jvm.Cond.laysStatic "java/lang/String" "COMPACT_STRINGS" "Z") ∈ lw_tbl := lw_at lw_m1 185 rfl
theorem q342 : (Jvm.Cond.fieldLink "java/lang/String" (1048 : Nat) "java/lang/AbstractStringBuilder" "maybeLatin1" "Z") ∈ lw_all := lw_g (lw_at lw_m2 34 rfl) rfl
theorem q791 : (Jvm.Cond.selects "java/lang/String" ({ cls := "java/lang/Object", name := "getClass", desc := "()Ljava/lang/Class;" } : Jvm.MethodName) ({ cls := "java/lang/Object", name := "getClass", desc := "()Ljava/lang/Class;" } : Jvm.MethodName)) ∈ lw_all := lw_g (lw_at lw_m4 3 rfl) rfl
theorem q869 : (Jvm.Cond.castable "java/lang/String" "java/lang/Comparable") ∈ lw_tbl := lw_at lw_m4 81 rfl
theorem q870 : (Jvm.Cond.selects "java/lang/String" ({ cls := "java/lang/Comparable", name := "compareTo", desc := "(Ljava/lang/Object;)I" } : Jvm.MethodName) ({ cls := "java/lang/String", name := "compareTo", desc := "(Ljava/lang/Object;)I" } : Jvm.MethodName)) ∈ lw_all := lw_g (lw_at lw_m4 82 rfl) rfl
theorem q871 : (Jvm.Cond.unhidden "java/lang/String" "compareTo" "(Ljava/lang/Object;)I") ∈ lw_tbl := lw_at lw_m4 83 rfl
theorem q872 : (Jvm.Cond.instanceMethod ({ cls := "java/lang/String", name := "compareTo", desc := "(Ljava/lang/Object;)I" } : Jvm.MethodName)) ∈ lw_all := lw_g (lw_at lw_m4 84 rfl) rfl
theorem q873 : (Jvm.Cond.publicMethod ({ cls := "java/lang/String", name := "compareTo", desc := "(Ljava/lang/Object;)I" } : Jvm.MethodName)) ∈ lw_tbl := lw_at lw_m4 85 rfl
theorem q874 : (Jvm.Cond.code ({ cls := "java/lang/String", name := "compareTo", desc := "(Ljava/lang/Object;)I" } : Jvm.MethodName) prog_34_method_162_code (2 : Nat) (Option.some Jvm.ClassFile.FieldType.int)) ∈ lw_all := lw_g (lw_at lw_m4 86 rfl) rfl
theorem q875 : (Jvm.Cond.classLink "java/lang/String" (10 : Nat) "java/lang/String") ∈ lw_all := lw_g (lw_at lw_m4 87 rfl) rfl
theorem q876 : (Jvm.Cond.methodLink "java/lang/String" (1084 : Nat) ({ cls := "java/lang/String", name := "compareTo", desc := "(Ljava/lang/String;)I" } : Jvm.MethodName)) ∈ lw_all := lw_g (lw_at lw_m4 88 rfl) rfl
theorem q877 : (Jvm.Cond.instanceMethod ({ cls := "java/lang/String", name := "compareTo", desc := "(Ljava/lang/String;)I" } : Jvm.MethodName)) ∈ lw_all := lw_g (lw_at lw_m4 89 rfl) rfl
theorem q878 : (Jvm.Cond.selects "java/lang/String" ({ cls := "java/lang/String", name := "compareTo", desc := "(Ljava/lang/String;)I" } : Jvm.MethodName) ({ cls := "java/lang/String", name := "compareTo", desc := "(Ljava/lang/String;)I" } : Jvm.MethodName)) ∈ lw_all := lw_g (lw_at lw_m4 90 rfl) rfl
theorem q879 : (Jvm.Cond.code ({ cls := "java/lang/String", name := "compareTo", desc := "(Ljava/lang/String;)I" } : Jvm.MethodName) prog_34_method_71_code (5 : Nat) (Option.some Jvm.ClassFile.FieldType.int)) ∈ lw_all := lw_g (lw_at lw_m4 91 rfl) rfl
theorem q880 : (Jvm.Cond.methodLink "java/lang/String" (335 : Nat) ({ cls := "java/lang/String", name := "coder", desc := "()B" } : Jvm.MethodName)) ∈ lw_all := lw_g (lw_at lw_m4 92 rfl) rfl
theorem q881 : (Jvm.Cond.instanceMethod ({ cls := "java/lang/String", name := "coder", desc := "()B" } : Jvm.MethodName)) ∈ lw_all := lw_g (lw_at lw_m4 93 rfl) rfl
theorem q882 : (Jvm.Cond.selects "java/lang/String" ({ cls := "java/lang/String", name := "coder", desc := "()B" } : Jvm.MethodName) ({ cls := "java/lang/String", name := "coder", desc := "()B" } : Jvm.MethodName)) ∈ lw_all := lw_g (lw_at lw_m4 94 rfl) rfl
theorem q883 : (Jvm.Cond.code ({ cls := "java/lang/String", name := "coder", desc := "()B" } : Jvm.MethodName) prog_34_method_152_code (1 : Nat) (Option.some Jvm.ClassFile.FieldType.byte)) ∈ lw_all := lw_g (lw_at lw_m4 95 rfl) rfl
theorem q884 : (Jvm.Cond.fieldLink "java/lang/String" (38 : Nat) "java/lang/String" "COMPACT_STRINGS" "Z") ∈ lw_all := lw_g (lw_at lw_m4 96 rfl) rfl
theorem q885 : (Jvm.Cond.methodLink "java/lang/String" (586 : Nat) ({ cls := "java/lang/StringLatin1", name := "compareTo", desc := "([B[B)I" } : Jvm.MethodName)) ∈ lw_all := lw_g (lw_at lw_m4 97 rfl) rfl
theorem q999 : (Jvm.Cond.methodLink "java/lang/String" (590 : Nat) ({ cls := "java/lang/StringUTF16", name := "compareTo", desc := "([B[B)I" } : Jvm.MethodName)) ∈ lw_all := lw_g (lw_at lw_m4 211 rfl) rfl
theorem q1018 : (Jvm.Cond.methodLink "java/lang/String" (591 : Nat) ({ cls := "java/lang/StringLatin1", name := "compareToUTF16", desc := "([B[B)I" } : Jvm.MethodName)) ∈ lw_all := lw_g (lw_at lw_m4 230 rfl) rfl
theorem q1029 : (Jvm.Cond.methodLink "java/lang/String" (594 : Nat) ({ cls := "java/lang/StringUTF16", name := "compareToLatin1", desc := "([B[B)I" } : Jvm.MethodName)) ∈ lw_all := lw_g (lw_at lw_m5 1 rfl) rfl
theorem q1060 : (Jvm.Cond.static ({ cls := "java/lang/String", name := "checkOffset", desc := "(II)V" } : Jvm.MethodName)) ∈ lw_all := lw_g (lw_at lw_m5 32 rfl) rfl
theorem q1061 : (Jvm.Cond.code ({ cls := "java/lang/String", name := "checkOffset", desc := "(II)V" } : Jvm.MethodName) prog_34_method_156_code (2 : Nat) (Option.none : Option Jvm.ClassFile.FieldType)) ∈ lw_all := lw_g (lw_at lw_m5 33 rfl) rfl
theorem q1062 : (Jvm.Cond.fieldLink "java/lang/String" (1053 : Nat) "jdk/internal/util/Preconditions" "SIOOBE_FORMATTER" "Ljava/util/function/BiFunction;") ∈ lw_all := lw_g (lw_at lw_m5 34 rfl) rfl
theorem q1064 : (Jvm.Cond.methodLink "java/lang/String" (1062 : Nat) ({ cls := "jdk/internal/util/Preconditions", name := "checkFromToIndex", desc := "(IIILjava/util/function/BiFunction;)I" } : Jvm.MethodName)) ∈ lw_all := lw_g (lw_at lw_m5 36 rfl) rfl
theorem q1712 : (Jvm.Cond.static ({ cls := "java/lang/String", name := "checkBoundsBeginEnd", desc := "(III)V" } : Jvm.MethodName)) ∈ lw_all := lw_g (lw_at lw_m7 204 rfl) rfl
theorem q1713 : (Jvm.Cond.code ({ cls := "java/lang/String", name := "checkBoundsBeginEnd", desc := "(III)V" } : Jvm.MethodName) prog_34_method_158_code (3 : Nat) (Option.none : Option Jvm.ClassFile.FieldType)) ∈ lw_all := lw_g (lw_at lw_m7 205 rfl) rfl
theorem q1718 : (Jvm.Cond.instanceMethod ({ cls := "java/lang/String", name := "length", desc := "()I" } : Jvm.MethodName)) ∈ lw_all := lw_g (lw_at lw_m7 210 rfl) rfl
theorem q1719 : (Jvm.Cond.selects "java/lang/String" ({ cls := "java/lang/String", name := "length", desc := "()I" } : Jvm.MethodName) ({ cls := "java/lang/String", name := "length", desc := "()I" } : Jvm.MethodName)) ∈ lw_all := lw_g (lw_at lw_m7 211 rfl) rfl
theorem q1720 : (Jvm.Cond.code ({ cls := "java/lang/String", name := "length", desc := "()I" } : Jvm.MethodName) prog_34_method_54_code (1 : Nat) (Option.some Jvm.ClassFile.FieldType.int)) ∈ lw_all := lw_g (lw_at lw_m7 212 rfl) rfl
theorem q1744 : (Jvm.Cond.static ({ cls := "java/lang/String", name := "checkBoundsOffCount", desc := "(III)I" } : Jvm.MethodName)) ∈ lw_all := lw_g (lw_at lw_m7 236 rfl) rfl
theorem q1745 : (Jvm.Cond.code ({ cls := "java/lang/String", name := "checkBoundsOffCount", desc := "(III)I" } : Jvm.MethodName) prog_34_method_157_code (3 : Nat) (Option.some Jvm.ClassFile.FieldType.int)) ∈ lw_all := lw_g (lw_at lw_m7 237 rfl) rfl
theorem q1746 : (Jvm.Cond.methodLink "java/lang/String" (1065 : Nat) ({ cls := "jdk/internal/util/Preconditions", name := "checkFromIndexSize", desc := "(IIILjava/util/function/BiFunction;)I" } : Jvm.MethodName)) ∈ lw_all := lw_g (lw_at lw_m7 238 rfl) rfl
theorem q1750 : (Jvm.Cond.instanceMethod ({ cls := "java/lang/String", name := "getBytes", desc := "([BIB)V" } : Jvm.MethodName)) ∈ lw_all := lw_g (lw_at lw_m8 2 rfl) rfl
theorem q1751 : (Jvm.Cond.selects "java/lang/String" ({ cls := "java/lang/String", name := "getBytes", desc := "([BIB)V" } : Jvm.MethodName) ({ cls := "java/lang/String", name := "getBytes", desc := "([BIB)V" } : Jvm.MethodName)) ∈ lw_all := lw_g (lw_at lw_m8 3 rfl) rfl
theorem q1752 : (Jvm.Cond.code ({ cls := "java/lang/String", name := "getBytes", desc := "([BIB)V" } : Jvm.MethodName) prog_34_method_147_code (4 : Nat) (Option.none : Option Jvm.ClassFile.FieldType)) ∈ lw_all := lw_g (lw_at lw_m8 4 rfl) rfl
theorem q1753 : (Jvm.Cond.methodLink "java/lang/String" (212 : Nat) ({ cls := "java/lang/System", name := "arraycopy", desc := "(Ljava/lang/Object;ILjava/lang/Object;II)V" } : Jvm.MethodName)) ∈ lw_all := lw_g (lw_at lw_m8 5 rfl) rfl
theorem q1754 : (Jvm.Cond.methodLink "java/lang/String" (106 : Nat) ({ cls := "java/lang/StringLatin1", name := "inflate", desc := "([BI[BII)V" } : Jvm.MethodName)) ∈ lw_all := lw_g (lw_at lw_m8 6 rfl) rfl
theorem q1785 : (Jvm.Cond.instantiable "java/lang/String" (4 : Nat)) ∈ lw_all := lw_g (lw_at lw_m8 37 rfl) rfl
theorem q1787 : (Jvm.Cond.instanceMethod ({ cls := "java/lang/String", name := "<init>", desc := "(Ljava/lang/StringBuilder;)V" } : Jvm.MethodName)) ∈ lw_all := lw_g (lw_at lw_m8 39 rfl) rfl
theorem q1788 : (Jvm.Cond.code ({ cls := "java/lang/String", name := "<init>", desc := "(Ljava/lang/StringBuilder;)V" } : Jvm.MethodName) prog_34_method_53_code (2 : Nat) (Option.none : Option Jvm.ClassFile.FieldType)) ∈ lw_all := lw_g (lw_at lw_m8 40 rfl) rfl
theorem q1789 : (Jvm.Cond.methodLink "java/lang/String" (489 : Nat) ({ cls := "java/lang/String", name := "<init>", desc := "(Ljava/lang/AbstractStringBuilder;Ljava/lang/Void;)V" } : Jvm.MethodName)) ∈ lw_all := lw_g (lw_at lw_m8 41 rfl) rfl
theorem q1790 : (Jvm.Cond.instanceMethod ({ cls := "java/lang/String", name := "<init>", desc := "(Ljava/lang/AbstractStringBuilder;Ljava/lang/Void;)V" } : Jvm.MethodName)) ∈ lw_all := lw_g (lw_at lw_m8 42 rfl) rfl
theorem q1791 : (Jvm.Cond.code ({ cls := "java/lang/String", name := "<init>", desc := "(Ljava/lang/AbstractStringBuilder;Ljava/lang/Void;)V" } : Jvm.MethodName) prog_34_method_150_code (5 : Nat) (Option.none : Option Jvm.ClassFile.FieldType)) ∈ lw_all := lw_g (lw_at lw_m8 43 rfl) rfl
theorem q1792 : (Jvm.Cond.methodLink "java/lang/String" (1 : Nat) ({ cls := "java/lang/Object", name := "<init>", desc := "()V" } : Jvm.MethodName)) ∈ lw_all := lw_g (lw_at lw_m8 44 rfl) rfl
theorem q1793 : (Jvm.Cond.methodLink "java/lang/String" (552 : Nat) ({ cls := "java/lang/AbstractStringBuilder", name := "getValue", desc := "()[B" } : Jvm.MethodName)) ∈ lw_all := lw_g (lw_at lw_m8 45 rfl) rfl
theorem q1798 : (Jvm.Cond.methodLink "java/lang/String" (549 : Nat) ({ cls := "java/lang/AbstractStringBuilder", name := "length", desc := "()I" } : Jvm.MethodName)) ∈ lw_all := lw_g (lw_at lw_m8 50 rfl) rfl
theorem q1806 : (Jvm.Cond.methodLink "java/lang/String" (1047 : Nat) ({ cls := "java/lang/AbstractStringBuilder", name := "isLatin1", desc := "()Z" } : Jvm.MethodName)) ∈ lw_all := lw_g (lw_at lw_m8 58 rfl) rfl
theorem q1807 : (Jvm.Cond.methodLink "java/lang/String" (54 : Nat) ({ cls := "java/util/Arrays", name := "copyOfRange", desc := "([BII)[B" } : Jvm.MethodName)) ∈ lw_all := lw_g (lw_at lw_m8 59 rfl) rfl
theorem q1816 : (Jvm.Cond.methodLink "java/lang/String" (1051 : Nat) ({ cls := "java/lang/StringUTF16", name := "compress", desc := "([BII)[B" } : Jvm.MethodName)) ∈ lw_all := lw_g (lw_at lw_m8 68 rfl) rfl
theorem q1823 : (Jvm.Cond.methodLink "java/lang/String" (47 : Nat) ({ cls := "java/lang/StringUTF16", name := "coderFromArrayLen", desc := "([BI)B" } : Jvm.MethodName)) ∈ lw_all := lw_g (lw_at lw_m8 75 rfl) rfl
theorem q1826 : (Jvm.Cond.fieldLink "java/lang/String" (9 : Nat) "java/lang/String" "value" "[B") ∈ lw_all := lw_g (lw_at lw_m8 78 rfl) rfl
theorem q1827 : (Jvm.Cond.fieldLink "java/lang/String" (15 : Nat) "java/lang/String" "coder" "B") ∈ lw_all := lw_g (lw_at lw_m8 79 rfl) rfl
theorem q1828 : (Jvm.Cond.laysFinal "java/lang/String" "java/lang/String" "value" "[B") ∈ lw_all := lw_g (lw_at lw_m8 80 rfl) rfl
theorem q1829 : (Jvm.Cond.soleField "java/lang/String" "value") ∈ lw_all := lw_g (lw_at lw_m8 81 rfl) rfl
theorem q1830 : (Jvm.Cond.laysFinal "java/lang/String" "java/lang/String" "coder" "B") ∈ lw_all := lw_g (lw_at lw_m8 82 rfl) rfl
theorem q1831 : (Jvm.Cond.soleField "java/lang/String" "coder") ∈ lw_all := lw_g (lw_at lw_m8 83 rfl) rfl
theorem q1832 : (Jvm.Cond.lays "java/lang/String" "java/lang/String" "hash" "I") ∈ lw_all := lw_g (lw_at lw_m8 84 rfl) rfl
theorem q1833 : (Jvm.Cond.soleField "java/lang/String" "hash") ∈ lw_all := lw_g (lw_at lw_m8 85 rfl) rfl
theorem q1834 : (Jvm.Cond.lays "java/lang/String" "java/lang/String" "hashIsZero" "Z") ∈ lw_all := lw_g (lw_at lw_m8 86 rfl) rfl
theorem q1835 : (Jvm.Cond.soleField "java/lang/String" "hashIsZero") ∈ lw_all := lw_g (lw_at lw_m8 87 rfl) rfl
theorem q1836 : (Jvm.Cond.superclass "java/lang/String" "java/lang/Object") ∈ lw_all := lw_g (lw_at lw_m8 88 rfl) rfl
theorem q1878 : (Jvm.Cond.static ({ cls := "java/lang/String", name := "checkIndex", desc := "(II)V" } : Jvm.MethodName)) ∈ lw_all := lw_g (lw_at lw_m8 130 rfl) rfl
theorem q1879 : (Jvm.Cond.code ({ cls := "java/lang/String", name := "checkIndex", desc := "(II)V" } : Jvm.MethodName) prog_34_method_155_code (2 : Nat) (Option.none : Option Jvm.ClassFile.FieldType)) ∈ lw_all := lw_g (lw_at lw_m8 131 rfl) rfl
theorem q1880 : (Jvm.Cond.methodLink "java/lang/String" (1059 : Nat) ({ cls := "jdk/internal/util/Preconditions", name := "checkIndex", desc := "(IILjava/util/function/BiFunction;)I" } : Jvm.MethodName)) ∈ lw_all := lw_g (lw_at lw_m8 132 rfl) rfl
theorem q2387 : (Jvm.Cond.castable "java/lang/String" "java/lang/Object") ∈ lw_tbl := lw_at lw_m10 159 rfl
theorem in_J7 : ∀ w ∈ wsJ70, w ∈ lw_all := lw_in wsJ70 [1828, 1830, 1832, 1834] (by decide +kernel) (by decide +kernel)
/-! java/lang/StringUTF16 -/
set_option maxRecDepth 100000
def RJ8 : String := "java/lang/StringUTF16"
abbrev cJ8_newBytesFor : ByteArray := prog_37_method_2_code
def yJ8_newBytesFor : MethodName := ⟨RJ8, "newBytesFor", "(I)[B"⟩
def dkwJ8_newBytesFor_0 : List UInt8 := [26, 184, 0, 11, 188, 8, 176]
abbrev dktJ8_newBytesFor_0 : List UInt8 := dkwJ8_newBytesFor_0 ++ []
theorem dksJ8_newBytesFor_0 : cJ8_newBytesFor.data.toList.drop 0 = dktJ8_newBytesFor_0 := by decide +kernel
theorem dJ8_newBytesFor_0 : decode cJ8_newBytesFor 0 = .ok (.iload_n 0, 1) := dk_26 (dk_at dksJ8_newBytesFor_0 0 rfl rfl)
theorem dJ8_newBytesFor_1 : decode cJ8_newBytesFor 1 = .ok (.invokestatic 11, 3) := dk_184 0 11 (dk_at dksJ8_newBytesFor_0 1 rfl rfl)
theorem dJ8_newBytesFor_4 : decode cJ8_newBytesFor 4 = .ok (.newarray .byte, 2) := dk_188_8 (dk_at dksJ8_newBytesFor_0 4 rfl rfl)
theorem dJ8_newBytesFor_6 : decode cJ8_newBytesFor 6 = .ok (.areturn, 1) := dk_176 (dk_at dksJ8_newBytesFor_0 6 rfl rfl)
abbrev cJ8_newBytesLength : ByteArray := prog_37_method_3_code
def yJ8_newBytesLength : MethodName := ⟨RJ8, "newBytesLength", "(I)I"⟩
def dkwJ8_newBytesLength_2 : List UInt8 := [182, 0, 32, 182, 0, 37, 183, 0, 41, 191, 26, 4, 120, 172]
abbrev dktJ8_newBytesLength_2 : List UInt8 := dkwJ8_newBytesLength_2 ++ []
def dkwJ8_newBytesLength_1 : List UInt8 := [187, 0, 23, 89, 183, 0, 25, 18, 26, 182, 0, 28, 26, 182, 0, 32, 18, 35, 182, 0, 28, 18, 20]
abbrev dktJ8_newBytesLength_1 : List UInt8 := dkwJ8_newBytesLength_1 ++ dktJ8_newBytesLength_2
def dkwJ8_newBytesLength_0 : List UInt8 := [26, 156, 0, 11, 187, 0, 17, 89, 183, 0, 19, 191, 26, 18, 20, 161, 0, 40, 187, 0, 21, 89]
abbrev dktJ8_newBytesLength_0 : List UInt8 := dkwJ8_newBytesLength_0 ++ dktJ8_newBytesLength_1
theorem dksJ8_newBytesLength_0 : cJ8_newBytesLength.data.toList.drop 0 = dktJ8_newBytesLength_0 := by decide +kernel
theorem dksJ8_newBytesLength_1 : cJ8_newBytesLength.data.toList.drop 22 = dktJ8_newBytesLength_1 := dk_seg dksJ8_newBytesLength_0 22 rfl rfl
theorem dksJ8_newBytesLength_2 : cJ8_newBytesLength.data.toList.drop 45 = dktJ8_newBytesLength_2 := dk_seg dksJ8_newBytesLength_1 23 rfl rfl
theorem dJ8_newBytesLength_0 : decode cJ8_newBytesLength 0 = .ok (.iload_n 0, 1) := dk_26 (dk_at dksJ8_newBytesLength_0 0 rfl rfl)
theorem dJ8_newBytesLength_1 : decode cJ8_newBytesLength 1 = .ok (.ifCond .ge 11, 3) := dk_156 0 11 (dk_at dksJ8_newBytesLength_0 1 rfl rfl)
theorem dJ8_newBytesLength_4 : decode cJ8_newBytesLength 4 = .ok (.new 17, 3) := dk_187 0 17 (dk_at dksJ8_newBytesLength_0 4 rfl rfl)
theorem dJ8_newBytesLength_7 : decode cJ8_newBytesLength 7 = .ok (.dup, 1) := dk_89 (dk_at dksJ8_newBytesLength_0 7 rfl rfl)
theorem dJ8_newBytesLength_8 : decode cJ8_newBytesLength 8 = .ok (.invokespecial 19, 3) := dk_183 0 19 (dk_at dksJ8_newBytesLength_0 8 rfl rfl)
theorem dJ8_newBytesLength_11 : decode cJ8_newBytesLength 11 = .ok (.athrow, 1) := dk_191 (dk_at dksJ8_newBytesLength_0 11 rfl rfl)
theorem dJ8_newBytesLength_12 : decode cJ8_newBytesLength 12 = .ok (.iload_n 0, 1) := dk_26 (dk_at dksJ8_newBytesLength_0 12 rfl rfl)
theorem dJ8_newBytesLength_13 : decode cJ8_newBytesLength 13 = .ok (.ldc 20, 2) := dk_18 20 (dk_at dksJ8_newBytesLength_0 13 rfl rfl)
theorem dJ8_newBytesLength_15 : decode cJ8_newBytesLength 15 = .ok (.if_icmp .lt 40, 3) := dk_161 0 40 (dk_at dksJ8_newBytesLength_0 15 rfl rfl)
theorem dJ8_newBytesLength_18 : decode cJ8_newBytesLength 18 = .ok (.new 21, 3) := dk_187 0 21 (dk_at dksJ8_newBytesLength_0 18 rfl rfl)
theorem dJ8_newBytesLength_21 : decode cJ8_newBytesLength 21 = .ok (.dup, 1) := dk_89 (dk_at dksJ8_newBytesLength_0 21 rfl rfl)
theorem dJ8_newBytesLength_22 : decode cJ8_newBytesLength 22 = .ok (.new 23, 3) := dk_187 0 23 (dk_at dksJ8_newBytesLength_1 0 rfl rfl)
theorem dJ8_newBytesLength_25 : decode cJ8_newBytesLength 25 = .ok (.dup, 1) := dk_89 (dk_at dksJ8_newBytesLength_1 3 rfl rfl)
theorem dJ8_newBytesLength_26 : decode cJ8_newBytesLength 26 = .ok (.invokespecial 25, 3) := dk_183 0 25 (dk_at dksJ8_newBytesLength_1 4 rfl rfl)
theorem dJ8_newBytesLength_29 : decode cJ8_newBytesLength 29 = .ok (.ldc 26, 2) := dk_18 26 (dk_at dksJ8_newBytesLength_1 7 rfl rfl)
theorem dJ8_newBytesLength_31 : decode cJ8_newBytesLength 31 = .ok (.invokevirtual 28, 3) := dk_182 0 28 (dk_at dksJ8_newBytesLength_1 9 rfl rfl)
theorem dJ8_newBytesLength_34 : decode cJ8_newBytesLength 34 = .ok (.iload_n 0, 1) := dk_26 (dk_at dksJ8_newBytesLength_1 12 rfl rfl)
theorem dJ8_newBytesLength_35 : decode cJ8_newBytesLength 35 = .ok (.invokevirtual 32, 3) := dk_182 0 32 (dk_at dksJ8_newBytesLength_1 13 rfl rfl)
theorem dJ8_newBytesLength_38 : decode cJ8_newBytesLength 38 = .ok (.ldc 35, 2) := dk_18 35 (dk_at dksJ8_newBytesLength_1 16 rfl rfl)
theorem dJ8_newBytesLength_40 : decode cJ8_newBytesLength 40 = .ok (.invokevirtual 28, 3) := dk_182 0 28 (dk_at dksJ8_newBytesLength_1 18 rfl rfl)
theorem dJ8_newBytesLength_43 : decode cJ8_newBytesLength 43 = .ok (.ldc 20, 2) := dk_18 20 (dk_at dksJ8_newBytesLength_1 21 rfl rfl)
theorem dJ8_newBytesLength_45 : decode cJ8_newBytesLength 45 = .ok (.invokevirtual 32, 3) := dk_182 0 32 (dk_at dksJ8_newBytesLength_2 0 rfl rfl)
theorem dJ8_newBytesLength_48 : decode cJ8_newBytesLength 48 = .ok (.invokevirtual 37, 3) := dk_182 0 37 (dk_at dksJ8_newBytesLength_2 3 rfl rfl)
theorem dJ8_newBytesLength_51 : decode cJ8_newBytesLength 51 = .ok (.invokespecial 41, 3) := dk_183 0 41 (dk_at dksJ8_newBytesLength_2 6 rfl rfl)
theorem dJ8_newBytesLength_54 : decode cJ8_newBytesLength 54 = .ok (.athrow, 1) := dk_191 (dk_at dksJ8_newBytesLength_2 9 rfl rfl)
theorem dJ8_newBytesLength_55 : decode cJ8_newBytesLength 55 = .ok (.iload_n 0, 1) := dk_26 (dk_at dksJ8_newBytesLength_2 10 rfl rfl)
theorem dJ8_newBytesLength_56 : decode cJ8_newBytesLength 56 = .ok (.iconst 1, 1) := dk_4 (dk_at dksJ8_newBytesLength_2 11 rfl rfl)
theorem dJ8_newBytesLength_57 : decode cJ8_newBytesLength 57 = .ok (.ishl, 1) := dk_120 (dk_at dksJ8_newBytesLength_2 12 rfl rfl)
theorem dJ8_newBytesLength_58 : decode cJ8_newBytesLength 58 = .ok (.ireturn, 1) := dk_172 (dk_at dksJ8_newBytesLength_2 13 rfl rfl)
abbrev cJ8_compareTo : ByteArray := prog_37_method_29_code
def yJ8_compareTo : MethodName := ⟨RJ8, "compareTo", "([B[B)I"⟩
def dkwJ8_compareTo_0 : List UInt8 := [42, 184, 0, 48, 61, 43, 184, 0, 48, 62, 42, 43, 28, 29, 184, 0, 176, 172]
abbrev dktJ8_compareTo_0 : List UInt8 := dkwJ8_compareTo_0 ++ []
theorem dksJ8_compareTo_0 : cJ8_compareTo.data.toList.drop 0 = dktJ8_compareTo_0 := by decide +kernel
theorem dJ8_compareTo_0 : decode cJ8_compareTo 0 = .ok (.aload_n 0, 1) := dk_42 (dk_at dksJ8_compareTo_0 0 rfl rfl)
theorem dJ8_compareTo_1 : decode cJ8_compareTo 1 = .ok (.invokestatic 48, 3) := dk_184 0 48 (dk_at dksJ8_compareTo_0 1 rfl rfl)
theorem dJ8_compareTo_4 : decode cJ8_compareTo 4 = .ok (.istore_n 2, 1) := dk_61 (dk_at dksJ8_compareTo_0 4 rfl rfl)
theorem dJ8_compareTo_5 : decode cJ8_compareTo 5 = .ok (.aload_n 1, 1) := dk_43 (dk_at dksJ8_compareTo_0 5 rfl rfl)
theorem dJ8_compareTo_6 : decode cJ8_compareTo 6 = .ok (.invokestatic 48, 3) := dk_184 0 48 (dk_at dksJ8_compareTo_0 6 rfl rfl)
theorem dJ8_compareTo_9 : decode cJ8_compareTo 9 = .ok (.istore_n 3, 1) := dk_62 (dk_at dksJ8_compareTo_0 9 rfl rfl)
theorem dJ8_compareTo_10 : decode cJ8_compareTo 10 = .ok (.aload_n 0, 1) := dk_42 (dk_at dksJ8_compareTo_0 10 rfl rfl)
theorem dJ8_compareTo_11 : decode cJ8_compareTo 11 = .ok (.aload_n 1, 1) := dk_43 (dk_at dksJ8_compareTo_0 11 rfl rfl)
theorem dJ8_compareTo_12 : decode cJ8_compareTo 12 = .ok (.iload_n 2, 1) := dk_28 (dk_at dksJ8_compareTo_0 12 rfl rfl)
theorem dJ8_compareTo_13 : decode cJ8_compareTo 13 = .ok (.iload_n 3, 1) := dk_29 (dk_at dksJ8_compareTo_0 13 rfl rfl)
theorem dJ8_compareTo_14 : decode cJ8_compareTo 14 = .ok (.invokestatic 176, 3) := dk_184 0 176 (dk_at dksJ8_compareTo_0 14 rfl rfl)
theorem dJ8_compareTo_17 : decode cJ8_compareTo 17 = .ok (.ireturn, 1) := dk_172 (dk_at dksJ8_compareTo_0 17 rfl rfl)
abbrev cJ8_length : ByteArray := prog_37_method_6_code
def yJ8_length : MethodName := ⟨RJ8, "length", "([B)I"⟩
def dkwJ8_length_0 : List UInt8 := [42, 190, 4, 122, 172]
abbrev dktJ8_length_0 : List UInt8 := dkwJ8_length_0 ++ []
theorem dksJ8_length_0 : cJ8_length.data.toList.drop 0 = dktJ8_length_0 := by decide +kernel
theorem dJ8_length_0 : decode cJ8_length 0 = .ok (.aload_n 0, 1) := dk_42 (dk_at dksJ8_length_0 0 rfl rfl)
theorem dJ8_length_1 : decode cJ8_length 1 = .ok (.arraylength, 1) := dk_190 (dk_at dksJ8_length_0 1 rfl rfl)
theorem dJ8_length_2 : decode cJ8_length 2 = .ok (.iconst 1, 1) := dk_4 (dk_at dksJ8_length_0 2 rfl rfl)
theorem dJ8_length_3 : decode cJ8_length 3 = .ok (.ishr, 1) := dk_122 (dk_at dksJ8_length_0 3 rfl rfl)
theorem dJ8_length_4 : decode cJ8_length 4 = .ok (.ireturn, 1) := dk_172 (dk_at dksJ8_length_0 4 rfl rfl)
abbrev cJ8_compareValues : ByteArray := prog_37_method_31_code
def yJ8_compareValues : MethodName := ⟨RJ8, "compareValues", "([B[BII)I"⟩
def dkwJ8_compareValues_2 : List UInt8 := [132, 5, 1, 167, 255, 217, 28, 29, 100, 172]
abbrev dktJ8_compareValues_2 : List UInt8 := dkwJ8_compareValues_2 ++ []
def dkwJ8_compareValues_1 : List UInt8 := [54, 6, 43, 21, 5, 184, 0, 71, 54, 7, 21, 6, 21, 7, 159, 0, 9, 21, 6, 21, 7, 100, 172]
abbrev dktJ8_compareValues_1 : List UInt8 := dkwJ8_compareValues_1 ++ dktJ8_compareValues_2
def dkwJ8_compareValues_0 : List UInt8 := [28, 29, 184, 0, 183, 54, 4, 3, 54, 5, 21, 5, 21, 4, 162, 0, 38, 42, 21, 5, 184, 0, 71]
abbrev dktJ8_compareValues_0 : List UInt8 := dkwJ8_compareValues_0 ++ dktJ8_compareValues_1
theorem dksJ8_compareValues_0 : cJ8_compareValues.data.toList.drop 0 = dktJ8_compareValues_0 := by decide +kernel
theorem dksJ8_compareValues_1 : cJ8_compareValues.data.toList.drop 23 = dktJ8_compareValues_1 := dk_seg dksJ8_compareValues_0 23 rfl rfl
theorem dksJ8_compareValues_2 : cJ8_compareValues.data.toList.drop 46 = dktJ8_compareValues_2 := dk_seg dksJ8_compareValues_1 23 rfl rfl
theorem dJ8_compareValues_0 : decode cJ8_compareValues 0 = .ok (.iload_n 2, 1) := dk_28 (dk_at dksJ8_compareValues_0 0 rfl rfl)
theorem dJ8_compareValues_1 : decode cJ8_compareValues 1 = .ok (.iload_n 3, 1) := dk_29 (dk_at dksJ8_compareValues_0 1 rfl rfl)
theorem dJ8_compareValues_2 : decode cJ8_compareValues 2 = .ok (.invokestatic 183, 3) := dk_184 0 183 (dk_at dksJ8_compareValues_0 2 rfl rfl)
theorem dJ8_compareValues_5 : decode cJ8_compareValues 5 = .ok (.istore 4, 2) := dk_54 4 (dk_at dksJ8_compareValues_0 5 rfl rfl)
theorem dJ8_compareValues_7 : decode cJ8_compareValues 7 = .ok (.iconst 0, 1) := dk_3 (dk_at dksJ8_compareValues_0 7 rfl rfl)
theorem dJ8_compareValues_8 : decode cJ8_compareValues 8 = .ok (.istore 5, 2) := dk_54 5 (dk_at dksJ8_compareValues_0 8 rfl rfl)
theorem dJ8_compareValues_10 : decode cJ8_compareValues 10 = .ok (.iload 5, 2) := dk_21 5 (dk_at dksJ8_compareValues_0 10 rfl rfl)
theorem dJ8_compareValues_12 : decode cJ8_compareValues 12 = .ok (.iload 4, 2) := dk_21 4 (dk_at dksJ8_compareValues_0 12 rfl rfl)
theorem dJ8_compareValues_14 : decode cJ8_compareValues 14 = .ok (.if_icmp .ge 38, 3) := dk_162 0 38 (dk_at dksJ8_compareValues_0 14 rfl rfl)
theorem dJ8_compareValues_17 : decode cJ8_compareValues 17 = .ok (.aload_n 0, 1) := dk_42 (dk_at dksJ8_compareValues_0 17 rfl rfl)
theorem dJ8_compareValues_18 : decode cJ8_compareValues 18 = .ok (.iload 5, 2) := dk_21 5 (dk_at dksJ8_compareValues_0 18 rfl rfl)
theorem dJ8_compareValues_20 : decode cJ8_compareValues 20 = .ok (.invokestatic 71, 3) := dk_184 0 71 (dk_at dksJ8_compareValues_0 20 rfl rfl)
theorem dJ8_compareValues_23 : decode cJ8_compareValues 23 = .ok (.istore 6, 2) := dk_54 6 (dk_at dksJ8_compareValues_1 0 rfl rfl)
theorem dJ8_compareValues_25 : decode cJ8_compareValues 25 = .ok (.aload_n 1, 1) := dk_43 (dk_at dksJ8_compareValues_1 2 rfl rfl)
theorem dJ8_compareValues_26 : decode cJ8_compareValues 26 = .ok (.iload 5, 2) := dk_21 5 (dk_at dksJ8_compareValues_1 3 rfl rfl)
theorem dJ8_compareValues_28 : decode cJ8_compareValues 28 = .ok (.invokestatic 71, 3) := dk_184 0 71 (dk_at dksJ8_compareValues_1 5 rfl rfl)
theorem dJ8_compareValues_31 : decode cJ8_compareValues 31 = .ok (.istore 7, 2) := dk_54 7 (dk_at dksJ8_compareValues_1 8 rfl rfl)
theorem dJ8_compareValues_33 : decode cJ8_compareValues 33 = .ok (.iload 6, 2) := dk_21 6 (dk_at dksJ8_compareValues_1 10 rfl rfl)
theorem dJ8_compareValues_35 : decode cJ8_compareValues 35 = .ok (.iload 7, 2) := dk_21 7 (dk_at dksJ8_compareValues_1 12 rfl rfl)
theorem dJ8_compareValues_37 : decode cJ8_compareValues 37 = .ok (.if_icmp .eq 9, 3) := dk_159 0 9 (dk_at dksJ8_compareValues_1 14 rfl rfl)
theorem dJ8_compareValues_40 : decode cJ8_compareValues 40 = .ok (.iload 6, 2) := dk_21 6 (dk_at dksJ8_compareValues_1 17 rfl rfl)
theorem dJ8_compareValues_42 : decode cJ8_compareValues 42 = .ok (.iload 7, 2) := dk_21 7 (dk_at dksJ8_compareValues_1 19 rfl rfl)
theorem dJ8_compareValues_44 : decode cJ8_compareValues 44 = .ok (.isub, 1) := dk_100 (dk_at dksJ8_compareValues_1 21 rfl rfl)
theorem dJ8_compareValues_45 : decode cJ8_compareValues 45 = .ok (.ireturn, 1) := dk_172 (dk_at dksJ8_compareValues_1 22 rfl rfl)
theorem dJ8_compareValues_46 : decode cJ8_compareValues 46 = .ok (.iinc 5 1, 3) := dk_132 5 1 (dk_at dksJ8_compareValues_2 0 rfl rfl)
theorem dJ8_compareValues_49 : decode cJ8_compareValues 49 = .ok (.goto (-39), 3) := dk_167 255 217 (dk_at dksJ8_compareValues_2 3 rfl rfl)
theorem dJ8_compareValues_52 : decode cJ8_compareValues 52 = .ok (.iload_n 2, 1) := dk_28 (dk_at dksJ8_compareValues_2 6 rfl rfl)
theorem dJ8_compareValues_53 : decode cJ8_compareValues 53 = .ok (.iload_n 3, 1) := dk_29 (dk_at dksJ8_compareValues_2 7 rfl rfl)
theorem dJ8_compareValues_54 : decode cJ8_compareValues 54 = .ok (.isub, 1) := dk_100 (dk_at dksJ8_compareValues_2 8 rfl rfl)
theorem dJ8_compareValues_55 : decode cJ8_compareValues 55 = .ok (.ireturn, 1) := dk_172 (dk_at dksJ8_compareValues_2 9 rfl rfl)
abbrev cJ8_getChar : ByteArray := prog_37_method_5_code
def yJ8_getChar : MethodName := ⟨RJ8, "getChar", "([BI)C"⟩
def dkwJ8_getChar_2 : List UInt8 := [51, 17, 0, 255, 126, 178, 0, 63, 120, 128, 146, 172]
abbrev dktJ8_getChar_2 : List UInt8 := dkwJ8_getChar_2 ++ []
def dkwJ8_getChar_1 : List UInt8 := [183, 0, 56, 191, 27, 4, 120, 60, 42, 27, 132, 1, 1, 51, 17, 0, 255, 126, 178, 0, 59, 120, 42, 27]
abbrev dktJ8_getChar_1 : List UInt8 := dkwJ8_getChar_1 ++ dktJ8_getChar_2
def dkwJ8_getChar_0 : List UInt8 := [178, 0, 44, 154, 0, 25, 27, 155, 0, 11, 27, 42, 184, 0, 48, 161, 0, 13, 187, 0, 52, 89, 18, 54]
abbrev dktJ8_getChar_0 : List UInt8 := dkwJ8_getChar_0 ++ dktJ8_getChar_1
theorem dksJ8_getChar_0 : cJ8_getChar.data.toList.drop 0 = dktJ8_getChar_0 := by decide +kernel
theorem dksJ8_getChar_1 : cJ8_getChar.data.toList.drop 24 = dktJ8_getChar_1 := dk_seg dksJ8_getChar_0 24 rfl rfl
theorem dksJ8_getChar_2 : cJ8_getChar.data.toList.drop 48 = dktJ8_getChar_2 := dk_seg dksJ8_getChar_1 24 rfl rfl
theorem dJ8_getChar_0 : decode cJ8_getChar 0 = .ok (.getstatic 44, 3) := dk_178 0 44 (dk_at dksJ8_getChar_0 0 rfl rfl)
theorem dJ8_getChar_3 : decode cJ8_getChar 3 = .ok (.ifCond .ne 25, 3) := dk_154 0 25 (dk_at dksJ8_getChar_0 3 rfl rfl)
theorem dJ8_getChar_6 : decode cJ8_getChar 6 = .ok (.iload_n 1, 1) := dk_27 (dk_at dksJ8_getChar_0 6 rfl rfl)
theorem dJ8_getChar_7 : decode cJ8_getChar 7 = .ok (.ifCond .lt 11, 3) := dk_155 0 11 (dk_at dksJ8_getChar_0 7 rfl rfl)
theorem dJ8_getChar_10 : decode cJ8_getChar 10 = .ok (.iload_n 1, 1) := dk_27 (dk_at dksJ8_getChar_0 10 rfl rfl)
theorem dJ8_getChar_11 : decode cJ8_getChar 11 = .ok (.aload_n 0, 1) := dk_42 (dk_at dksJ8_getChar_0 11 rfl rfl)
theorem dJ8_getChar_12 : decode cJ8_getChar 12 = .ok (.invokestatic 48, 3) := dk_184 0 48 (dk_at dksJ8_getChar_0 12 rfl rfl)
theorem dJ8_getChar_15 : decode cJ8_getChar 15 = .ok (.if_icmp .lt 13, 3) := dk_161 0 13 (dk_at dksJ8_getChar_0 15 rfl rfl)
theorem dJ8_getChar_18 : decode cJ8_getChar 18 = .ok (.new 52, 3) := dk_187 0 52 (dk_at dksJ8_getChar_0 18 rfl rfl)
theorem dJ8_getChar_21 : decode cJ8_getChar 21 = .ok (.dup, 1) := dk_89 (dk_at dksJ8_getChar_0 21 rfl rfl)
theorem dJ8_getChar_22 : decode cJ8_getChar 22 = .ok (.ldc 54, 2) := dk_18 54 (dk_at dksJ8_getChar_0 22 rfl rfl)
theorem dJ8_getChar_24 : decode cJ8_getChar 24 = .ok (.invokespecial 56, 3) := dk_183 0 56 (dk_at dksJ8_getChar_1 0 rfl rfl)
theorem dJ8_getChar_27 : decode cJ8_getChar 27 = .ok (.athrow, 1) := dk_191 (dk_at dksJ8_getChar_1 3 rfl rfl)
theorem dJ8_getChar_28 : decode cJ8_getChar 28 = .ok (.iload_n 1, 1) := dk_27 (dk_at dksJ8_getChar_1 4 rfl rfl)
theorem dJ8_getChar_29 : decode cJ8_getChar 29 = .ok (.iconst 1, 1) := dk_4 (dk_at dksJ8_getChar_1 5 rfl rfl)
theorem dJ8_getChar_30 : decode cJ8_getChar 30 = .ok (.ishl, 1) := dk_120 (dk_at dksJ8_getChar_1 6 rfl rfl)
theorem dJ8_getChar_31 : decode cJ8_getChar 31 = .ok (.istore_n 1, 1) := dk_60 (dk_at dksJ8_getChar_1 7 rfl rfl)
theorem dJ8_getChar_32 : decode cJ8_getChar 32 = .ok (.aload_n 0, 1) := dk_42 (dk_at dksJ8_getChar_1 8 rfl rfl)
theorem dJ8_getChar_33 : decode cJ8_getChar 33 = .ok (.iload_n 1, 1) := dk_27 (dk_at dksJ8_getChar_1 9 rfl rfl)
theorem dJ8_getChar_34 : decode cJ8_getChar 34 = .ok (.iinc 1 1, 3) := dk_132 1 1 (dk_at dksJ8_getChar_1 10 rfl rfl)
theorem dJ8_getChar_37 : decode cJ8_getChar 37 = .ok (.baload, 1) := dk_51 (dk_at dksJ8_getChar_1 13 rfl rfl)
theorem dJ8_getChar_38 : decode cJ8_getChar 38 = .ok (.sipush 255, 3) := dk_17 0 255 (dk_at dksJ8_getChar_1 14 rfl rfl)
theorem dJ8_getChar_41 : decode cJ8_getChar 41 = .ok (.iand, 1) := dk_126 (dk_at dksJ8_getChar_1 17 rfl rfl)
theorem dJ8_getChar_42 : decode cJ8_getChar 42 = .ok (.getstatic 59, 3) := dk_178 0 59 (dk_at dksJ8_getChar_1 18 rfl rfl)
theorem dJ8_getChar_45 : decode cJ8_getChar 45 = .ok (.ishl, 1) := dk_120 (dk_at dksJ8_getChar_1 21 rfl rfl)
theorem dJ8_getChar_46 : decode cJ8_getChar 46 = .ok (.aload_n 0, 1) := dk_42 (dk_at dksJ8_getChar_1 22 rfl rfl)
theorem dJ8_getChar_47 : decode cJ8_getChar 47 = .ok (.iload_n 1, 1) := dk_27 (dk_at dksJ8_getChar_1 23 rfl rfl)
theorem dJ8_getChar_48 : decode cJ8_getChar 48 = .ok (.baload, 1) := dk_51 (dk_at dksJ8_getChar_2 0 rfl rfl)
theorem dJ8_getChar_49 : decode cJ8_getChar 49 = .ok (.sipush 255, 3) := dk_17 0 255 (dk_at dksJ8_getChar_2 1 rfl rfl)
theorem dJ8_getChar_52 : decode cJ8_getChar 52 = .ok (.iand, 1) := dk_126 (dk_at dksJ8_getChar_2 4 rfl rfl)
theorem dJ8_getChar_53 : decode cJ8_getChar 53 = .ok (.getstatic 63, 3) := dk_178 0 63 (dk_at dksJ8_getChar_2 5 rfl rfl)
theorem dJ8_getChar_56 : decode cJ8_getChar 56 = .ok (.ishl, 1) := dk_120 (dk_at dksJ8_getChar_2 8 rfl rfl)
theorem dJ8_getChar_57 : decode cJ8_getChar 57 = .ok (.ior, 1) := dk_128 (dk_at dksJ8_getChar_2 9 rfl rfl)
theorem dJ8_getChar_58 : decode cJ8_getChar 58 = .ok (.i2c, 1) := dk_146 (dk_at dksJ8_getChar_2 10 rfl rfl)
theorem dJ8_getChar_59 : decode cJ8_getChar 59 = .ok (.ireturn, 1) := dk_172 (dk_at dksJ8_getChar_2 11 rfl rfl)
abbrev cJ8_compareToLatin1 : ByteArray := prog_37_method_32_code
def yJ8_compareToLatin1 : MethodName := ⟨RJ8, "compareToLatin1", "([B[B)I"⟩
def dkwJ8_compareToLatin1_0 : List UInt8 := [43, 42, 184, 0, 189, 116, 172]
abbrev dktJ8_compareToLatin1_0 : List UInt8 := dkwJ8_compareToLatin1_0 ++ []
theorem dksJ8_compareToLatin1_0 : cJ8_compareToLatin1.data.toList.drop 0 = dktJ8_compareToLatin1_0 := by decide +kernel
theorem dJ8_compareToLatin1_0 : decode cJ8_compareToLatin1 0 = .ok (.aload_n 1, 1) := dk_43 (dk_at dksJ8_compareToLatin1_0 0 rfl rfl)
theorem dJ8_compareToLatin1_1 : decode cJ8_compareToLatin1 1 = .ok (.aload_n 0, 1) := dk_42 (dk_at dksJ8_compareToLatin1_0 1 rfl rfl)
theorem dJ8_compareToLatin1_2 : decode cJ8_compareToLatin1 2 = .ok (.invokestatic 189, 3) := dk_184 0 189 (dk_at dksJ8_compareToLatin1_0 2 rfl rfl)
theorem dJ8_compareToLatin1_5 : decode cJ8_compareToLatin1 5 = .ok (.ineg, 1) := dk_116 (dk_at dksJ8_compareToLatin1_0 5 rfl rfl)
theorem dJ8_compareToLatin1_6 : decode cJ8_compareToLatin1 6 = .ok (.ireturn, 1) := dk_172 (dk_at dksJ8_compareToLatin1_0 6 rfl rfl)
abbrev cJ8_compareTo_2 : ByteArray := prog_37_method_30_code
def yJ8_compareTo_2 : MethodName := ⟨RJ8, "compareTo", "([B[BII)I"⟩
def dkwJ8_compareTo_2_0 : List UInt8 := [28, 42, 184, 0, 180, 29, 43, 184, 0, 180, 42, 43, 28, 29, 184, 0, 176, 172]
abbrev dktJ8_compareTo_2_0 : List UInt8 := dkwJ8_compareTo_2_0 ++ []
theorem dksJ8_compareTo_2_0 : cJ8_compareTo_2.data.toList.drop 0 = dktJ8_compareTo_2_0 := by decide +kernel
theorem dJ8_compareTo_2_0 : decode cJ8_compareTo_2 0 = .ok (.iload_n 2, 1) := dk_28 (dk_at dksJ8_compareTo_2_0 0 rfl rfl)
theorem dJ8_compareTo_2_1 : decode cJ8_compareTo_2 1 = .ok (.aload_n 0, 1) := dk_42 (dk_at dksJ8_compareTo_2_0 1 rfl rfl)
theorem dJ8_compareTo_2_2 : decode cJ8_compareTo_2 2 = .ok (.invokestatic 180, 3) := dk_184 0 180 (dk_at dksJ8_compareTo_2_0 2 rfl rfl)
theorem dJ8_compareTo_2_5 : decode cJ8_compareTo_2 5 = .ok (.iload_n 3, 1) := dk_29 (dk_at dksJ8_compareTo_2_0 5 rfl rfl)
theorem dJ8_compareTo_2_6 : decode cJ8_compareTo_2 6 = .ok (.aload_n 1, 1) := dk_43 (dk_at dksJ8_compareTo_2_0 6 rfl rfl)
theorem dJ8_compareTo_2_7 : decode cJ8_compareTo_2 7 = .ok (.invokestatic 180, 3) := dk_184 0 180 (dk_at dksJ8_compareTo_2_0 7 rfl rfl)
theorem dJ8_compareTo_2_10 : decode cJ8_compareTo_2 10 = .ok (.aload_n 0, 1) := dk_42 (dk_at dksJ8_compareTo_2_0 10 rfl rfl)
theorem dJ8_compareTo_2_11 : decode cJ8_compareTo_2 11 = .ok (.aload_n 1, 1) := dk_43 (dk_at dksJ8_compareTo_2_0 11 rfl rfl)
theorem dJ8_compareTo_2_12 : decode cJ8_compareTo_2 12 = .ok (.iload_n 2, 1) := dk_28 (dk_at dksJ8_compareTo_2_0 12 rfl rfl)
theorem dJ8_compareTo_2_13 : decode cJ8_compareTo_2 13 = .ok (.iload_n 3, 1) := dk_29 (dk_at dksJ8_compareTo_2_0 13 rfl rfl)
theorem dJ8_compareTo_2_14 : decode cJ8_compareTo_2 14 = .ok (.invokestatic 176, 3) := dk_184 0 176 (dk_at dksJ8_compareTo_2_0 14 rfl rfl)
theorem dJ8_compareTo_2_17 : decode cJ8_compareTo_2 17 = .ok (.ireturn, 1) := dk_172 (dk_at dksJ8_compareTo_2_0 17 rfl rfl)
abbrev cJ8_checkOffset : ByteArray := prog_37_method_92_code
def yJ8_checkOffset : MethodName := ⟨RJ8, "checkOffset", "(I[B)V"⟩
def dkwJ8_checkOffset_0 : List UInt8 := [26, 43, 184, 0, 48, 184, 1, 161, 177]
abbrev dktJ8_checkOffset_0 : List UInt8 := dkwJ8_checkOffset_0 ++ []
theorem dksJ8_checkOffset_0 : cJ8_checkOffset.data.toList.drop 0 = dktJ8_checkOffset_0 := by decide +kernel
theorem dJ8_checkOffset_0 : decode cJ8_checkOffset 0 = .ok (.iload_n 0, 1) := dk_26 (dk_at dksJ8_checkOffset_0 0 rfl rfl)
theorem dJ8_checkOffset_1 : decode cJ8_checkOffset 1 = .ok (.aload_n 1, 1) := dk_43 (dk_at dksJ8_checkOffset_0 1 rfl rfl)
theorem dJ8_checkOffset_2 : decode cJ8_checkOffset 2 = .ok (.invokestatic 48, 3) := dk_184 0 48 (dk_at dksJ8_checkOffset_0 2 rfl rfl)
theorem dJ8_checkOffset_5 : decode cJ8_checkOffset 5 = .ok (.invokestatic 417, 3) := dk_184 1 161 (dk_at dksJ8_checkOffset_0 5 rfl rfl)
theorem dJ8_checkOffset_8 : decode cJ8_checkOffset 8 = .ok (.return_, 1) := dk_177 (dk_at dksJ8_checkOffset_0 8 rfl rfl)
abbrev cJ8_compareToLatin1_2 : ByteArray := prog_37_method_33_code
def yJ8_compareToLatin1_2 : MethodName := ⟨RJ8, "compareToLatin1", "([B[BII)I"⟩
def dkwJ8_compareToLatin1_2_0 : List UInt8 := [43, 42, 29, 28, 184, 0, 193, 116, 172]
abbrev dktJ8_compareToLatin1_2_0 : List UInt8 := dkwJ8_compareToLatin1_2_0 ++ []
theorem dksJ8_compareToLatin1_2_0 : cJ8_compareToLatin1_2.data.toList.drop 0 = dktJ8_compareToLatin1_2_0 := by decide +kernel
theorem dJ8_compareToLatin1_2_0 : decode cJ8_compareToLatin1_2 0 = .ok (.aload_n 1, 1) := dk_43 (dk_at dksJ8_compareToLatin1_2_0 0 rfl rfl)
theorem dJ8_compareToLatin1_2_1 : decode cJ8_compareToLatin1_2 1 = .ok (.aload_n 0, 1) := dk_42 (dk_at dksJ8_compareToLatin1_2_0 1 rfl rfl)
theorem dJ8_compareToLatin1_2_2 : decode cJ8_compareToLatin1_2 2 = .ok (.iload_n 3, 1) := dk_29 (dk_at dksJ8_compareToLatin1_2_0 2 rfl rfl)
theorem dJ8_compareToLatin1_2_3 : decode cJ8_compareToLatin1_2 3 = .ok (.iload_n 2, 1) := dk_28 (dk_at dksJ8_compareToLatin1_2_0 3 rfl rfl)
theorem dJ8_compareToLatin1_2_4 : decode cJ8_compareToLatin1_2 4 = .ok (.invokestatic 193, 3) := dk_184 0 193 (dk_at dksJ8_compareToLatin1_2_0 4 rfl rfl)
theorem dJ8_compareToLatin1_2_7 : decode cJ8_compareToLatin1_2 7 = .ok (.ineg, 1) := dk_116 (dk_at dksJ8_compareToLatin1_2_0 7 rfl rfl)
theorem dJ8_compareToLatin1_2_8 : decode cJ8_compareToLatin1_2 8 = .ok (.ireturn, 1) := dk_172 (dk_at dksJ8_compareToLatin1_2_0 8 rfl rfl)
abbrev cJ8_putCharsAt : ByteArray := prog_37_method_81_code
def yJ8_putCharsAt : MethodName := ⟨RJ8, "putCharsAt", "([BICCCC)I"⟩
def dkwJ8_putCharsAt_3 : List UInt8 := [21, 6, 172]
abbrev dktJ8_putCharsAt_3 : List UInt8 := dkwJ8_putCharsAt_3 ++ []
def dkwJ8_putCharsAt_2 : List UInt8 := [184, 0, 111, 178, 0, 44, 154, 0, 17, 27, 21, 6, 159, 0, 11, 187, 0, 52, 89, 183, 0, 66, 191]
abbrev dktJ8_putCharsAt_2 : List UInt8 := dkwJ8_putCharsAt_2 ++ dktJ8_putCharsAt_3
def dkwJ8_putCharsAt_1 : List UInt8 := [132, 1, 1, 29, 184, 0, 111, 42, 27, 132, 1, 1, 21, 4, 184, 0, 111, 42, 27, 132, 1, 1, 21, 5]
abbrev dktJ8_putCharsAt_1 : List UInt8 := dkwJ8_putCharsAt_1 ++ dktJ8_putCharsAt_2
def dkwJ8_putCharsAt_0 : List UInt8 := [27, 7, 96, 54, 6, 27, 21, 6, 42, 184, 0, 96, 42, 27, 132, 1, 1, 28, 184, 0, 111, 42, 27]
abbrev dktJ8_putCharsAt_0 : List UInt8 := dkwJ8_putCharsAt_0 ++ dktJ8_putCharsAt_1
theorem dksJ8_putCharsAt_0 : cJ8_putCharsAt.data.toList.drop 0 = dktJ8_putCharsAt_0 := by decide +kernel
theorem dksJ8_putCharsAt_1 : cJ8_putCharsAt.data.toList.drop 23 = dktJ8_putCharsAt_1 := dk_seg dksJ8_putCharsAt_0 23 rfl rfl
theorem dksJ8_putCharsAt_2 : cJ8_putCharsAt.data.toList.drop 47 = dktJ8_putCharsAt_2 := dk_seg dksJ8_putCharsAt_1 24 rfl rfl
theorem dksJ8_putCharsAt_3 : cJ8_putCharsAt.data.toList.drop 70 = dktJ8_putCharsAt_3 := dk_seg dksJ8_putCharsAt_2 23 rfl rfl
theorem dJ8_putCharsAt_0 : decode cJ8_putCharsAt 0 = .ok (.iload_n 1, 1) := dk_27 (dk_at dksJ8_putCharsAt_0 0 rfl rfl)
theorem dJ8_putCharsAt_1 : decode cJ8_putCharsAt 1 = .ok (.iconst 4, 1) := dk_7 (dk_at dksJ8_putCharsAt_0 1 rfl rfl)
theorem dJ8_putCharsAt_2 : decode cJ8_putCharsAt 2 = .ok (.iadd, 1) := dk_96 (dk_at dksJ8_putCharsAt_0 2 rfl rfl)
theorem dJ8_putCharsAt_3 : decode cJ8_putCharsAt 3 = .ok (.istore 6, 2) := dk_54 6 (dk_at dksJ8_putCharsAt_0 3 rfl rfl)
theorem dJ8_putCharsAt_5 : decode cJ8_putCharsAt 5 = .ok (.iload_n 1, 1) := dk_27 (dk_at dksJ8_putCharsAt_0 5 rfl rfl)
theorem dJ8_putCharsAt_6 : decode cJ8_putCharsAt 6 = .ok (.iload 6, 2) := dk_21 6 (dk_at dksJ8_putCharsAt_0 6 rfl rfl)
theorem dJ8_putCharsAt_8 : decode cJ8_putCharsAt 8 = .ok (.aload_n 0, 1) := dk_42 (dk_at dksJ8_putCharsAt_0 8 rfl rfl)
theorem dJ8_putCharsAt_9 : decode cJ8_putCharsAt 9 = .ok (.invokestatic 96, 3) := dk_184 0 96 (dk_at dksJ8_putCharsAt_0 9 rfl rfl)
theorem dJ8_putCharsAt_12 : decode cJ8_putCharsAt 12 = .ok (.aload_n 0, 1) := dk_42 (dk_at dksJ8_putCharsAt_0 12 rfl rfl)
theorem dJ8_putCharsAt_13 : decode cJ8_putCharsAt 13 = .ok (.iload_n 1, 1) := dk_27 (dk_at dksJ8_putCharsAt_0 13 rfl rfl)
theorem dJ8_putCharsAt_14 : decode cJ8_putCharsAt 14 = .ok (.iinc 1 1, 3) := dk_132 1 1 (dk_at dksJ8_putCharsAt_0 14 rfl rfl)
theorem dJ8_putCharsAt_17 : decode cJ8_putCharsAt 17 = .ok (.iload_n 2, 1) := dk_28 (dk_at dksJ8_putCharsAt_0 17 rfl rfl)
theorem dJ8_putCharsAt_18 : decode cJ8_putCharsAt 18 = .ok (.invokestatic 111, 3) := dk_184 0 111 (dk_at dksJ8_putCharsAt_0 18 rfl rfl)
theorem dJ8_putCharsAt_21 : decode cJ8_putCharsAt 21 = .ok (.aload_n 0, 1) := dk_42 (dk_at dksJ8_putCharsAt_0 21 rfl rfl)
theorem dJ8_putCharsAt_22 : decode cJ8_putCharsAt 22 = .ok (.iload_n 1, 1) := dk_27 (dk_at dksJ8_putCharsAt_0 22 rfl rfl)
theorem dJ8_putCharsAt_23 : decode cJ8_putCharsAt 23 = .ok (.iinc 1 1, 3) := dk_132 1 1 (dk_at dksJ8_putCharsAt_1 0 rfl rfl)
theorem dJ8_putCharsAt_26 : decode cJ8_putCharsAt 26 = .ok (.iload_n 3, 1) := dk_29 (dk_at dksJ8_putCharsAt_1 3 rfl rfl)
theorem dJ8_putCharsAt_27 : decode cJ8_putCharsAt 27 = .ok (.invokestatic 111, 3) := dk_184 0 111 (dk_at dksJ8_putCharsAt_1 4 rfl rfl)
theorem dJ8_putCharsAt_30 : decode cJ8_putCharsAt 30 = .ok (.aload_n 0, 1) := dk_42 (dk_at dksJ8_putCharsAt_1 7 rfl rfl)
theorem dJ8_putCharsAt_31 : decode cJ8_putCharsAt 31 = .ok (.iload_n 1, 1) := dk_27 (dk_at dksJ8_putCharsAt_1 8 rfl rfl)
theorem dJ8_putCharsAt_32 : decode cJ8_putCharsAt 32 = .ok (.iinc 1 1, 3) := dk_132 1 1 (dk_at dksJ8_putCharsAt_1 9 rfl rfl)
theorem dJ8_putCharsAt_35 : decode cJ8_putCharsAt 35 = .ok (.iload 4, 2) := dk_21 4 (dk_at dksJ8_putCharsAt_1 12 rfl rfl)
theorem dJ8_putCharsAt_37 : decode cJ8_putCharsAt 37 = .ok (.invokestatic 111, 3) := dk_184 0 111 (dk_at dksJ8_putCharsAt_1 14 rfl rfl)
theorem dJ8_putCharsAt_40 : decode cJ8_putCharsAt 40 = .ok (.aload_n 0, 1) := dk_42 (dk_at dksJ8_putCharsAt_1 17 rfl rfl)
theorem dJ8_putCharsAt_41 : decode cJ8_putCharsAt 41 = .ok (.iload_n 1, 1) := dk_27 (dk_at dksJ8_putCharsAt_1 18 rfl rfl)
theorem dJ8_putCharsAt_42 : decode cJ8_putCharsAt 42 = .ok (.iinc 1 1, 3) := dk_132 1 1 (dk_at dksJ8_putCharsAt_1 19 rfl rfl)
theorem dJ8_putCharsAt_45 : decode cJ8_putCharsAt 45 = .ok (.iload 5, 2) := dk_21 5 (dk_at dksJ8_putCharsAt_1 22 rfl rfl)
theorem dJ8_putCharsAt_47 : decode cJ8_putCharsAt 47 = .ok (.invokestatic 111, 3) := dk_184 0 111 (dk_at dksJ8_putCharsAt_2 0 rfl rfl)
theorem dJ8_putCharsAt_50 : decode cJ8_putCharsAt 50 = .ok (.getstatic 44, 3) := dk_178 0 44 (dk_at dksJ8_putCharsAt_2 3 rfl rfl)
theorem dJ8_putCharsAt_53 : decode cJ8_putCharsAt 53 = .ok (.ifCond .ne 17, 3) := dk_154 0 17 (dk_at dksJ8_putCharsAt_2 6 rfl rfl)
theorem dJ8_putCharsAt_56 : decode cJ8_putCharsAt 56 = .ok (.iload_n 1, 1) := dk_27 (dk_at dksJ8_putCharsAt_2 9 rfl rfl)
theorem dJ8_putCharsAt_57 : decode cJ8_putCharsAt 57 = .ok (.iload 6, 2) := dk_21 6 (dk_at dksJ8_putCharsAt_2 10 rfl rfl)
theorem dJ8_putCharsAt_59 : decode cJ8_putCharsAt 59 = .ok (.if_icmp .eq 11, 3) := dk_159 0 11 (dk_at dksJ8_putCharsAt_2 12 rfl rfl)
theorem dJ8_putCharsAt_62 : decode cJ8_putCharsAt 62 = .ok (.new 52, 3) := dk_187 0 52 (dk_at dksJ8_putCharsAt_2 15 rfl rfl)
theorem dJ8_putCharsAt_65 : decode cJ8_putCharsAt 65 = .ok (.dup, 1) := dk_89 (dk_at dksJ8_putCharsAt_2 18 rfl rfl)
theorem dJ8_putCharsAt_66 : decode cJ8_putCharsAt 66 = .ok (.invokespecial 66, 3) := dk_183 0 66 (dk_at dksJ8_putCharsAt_2 19 rfl rfl)
theorem dJ8_putCharsAt_69 : decode cJ8_putCharsAt 69 = .ok (.athrow, 1) := dk_191 (dk_at dksJ8_putCharsAt_2 22 rfl rfl)
theorem dJ8_putCharsAt_70 : decode cJ8_putCharsAt 70 = .ok (.iload 6, 2) := dk_21 6 (dk_at dksJ8_putCharsAt_3 0 rfl rfl)
theorem dJ8_putCharsAt_72 : decode cJ8_putCharsAt 72 = .ok (.ireturn, 1) := dk_172 (dk_at dksJ8_putCharsAt_3 2 rfl rfl)
abbrev cJ8_checkBoundsBeginEnd : ByteArray := prog_37_method_93_code
def yJ8_checkBoundsBeginEnd : MethodName := ⟨RJ8, "checkBoundsBeginEnd", "(II[B)V"⟩
def dkwJ8_checkBoundsBeginEnd_0 : List UInt8 := [26, 27, 44, 184, 0, 48, 184, 0, 241, 177]
abbrev dktJ8_checkBoundsBeginEnd_0 : List UInt8 := dkwJ8_checkBoundsBeginEnd_0 ++ []
theorem dksJ8_checkBoundsBeginEnd_0 : cJ8_checkBoundsBeginEnd.data.toList.drop 0 = dktJ8_checkBoundsBeginEnd_0 := by decide +kernel
theorem dJ8_checkBoundsBeginEnd_0 : decode cJ8_checkBoundsBeginEnd 0 = .ok (.iload_n 0, 1) := dk_26 (dk_at dksJ8_checkBoundsBeginEnd_0 0 rfl rfl)
theorem dJ8_checkBoundsBeginEnd_1 : decode cJ8_checkBoundsBeginEnd 1 = .ok (.iload_n 1, 1) := dk_27 (dk_at dksJ8_checkBoundsBeginEnd_0 1 rfl rfl)
theorem dJ8_checkBoundsBeginEnd_2 : decode cJ8_checkBoundsBeginEnd 2 = .ok (.aload_n 2, 1) := dk_44 (dk_at dksJ8_checkBoundsBeginEnd_0 2 rfl rfl)
theorem dJ8_checkBoundsBeginEnd_3 : decode cJ8_checkBoundsBeginEnd 3 = .ok (.invokestatic 48, 3) := dk_184 0 48 (dk_at dksJ8_checkBoundsBeginEnd_0 3 rfl rfl)
theorem dJ8_checkBoundsBeginEnd_6 : decode cJ8_checkBoundsBeginEnd 6 = .ok (.invokestatic 241, 3) := dk_184 0 241 (dk_at dksJ8_checkBoundsBeginEnd_0 6 rfl rfl)
theorem dJ8_checkBoundsBeginEnd_9 : decode cJ8_checkBoundsBeginEnd 9 = .ok (.return_, 1) := dk_177 (dk_at dksJ8_checkBoundsBeginEnd_0 9 rfl rfl)
abbrev cJ8_putChar : ByteArray := prog_37_method_4_code
def yJ8_putChar : MethodName := ⟨RJ8, "putChar", "([BII)V"⟩
def dkwJ8_putChar_2 : List UInt8 := [178, 0, 63, 122, 145, 84, 177]
abbrev dktJ8_putChar_2 : List UInt8 := dkwJ8_putChar_2 ++ []
def dkwJ8_putChar_1 : List UInt8 := [183, 0, 56, 191, 27, 4, 120, 60, 42, 27, 132, 1, 1, 28, 178, 0, 59, 122, 145, 84, 42, 27, 28]
abbrev dktJ8_putChar_1 : List UInt8 := dkwJ8_putChar_1 ++ dktJ8_putChar_2
def dkwJ8_putChar_0 : List UInt8 := [178, 0, 44, 154, 0, 25, 27, 155, 0, 11, 27, 42, 184, 0, 48, 161, 0, 13, 187, 0, 52, 89, 18, 54]
abbrev dktJ8_putChar_0 : List UInt8 := dkwJ8_putChar_0 ++ dktJ8_putChar_1
theorem dksJ8_putChar_0 : cJ8_putChar.data.toList.drop 0 = dktJ8_putChar_0 := by decide +kernel
theorem dksJ8_putChar_1 : cJ8_putChar.data.toList.drop 24 = dktJ8_putChar_1 := dk_seg dksJ8_putChar_0 24 rfl rfl
theorem dksJ8_putChar_2 : cJ8_putChar.data.toList.drop 47 = dktJ8_putChar_2 := dk_seg dksJ8_putChar_1 23 rfl rfl
theorem dJ8_putChar_0 : decode cJ8_putChar 0 = .ok (.getstatic 44, 3) := dk_178 0 44 (dk_at dksJ8_putChar_0 0 rfl rfl)
theorem dJ8_putChar_3 : decode cJ8_putChar 3 = .ok (.ifCond .ne 25, 3) := dk_154 0 25 (dk_at dksJ8_putChar_0 3 rfl rfl)
theorem dJ8_putChar_6 : decode cJ8_putChar 6 = .ok (.iload_n 1, 1) := dk_27 (dk_at dksJ8_putChar_0 6 rfl rfl)
theorem dJ8_putChar_7 : decode cJ8_putChar 7 = .ok (.ifCond .lt 11, 3) := dk_155 0 11 (dk_at dksJ8_putChar_0 7 rfl rfl)
theorem dJ8_putChar_10 : decode cJ8_putChar 10 = .ok (.iload_n 1, 1) := dk_27 (dk_at dksJ8_putChar_0 10 rfl rfl)
theorem dJ8_putChar_11 : decode cJ8_putChar 11 = .ok (.aload_n 0, 1) := dk_42 (dk_at dksJ8_putChar_0 11 rfl rfl)
theorem dJ8_putChar_12 : decode cJ8_putChar 12 = .ok (.invokestatic 48, 3) := dk_184 0 48 (dk_at dksJ8_putChar_0 12 rfl rfl)
theorem dJ8_putChar_15 : decode cJ8_putChar 15 = .ok (.if_icmp .lt 13, 3) := dk_161 0 13 (dk_at dksJ8_putChar_0 15 rfl rfl)
theorem dJ8_putChar_18 : decode cJ8_putChar 18 = .ok (.new 52, 3) := dk_187 0 52 (dk_at dksJ8_putChar_0 18 rfl rfl)
theorem dJ8_putChar_21 : decode cJ8_putChar 21 = .ok (.dup, 1) := dk_89 (dk_at dksJ8_putChar_0 21 rfl rfl)
theorem dJ8_putChar_22 : decode cJ8_putChar 22 = .ok (.ldc 54, 2) := dk_18 54 (dk_at dksJ8_putChar_0 22 rfl rfl)
theorem dJ8_putChar_24 : decode cJ8_putChar 24 = .ok (.invokespecial 56, 3) := dk_183 0 56 (dk_at dksJ8_putChar_1 0 rfl rfl)
theorem dJ8_putChar_27 : decode cJ8_putChar 27 = .ok (.athrow, 1) := dk_191 (dk_at dksJ8_putChar_1 3 rfl rfl)
theorem dJ8_putChar_28 : decode cJ8_putChar 28 = .ok (.iload_n 1, 1) := dk_27 (dk_at dksJ8_putChar_1 4 rfl rfl)
theorem dJ8_putChar_29 : decode cJ8_putChar 29 = .ok (.iconst 1, 1) := dk_4 (dk_at dksJ8_putChar_1 5 rfl rfl)
theorem dJ8_putChar_30 : decode cJ8_putChar 30 = .ok (.ishl, 1) := dk_120 (dk_at dksJ8_putChar_1 6 rfl rfl)
theorem dJ8_putChar_31 : decode cJ8_putChar 31 = .ok (.istore_n 1, 1) := dk_60 (dk_at dksJ8_putChar_1 7 rfl rfl)
theorem dJ8_putChar_32 : decode cJ8_putChar 32 = .ok (.aload_n 0, 1) := dk_42 (dk_at dksJ8_putChar_1 8 rfl rfl)
theorem dJ8_putChar_33 : decode cJ8_putChar 33 = .ok (.iload_n 1, 1) := dk_27 (dk_at dksJ8_putChar_1 9 rfl rfl)
theorem dJ8_putChar_34 : decode cJ8_putChar 34 = .ok (.iinc 1 1, 3) := dk_132 1 1 (dk_at dksJ8_putChar_1 10 rfl rfl)
theorem dJ8_putChar_37 : decode cJ8_putChar 37 = .ok (.iload_n 2, 1) := dk_28 (dk_at dksJ8_putChar_1 13 rfl rfl)
theorem dJ8_putChar_38 : decode cJ8_putChar 38 = .ok (.getstatic 59, 3) := dk_178 0 59 (dk_at dksJ8_putChar_1 14 rfl rfl)
theorem dJ8_putChar_41 : decode cJ8_putChar 41 = .ok (.ishr, 1) := dk_122 (dk_at dksJ8_putChar_1 17 rfl rfl)
theorem dJ8_putChar_42 : decode cJ8_putChar 42 = .ok (.i2b, 1) := dk_145 (dk_at dksJ8_putChar_1 18 rfl rfl)
theorem dJ8_putChar_43 : decode cJ8_putChar 43 = .ok (.bastore, 1) := dk_84 (dk_at dksJ8_putChar_1 19 rfl rfl)
theorem dJ8_putChar_44 : decode cJ8_putChar 44 = .ok (.aload_n 0, 1) := dk_42 (dk_at dksJ8_putChar_1 20 rfl rfl)
theorem dJ8_putChar_45 : decode cJ8_putChar 45 = .ok (.iload_n 1, 1) := dk_27 (dk_at dksJ8_putChar_1 21 rfl rfl)
theorem dJ8_putChar_46 : decode cJ8_putChar 46 = .ok (.iload_n 2, 1) := dk_28 (dk_at dksJ8_putChar_1 22 rfl rfl)
theorem dJ8_putChar_47 : decode cJ8_putChar 47 = .ok (.getstatic 63, 3) := dk_178 0 63 (dk_at dksJ8_putChar_2 0 rfl rfl)
theorem dJ8_putChar_50 : decode cJ8_putChar 50 = .ok (.ishr, 1) := dk_122 (dk_at dksJ8_putChar_2 3 rfl rfl)
theorem dJ8_putChar_51 : decode cJ8_putChar 51 = .ok (.i2b, 1) := dk_145 (dk_at dksJ8_putChar_2 4 rfl rfl)
theorem dJ8_putChar_52 : decode cJ8_putChar 52 = .ok (.bastore, 1) := dk_84 (dk_at dksJ8_putChar_2 5 rfl rfl)
theorem dJ8_putChar_53 : decode cJ8_putChar 53 = .ok (.return_, 1) := dk_177 (dk_at dksJ8_putChar_2 6 rfl rfl)
abbrev cJ8_inflate : ByteArray := prog_37_method_86_code
def yJ8_inflate : MethodName := ⟨RJ8, "inflate", "([BI[BII)V"⟩
def dkwJ8_inflate_1 : List UInt8 := [132, 1, 1, 51, 17, 0, 255, 126, 184, 0, 111, 132, 5, 1, 167, 255, 228, 177]
abbrev dktJ8_inflate_1 : List UInt8 := dkwJ8_inflate_1 ++ []
def dkwJ8_inflate_0 : List UInt8 := [29, 21, 4, 44, 184, 0, 173, 3, 54, 5, 21, 5, 21, 4, 162, 0, 27, 44, 29, 132, 3, 1, 42, 27]
abbrev dktJ8_inflate_0 : List UInt8 := dkwJ8_inflate_0 ++ dktJ8_inflate_1
theorem dksJ8_inflate_0 : cJ8_inflate.data.toList.drop 0 = dktJ8_inflate_0 := by decide +kernel
theorem dksJ8_inflate_1 : cJ8_inflate.data.toList.drop 24 = dktJ8_inflate_1 := dk_seg dksJ8_inflate_0 24 rfl rfl
theorem dJ8_inflate_0 : decode cJ8_inflate 0 = .ok (.iload_n 3, 1) := dk_29 (dk_at dksJ8_inflate_0 0 rfl rfl)
theorem dJ8_inflate_1 : decode cJ8_inflate 1 = .ok (.iload 4, 2) := dk_21 4 (dk_at dksJ8_inflate_0 1 rfl rfl)
theorem dJ8_inflate_3 : decode cJ8_inflate 3 = .ok (.aload_n 2, 1) := dk_44 (dk_at dksJ8_inflate_0 3 rfl rfl)
theorem dJ8_inflate_4 : decode cJ8_inflate 4 = .ok (.invokestatic 173, 3) := dk_184 0 173 (dk_at dksJ8_inflate_0 4 rfl rfl)
theorem dJ8_inflate_7 : decode cJ8_inflate 7 = .ok (.iconst 0, 1) := dk_3 (dk_at dksJ8_inflate_0 7 rfl rfl)
theorem dJ8_inflate_8 : decode cJ8_inflate 8 = .ok (.istore 5, 2) := dk_54 5 (dk_at dksJ8_inflate_0 8 rfl rfl)
theorem dJ8_inflate_10 : decode cJ8_inflate 10 = .ok (.iload 5, 2) := dk_21 5 (dk_at dksJ8_inflate_0 10 rfl rfl)
theorem dJ8_inflate_12 : decode cJ8_inflate 12 = .ok (.iload 4, 2) := dk_21 4 (dk_at dksJ8_inflate_0 12 rfl rfl)
theorem dJ8_inflate_14 : decode cJ8_inflate 14 = .ok (.if_icmp .ge 27, 3) := dk_162 0 27 (dk_at dksJ8_inflate_0 14 rfl rfl)
theorem dJ8_inflate_17 : decode cJ8_inflate 17 = .ok (.aload_n 2, 1) := dk_44 (dk_at dksJ8_inflate_0 17 rfl rfl)
theorem dJ8_inflate_18 : decode cJ8_inflate 18 = .ok (.iload_n 3, 1) := dk_29 (dk_at dksJ8_inflate_0 18 rfl rfl)
theorem dJ8_inflate_19 : decode cJ8_inflate 19 = .ok (.iinc 3 1, 3) := dk_132 3 1 (dk_at dksJ8_inflate_0 19 rfl rfl)
theorem dJ8_inflate_22 : decode cJ8_inflate 22 = .ok (.aload_n 0, 1) := dk_42 (dk_at dksJ8_inflate_0 22 rfl rfl)
theorem dJ8_inflate_23 : decode cJ8_inflate 23 = .ok (.iload_n 1, 1) := dk_27 (dk_at dksJ8_inflate_0 23 rfl rfl)
theorem dJ8_inflate_24 : decode cJ8_inflate 24 = .ok (.iinc 1 1, 3) := dk_132 1 1 (dk_at dksJ8_inflate_1 0 rfl rfl)
theorem dJ8_inflate_27 : decode cJ8_inflate 27 = .ok (.baload, 1) := dk_51 (dk_at dksJ8_inflate_1 3 rfl rfl)
theorem dJ8_inflate_28 : decode cJ8_inflate 28 = .ok (.sipush 255, 3) := dk_17 0 255 (dk_at dksJ8_inflate_1 4 rfl rfl)
theorem dJ8_inflate_31 : decode cJ8_inflate 31 = .ok (.iand, 1) := dk_126 (dk_at dksJ8_inflate_1 7 rfl rfl)
theorem dJ8_inflate_32 : decode cJ8_inflate 32 = .ok (.invokestatic 111, 3) := dk_184 0 111 (dk_at dksJ8_inflate_1 8 rfl rfl)
theorem dJ8_inflate_35 : decode cJ8_inflate 35 = .ok (.iinc 5 1, 3) := dk_132 5 1 (dk_at dksJ8_inflate_1 11 rfl rfl)
theorem dJ8_inflate_38 : decode cJ8_inflate 38 = .ok (.goto (-28), 3) := dk_167 255 228 (dk_at dksJ8_inflate_1 14 rfl rfl)
theorem dJ8_inflate_41 : decode cJ8_inflate 41 = .ok (.return_, 1) := dk_177 (dk_at dksJ8_inflate_1 17 rfl rfl)
abbrev cJ8_checkBoundsOffCount : ByteArray := prog_37_method_94_code
def yJ8_checkBoundsOffCount : MethodName := ⟨RJ8, "checkBoundsOffCount", "(II[B)V"⟩
def dkwJ8_checkBoundsOffCount_0 : List UInt8 := [26, 27, 44, 184, 0, 48, 184, 1, 163, 87, 177]
abbrev dktJ8_checkBoundsOffCount_0 : List UInt8 := dkwJ8_checkBoundsOffCount_0 ++ []
theorem dksJ8_checkBoundsOffCount_0 : cJ8_checkBoundsOffCount.data.toList.drop 0 = dktJ8_checkBoundsOffCount_0 := by decide +kernel
theorem dJ8_checkBoundsOffCount_0 : decode cJ8_checkBoundsOffCount 0 = .ok (.iload_n 0, 1) := dk_26 (dk_at dksJ8_checkBoundsOffCount_0 0 rfl rfl)
theorem dJ8_checkBoundsOffCount_1 : decode cJ8_checkBoundsOffCount 1 = .ok (.iload_n 1, 1) := dk_27 (dk_at dksJ8_checkBoundsOffCount_0 1 rfl rfl)
theorem dJ8_checkBoundsOffCount_2 : decode cJ8_checkBoundsOffCount 2 = .ok (.aload_n 2, 1) := dk_44 (dk_at dksJ8_checkBoundsOffCount_0 2 rfl rfl)
theorem dJ8_checkBoundsOffCount_3 : decode cJ8_checkBoundsOffCount 3 = .ok (.invokestatic 48, 3) := dk_184 0 48 (dk_at dksJ8_checkBoundsOffCount_0 3 rfl rfl)
theorem dJ8_checkBoundsOffCount_6 : decode cJ8_checkBoundsOffCount 6 = .ok (.invokestatic 419, 3) := dk_184 1 163 (dk_at dksJ8_checkBoundsOffCount_0 6 rfl rfl)
theorem dJ8_checkBoundsOffCount_9 : decode cJ8_checkBoundsOffCount 9 = .ok (.pop, 1) := dk_87 (dk_at dksJ8_checkBoundsOffCount_0 9 rfl rfl)
theorem dJ8_checkBoundsOffCount_10 : decode cJ8_checkBoundsOffCount 10 = .ok (.return_, 1) := dk_177 (dk_at dksJ8_checkBoundsOffCount_0 10 rfl rfl)
abbrev cJ8_getChars : ByteArray := prog_37_method_77_code
def yJ8_getChars : MethodName := ⟨RJ8, "getChars", "(III[B)I"⟩
def dkwJ8_getChars_1 : List UInt8 := [159, 0, 11, 187, 0, 52, 89, 183, 0, 66, 191, 21, 4, 172]
abbrev dktJ8_getChars_1 : List UInt8 := dkwJ8_getChars_1 ++ []
def dkwJ8_getChars_0 : List UInt8 := [27, 28, 45, 184, 0, 96, 26, 28, 45, 184, 1, 137, 54, 4, 178, 0, 44, 154, 0, 17, 27, 21, 4]
abbrev dktJ8_getChars_0 : List UInt8 := dkwJ8_getChars_0 ++ dktJ8_getChars_1
theorem dksJ8_getChars_0 : cJ8_getChars.data.toList.drop 0 = dktJ8_getChars_0 := by decide +kernel
theorem dksJ8_getChars_1 : cJ8_getChars.data.toList.drop 23 = dktJ8_getChars_1 := dk_seg dksJ8_getChars_0 23 rfl rfl
theorem dJ8_getChars_0 : decode cJ8_getChars 0 = .ok (.iload_n 1, 1) := dk_27 (dk_at dksJ8_getChars_0 0 rfl rfl)
theorem dJ8_getChars_1 : decode cJ8_getChars 1 = .ok (.iload_n 2, 1) := dk_28 (dk_at dksJ8_getChars_0 1 rfl rfl)
theorem dJ8_getChars_2 : decode cJ8_getChars 2 = .ok (.aload_n 3, 1) := dk_45 (dk_at dksJ8_getChars_0 2 rfl rfl)
theorem dJ8_getChars_3 : decode cJ8_getChars 3 = .ok (.invokestatic 96, 3) := dk_184 0 96 (dk_at dksJ8_getChars_0 3 rfl rfl)
theorem dJ8_getChars_6 : decode cJ8_getChars 6 = .ok (.iload_n 0, 1) := dk_26 (dk_at dksJ8_getChars_0 6 rfl rfl)
theorem dJ8_getChars_7 : decode cJ8_getChars 7 = .ok (.iload_n 2, 1) := dk_28 (dk_at dksJ8_getChars_0 7 rfl rfl)
theorem dJ8_getChars_8 : decode cJ8_getChars 8 = .ok (.aload_n 3, 1) := dk_45 (dk_at dksJ8_getChars_0 8 rfl rfl)
theorem dJ8_getChars_9 : decode cJ8_getChars 9 = .ok (.invokestatic 393, 3) := dk_184 1 137 (dk_at dksJ8_getChars_0 9 rfl rfl)
theorem dJ8_getChars_12 : decode cJ8_getChars 12 = .ok (.istore 4, 2) := dk_54 4 (dk_at dksJ8_getChars_0 12 rfl rfl)
theorem dJ8_getChars_14 : decode cJ8_getChars 14 = .ok (.getstatic 44, 3) := dk_178 0 44 (dk_at dksJ8_getChars_0 14 rfl rfl)
theorem dJ8_getChars_17 : decode cJ8_getChars 17 = .ok (.ifCond .ne 17, 3) := dk_154 0 17 (dk_at dksJ8_getChars_0 17 rfl rfl)
theorem dJ8_getChars_20 : decode cJ8_getChars 20 = .ok (.iload_n 1, 1) := dk_27 (dk_at dksJ8_getChars_0 20 rfl rfl)
theorem dJ8_getChars_21 : decode cJ8_getChars 21 = .ok (.iload 4, 2) := dk_21 4 (dk_at dksJ8_getChars_0 21 rfl rfl)
theorem dJ8_getChars_23 : decode cJ8_getChars 23 = .ok (.if_icmp .eq 11, 3) := dk_159 0 11 (dk_at dksJ8_getChars_1 0 rfl rfl)
theorem dJ8_getChars_26 : decode cJ8_getChars 26 = .ok (.new 52, 3) := dk_187 0 52 (dk_at dksJ8_getChars_1 3 rfl rfl)
theorem dJ8_getChars_29 : decode cJ8_getChars 29 = .ok (.dup, 1) := dk_89 (dk_at dksJ8_getChars_1 6 rfl rfl)
theorem dJ8_getChars_30 : decode cJ8_getChars 30 = .ok (.invokespecial 66, 3) := dk_183 0 66 (dk_at dksJ8_getChars_1 7 rfl rfl)
theorem dJ8_getChars_33 : decode cJ8_getChars 33 = .ok (.athrow, 1) := dk_191 (dk_at dksJ8_getChars_1 10 rfl rfl)
theorem dJ8_getChars_34 : decode cJ8_getChars 34 = .ok (.iload 4, 2) := dk_21 4 (dk_at dksJ8_getChars_1 11 rfl rfl)
theorem dJ8_getChars_36 : decode cJ8_getChars 36 = .ok (.ireturn, 1) := dk_172 (dk_at dksJ8_getChars_1 13 rfl rfl)
abbrev cJ8_getChars_2 : ByteArray := prog_37_method_89_code
def yJ8_getChars_2 : MethodName := ⟨RJ8, "getChars", "(II[B)I"⟩
def dkwJ8_getChars_2_5 : List UInt8 := [132, 5, 255, 21, 5, 16, 45, 184, 0, 111, 21, 5, 172]
abbrev dktJ8_getChars_2_5 : List UInt8 := dkwJ8_getChars_2_5 ++ []
def dkwJ8_getChars_2_4 : List UInt8 := [162, 0, 18, 44, 132, 5, 255, 21, 5, 178, 1, 151, 26, 116, 51, 184, 0, 111, 21, 6, 153, 0, 14, 44]
abbrev dktJ8_getChars_2_4 : List UInt8 := dkwJ8_getChars_2_4 ++ dktJ8_getChars_2_5
def dkwJ8_getChars_2_3 : List UInt8 := [184, 0, 111, 167, 255, 205, 44, 132, 5, 255, 21, 5, 178, 1, 147, 26, 116, 51, 184, 0, 111, 26, 16, 247]
abbrev dktJ8_getChars_2_3 : List UInt8 := dkwJ8_getChars_2_3 ++ dktJ8_getChars_2_4
def dkwJ8_getChars_2_2 : List UInt8 := [21, 5, 178, 1, 147, 21, 4, 51, 184, 0, 111, 44, 132, 5, 255, 21, 5, 178, 1, 151, 21, 4, 51]
abbrev dktJ8_getChars_2_2 : List UInt8 := dkwJ8_getChars_2_2 ++ dktJ8_getChars_2_3
def dkwJ8_getChars_2_1 : List UInt8 := [16, 156, 163, 0, 51, 26, 16, 100, 108, 62, 29, 16, 100, 104, 26, 100, 54, 4, 29, 59, 44, 132, 5, 255]
abbrev dktJ8_getChars_2_1 : List UInt8 := dkwJ8_getChars_2_1 ++ dktJ8_getChars_2_2
def dkwJ8_getChars_2_0 : List UInt8 := [27, 54, 5, 26, 156, 0, 7, 4, 167, 0, 4, 3, 54, 6, 21, 6, 154, 0, 6, 26, 116, 59, 26]
abbrev dktJ8_getChars_2_0 : List UInt8 := dkwJ8_getChars_2_0 ++ dktJ8_getChars_2_1
theorem dksJ8_getChars_2_0 : cJ8_getChars_2.data.toList.drop 0 = dktJ8_getChars_2_0 := by decide +kernel
theorem dksJ8_getChars_2_1 : cJ8_getChars_2.data.toList.drop 23 = dktJ8_getChars_2_1 := dk_seg dksJ8_getChars_2_0 23 rfl rfl
theorem dksJ8_getChars_2_2 : cJ8_getChars_2.data.toList.drop 47 = dktJ8_getChars_2_2 := dk_seg dksJ8_getChars_2_1 24 rfl rfl
theorem dksJ8_getChars_2_3 : cJ8_getChars_2.data.toList.drop 70 = dktJ8_getChars_2_3 := dk_seg dksJ8_getChars_2_2 23 rfl rfl
theorem dksJ8_getChars_2_4 : cJ8_getChars_2.data.toList.drop 94 = dktJ8_getChars_2_4 := dk_seg dksJ8_getChars_2_3 24 rfl rfl
theorem dksJ8_getChars_2_5 : cJ8_getChars_2.data.toList.drop 118 = dktJ8_getChars_2_5 := dk_seg dksJ8_getChars_2_4 24 rfl rfl
theorem dJ8_getChars_2_0 : decode cJ8_getChars_2 0 = .ok (.iload_n 1, 1) := dk_27 (dk_at dksJ8_getChars_2_0 0 rfl rfl)
theorem dJ8_getChars_2_1 : decode cJ8_getChars_2 1 = .ok (.istore 5, 2) := dk_54 5 (dk_at dksJ8_getChars_2_0 1 rfl rfl)
theorem dJ8_getChars_2_3 : decode cJ8_getChars_2 3 = .ok (.iload_n 0, 1) := dk_26 (dk_at dksJ8_getChars_2_0 3 rfl rfl)
theorem dJ8_getChars_2_4 : decode cJ8_getChars_2 4 = .ok (.ifCond .ge 7, 3) := dk_156 0 7 (dk_at dksJ8_getChars_2_0 4 rfl rfl)
theorem dJ8_getChars_2_7 : decode cJ8_getChars_2 7 = .ok (.iconst 1, 1) := dk_4 (dk_at dksJ8_getChars_2_0 7 rfl rfl)
theorem dJ8_getChars_2_8 : decode cJ8_getChars_2 8 = .ok (.goto 4, 3) := dk_167 0 4 (dk_at dksJ8_getChars_2_0 8 rfl rfl)
theorem dJ8_getChars_2_11 : decode cJ8_getChars_2 11 = .ok (.iconst 0, 1) := dk_3 (dk_at dksJ8_getChars_2_0 11 rfl rfl)
theorem dJ8_getChars_2_12 : decode cJ8_getChars_2 12 = .ok (.istore 6, 2) := dk_54 6 (dk_at dksJ8_getChars_2_0 12 rfl rfl)
theorem dJ8_getChars_2_14 : decode cJ8_getChars_2 14 = .ok (.iload 6, 2) := dk_21 6 (dk_at dksJ8_getChars_2_0 14 rfl rfl)
theorem dJ8_getChars_2_16 : decode cJ8_getChars_2 16 = .ok (.ifCond .ne 6, 3) := dk_154 0 6 (dk_at dksJ8_getChars_2_0 16 rfl rfl)
theorem dJ8_getChars_2_19 : decode cJ8_getChars_2 19 = .ok (.iload_n 0, 1) := dk_26 (dk_at dksJ8_getChars_2_0 19 rfl rfl)
theorem dJ8_getChars_2_20 : decode cJ8_getChars_2 20 = .ok (.ineg, 1) := dk_116 (dk_at dksJ8_getChars_2_0 20 rfl rfl)
theorem dJ8_getChars_2_21 : decode cJ8_getChars_2 21 = .ok (.istore_n 0, 1) := dk_59 (dk_at dksJ8_getChars_2_0 21 rfl rfl)
theorem dJ8_getChars_2_22 : decode cJ8_getChars_2 22 = .ok (.iload_n 0, 1) := dk_26 (dk_at dksJ8_getChars_2_0 22 rfl rfl)
theorem dJ8_getChars_2_23 : decode cJ8_getChars_2 23 = .ok (.bipush (-100), 2) := dk_16 156 (dk_at dksJ8_getChars_2_1 0 rfl rfl)
theorem dJ8_getChars_2_25 : decode cJ8_getChars_2 25 = .ok (.if_icmp .gt 51, 3) := dk_163 0 51 (dk_at dksJ8_getChars_2_1 2 rfl rfl)
theorem dJ8_getChars_2_28 : decode cJ8_getChars_2 28 = .ok (.iload_n 0, 1) := dk_26 (dk_at dksJ8_getChars_2_1 5 rfl rfl)
theorem dJ8_getChars_2_29 : decode cJ8_getChars_2 29 = .ok (.bipush 100, 2) := dk_16 100 (dk_at dksJ8_getChars_2_1 6 rfl rfl)
theorem dJ8_getChars_2_31 : decode cJ8_getChars_2 31 = .ok (.idiv, 1) := dk_108 (dk_at dksJ8_getChars_2_1 8 rfl rfl)
theorem dJ8_getChars_2_32 : decode cJ8_getChars_2 32 = .ok (.istore_n 3, 1) := dk_62 (dk_at dksJ8_getChars_2_1 9 rfl rfl)
theorem dJ8_getChars_2_33 : decode cJ8_getChars_2 33 = .ok (.iload_n 3, 1) := dk_29 (dk_at dksJ8_getChars_2_1 10 rfl rfl)
theorem dJ8_getChars_2_34 : decode cJ8_getChars_2 34 = .ok (.bipush 100, 2) := dk_16 100 (dk_at dksJ8_getChars_2_1 11 rfl rfl)
theorem dJ8_getChars_2_36 : decode cJ8_getChars_2 36 = .ok (.imul, 1) := dk_104 (dk_at dksJ8_getChars_2_1 13 rfl rfl)
theorem dJ8_getChars_2_37 : decode cJ8_getChars_2 37 = .ok (.iload_n 0, 1) := dk_26 (dk_at dksJ8_getChars_2_1 14 rfl rfl)
theorem dJ8_getChars_2_38 : decode cJ8_getChars_2 38 = .ok (.isub, 1) := dk_100 (dk_at dksJ8_getChars_2_1 15 rfl rfl)
theorem dJ8_getChars_2_39 : decode cJ8_getChars_2 39 = .ok (.istore 4, 2) := dk_54 4 (dk_at dksJ8_getChars_2_1 16 rfl rfl)
theorem dJ8_getChars_2_41 : decode cJ8_getChars_2 41 = .ok (.iload_n 3, 1) := dk_29 (dk_at dksJ8_getChars_2_1 18 rfl rfl)
theorem dJ8_getChars_2_42 : decode cJ8_getChars_2 42 = .ok (.istore_n 0, 1) := dk_59 (dk_at dksJ8_getChars_2_1 19 rfl rfl)
theorem dJ8_getChars_2_43 : decode cJ8_getChars_2 43 = .ok (.aload_n 2, 1) := dk_44 (dk_at dksJ8_getChars_2_1 20 rfl rfl)
theorem dJ8_getChars_2_44 : decode cJ8_getChars_2 44 = .ok (.iinc 5 (-1), 3) := dk_132 5 255 (dk_at dksJ8_getChars_2_1 21 rfl rfl)
theorem dJ8_getChars_2_47 : decode cJ8_getChars_2 47 = .ok (.iload 5, 2) := dk_21 5 (dk_at dksJ8_getChars_2_2 0 rfl rfl)
theorem dJ8_getChars_2_49 : decode cJ8_getChars_2 49 = .ok (.getstatic 403, 3) := dk_178 1 147 (dk_at dksJ8_getChars_2_2 2 rfl rfl)
theorem dJ8_getChars_2_52 : decode cJ8_getChars_2 52 = .ok (.iload 4, 2) := dk_21 4 (dk_at dksJ8_getChars_2_2 5 rfl rfl)
theorem dJ8_getChars_2_54 : decode cJ8_getChars_2 54 = .ok (.baload, 1) := dk_51 (dk_at dksJ8_getChars_2_2 7 rfl rfl)
theorem dJ8_getChars_2_55 : decode cJ8_getChars_2 55 = .ok (.invokestatic 111, 3) := dk_184 0 111 (dk_at dksJ8_getChars_2_2 8 rfl rfl)
theorem dJ8_getChars_2_58 : decode cJ8_getChars_2 58 = .ok (.aload_n 2, 1) := dk_44 (dk_at dksJ8_getChars_2_2 11 rfl rfl)
theorem dJ8_getChars_2_59 : decode cJ8_getChars_2 59 = .ok (.iinc 5 (-1), 3) := dk_132 5 255 (dk_at dksJ8_getChars_2_2 12 rfl rfl)
theorem dJ8_getChars_2_62 : decode cJ8_getChars_2 62 = .ok (.iload 5, 2) := dk_21 5 (dk_at dksJ8_getChars_2_2 15 rfl rfl)
theorem dJ8_getChars_2_64 : decode cJ8_getChars_2 64 = .ok (.getstatic 407, 3) := dk_178 1 151 (dk_at dksJ8_getChars_2_2 17 rfl rfl)
theorem dJ8_getChars_2_67 : decode cJ8_getChars_2 67 = .ok (.iload 4, 2) := dk_21 4 (dk_at dksJ8_getChars_2_2 20 rfl rfl)
theorem dJ8_getChars_2_69 : decode cJ8_getChars_2 69 = .ok (.baload, 1) := dk_51 (dk_at dksJ8_getChars_2_2 22 rfl rfl)
theorem dJ8_getChars_2_70 : decode cJ8_getChars_2 70 = .ok (.invokestatic 111, 3) := dk_184 0 111 (dk_at dksJ8_getChars_2_3 0 rfl rfl)
theorem dJ8_getChars_2_73 : decode cJ8_getChars_2 73 = .ok (.goto (-51), 3) := dk_167 255 205 (dk_at dksJ8_getChars_2_3 3 rfl rfl)
theorem dJ8_getChars_2_76 : decode cJ8_getChars_2 76 = .ok (.aload_n 2, 1) := dk_44 (dk_at dksJ8_getChars_2_3 6 rfl rfl)
theorem dJ8_getChars_2_77 : decode cJ8_getChars_2 77 = .ok (.iinc 5 (-1), 3) := dk_132 5 255 (dk_at dksJ8_getChars_2_3 7 rfl rfl)
theorem dJ8_getChars_2_80 : decode cJ8_getChars_2 80 = .ok (.iload 5, 2) := dk_21 5 (dk_at dksJ8_getChars_2_3 10 rfl rfl)
theorem dJ8_getChars_2_82 : decode cJ8_getChars_2 82 = .ok (.getstatic 403, 3) := dk_178 1 147 (dk_at dksJ8_getChars_2_3 12 rfl rfl)
theorem dJ8_getChars_2_85 : decode cJ8_getChars_2 85 = .ok (.iload_n 0, 1) := dk_26 (dk_at dksJ8_getChars_2_3 15 rfl rfl)
theorem dJ8_getChars_2_86 : decode cJ8_getChars_2 86 = .ok (.ineg, 1) := dk_116 (dk_at dksJ8_getChars_2_3 16 rfl rfl)
theorem dJ8_getChars_2_87 : decode cJ8_getChars_2 87 = .ok (.baload, 1) := dk_51 (dk_at dksJ8_getChars_2_3 17 rfl rfl)
theorem dJ8_getChars_2_88 : decode cJ8_getChars_2 88 = .ok (.invokestatic 111, 3) := dk_184 0 111 (dk_at dksJ8_getChars_2_3 18 rfl rfl)
theorem dJ8_getChars_2_91 : decode cJ8_getChars_2 91 = .ok (.iload_n 0, 1) := dk_26 (dk_at dksJ8_getChars_2_3 21 rfl rfl)
theorem dJ8_getChars_2_92 : decode cJ8_getChars_2 92 = .ok (.bipush (-9), 2) := dk_16 247 (dk_at dksJ8_getChars_2_3 22 rfl rfl)
theorem dJ8_getChars_2_94 : decode cJ8_getChars_2 94 = .ok (.if_icmp .ge 18, 3) := dk_162 0 18 (dk_at dksJ8_getChars_2_4 0 rfl rfl)
theorem dJ8_getChars_2_97 : decode cJ8_getChars_2 97 = .ok (.aload_n 2, 1) := dk_44 (dk_at dksJ8_getChars_2_4 3 rfl rfl)
theorem dJ8_getChars_2_98 : decode cJ8_getChars_2 98 = .ok (.iinc 5 (-1), 3) := dk_132 5 255 (dk_at dksJ8_getChars_2_4 4 rfl rfl)
theorem dJ8_getChars_2_101 : decode cJ8_getChars_2 101 = .ok (.iload 5, 2) := dk_21 5 (dk_at dksJ8_getChars_2_4 7 rfl rfl)
theorem dJ8_getChars_2_103 : decode cJ8_getChars_2 103 = .ok (.getstatic 407, 3) := dk_178 1 151 (dk_at dksJ8_getChars_2_4 9 rfl rfl)
theorem dJ8_getChars_2_106 : decode cJ8_getChars_2 106 = .ok (.iload_n 0, 1) := dk_26 (dk_at dksJ8_getChars_2_4 12 rfl rfl)
theorem dJ8_getChars_2_107 : decode cJ8_getChars_2 107 = .ok (.ineg, 1) := dk_116 (dk_at dksJ8_getChars_2_4 13 rfl rfl)
theorem dJ8_getChars_2_108 : decode cJ8_getChars_2 108 = .ok (.baload, 1) := dk_51 (dk_at dksJ8_getChars_2_4 14 rfl rfl)
theorem dJ8_getChars_2_109 : decode cJ8_getChars_2 109 = .ok (.invokestatic 111, 3) := dk_184 0 111 (dk_at dksJ8_getChars_2_4 15 rfl rfl)
theorem dJ8_getChars_2_112 : decode cJ8_getChars_2 112 = .ok (.iload 6, 2) := dk_21 6 (dk_at dksJ8_getChars_2_4 18 rfl rfl)
theorem dJ8_getChars_2_114 : decode cJ8_getChars_2 114 = .ok (.ifCond .eq 14, 3) := dk_153 0 14 (dk_at dksJ8_getChars_2_4 20 rfl rfl)
theorem dJ8_getChars_2_117 : decode cJ8_getChars_2 117 = .ok (.aload_n 2, 1) := dk_44 (dk_at dksJ8_getChars_2_4 23 rfl rfl)
theorem dJ8_getChars_2_118 : decode cJ8_getChars_2 118 = .ok (.iinc 5 (-1), 3) := dk_132 5 255 (dk_at dksJ8_getChars_2_5 0 rfl rfl)
theorem dJ8_getChars_2_121 : decode cJ8_getChars_2 121 = .ok (.iload 5, 2) := dk_21 5 (dk_at dksJ8_getChars_2_5 3 rfl rfl)
theorem dJ8_getChars_2_123 : decode cJ8_getChars_2 123 = .ok (.bipush 45, 2) := dk_16 45 (dk_at dksJ8_getChars_2_5 5 rfl rfl)
theorem dJ8_getChars_2_125 : decode cJ8_getChars_2 125 = .ok (.invokestatic 111, 3) := dk_184 0 111 (dk_at dksJ8_getChars_2_5 7 rfl rfl)
theorem dJ8_getChars_2_128 : decode cJ8_getChars_2 128 = .ok (.iload 5, 2) := dk_21 5 (dk_at dksJ8_getChars_2_5 10 rfl rfl)
theorem dJ8_getChars_2_130 : decode cJ8_getChars_2 130 = .ok (.ireturn, 1) := dk_172 (dk_at dksJ8_getChars_2_5 12 rfl rfl)
abbrev cJ8_compress : ByteArray := prog_37_method_17_code
def yJ8_compress : MethodName := ⟨RJ8, "compress", "([BII)[B"⟩
def dkwJ8_compress_2 : List UInt8 := [25, 5, 3, 45, 3, 28, 184, 0, 123, 28, 159, 0, 6, 25, 5, 176, 45, 176]
abbrev dktJ8_compress_2 : List UInt8 := dkwJ8_compress_2 ++ []
def dkwJ8_compress_1 : List UInt8 := [27, 28, 96, 184, 0, 11, 184, 0, 126, 58, 5, 25, 5, 21, 4, 184, 0, 71, 17, 0, 255, 163, 0, 16]
abbrev dktJ8_compress_1 : List UInt8 := dkwJ8_compress_1 ++ dktJ8_compress_2
def dkwJ8_compress_0 : List UInt8 := [28, 188, 8, 78, 42, 27, 45, 3, 28, 184, 0, 123, 54, 4, 21, 4, 28, 159, 0, 47, 42, 27, 4, 120]
abbrev dktJ8_compress_0 : List UInt8 := dkwJ8_compress_0 ++ dktJ8_compress_1
theorem dksJ8_compress_0 : cJ8_compress.data.toList.drop 0 = dktJ8_compress_0 := by decide +kernel
theorem dksJ8_compress_1 : cJ8_compress.data.toList.drop 24 = dktJ8_compress_1 := dk_seg dksJ8_compress_0 24 rfl rfl
theorem dksJ8_compress_2 : cJ8_compress.data.toList.drop 48 = dktJ8_compress_2 := dk_seg dksJ8_compress_1 24 rfl rfl
theorem dJ8_compress_0 : decode cJ8_compress 0 = .ok (.iload_n 2, 1) := dk_28 (dk_at dksJ8_compress_0 0 rfl rfl)
theorem dJ8_compress_1 : decode cJ8_compress 1 = .ok (.newarray .byte, 2) := dk_188_8 (dk_at dksJ8_compress_0 1 rfl rfl)
theorem dJ8_compress_3 : decode cJ8_compress 3 = .ok (.astore_n 3, 1) := dk_78 (dk_at dksJ8_compress_0 3 rfl rfl)
theorem dJ8_compress_4 : decode cJ8_compress 4 = .ok (.aload_n 0, 1) := dk_42 (dk_at dksJ8_compress_0 4 rfl rfl)
theorem dJ8_compress_5 : decode cJ8_compress 5 = .ok (.iload_n 1, 1) := dk_27 (dk_at dksJ8_compress_0 5 rfl rfl)
theorem dJ8_compress_6 : decode cJ8_compress 6 = .ok (.aload_n 3, 1) := dk_45 (dk_at dksJ8_compress_0 6 rfl rfl)
theorem dJ8_compress_7 : decode cJ8_compress 7 = .ok (.iconst 0, 1) := dk_3 (dk_at dksJ8_compress_0 7 rfl rfl)
theorem dJ8_compress_8 : decode cJ8_compress 8 = .ok (.iload_n 2, 1) := dk_28 (dk_at dksJ8_compress_0 8 rfl rfl)
theorem dJ8_compress_9 : decode cJ8_compress 9 = .ok (.invokestatic 123, 3) := dk_184 0 123 (dk_at dksJ8_compress_0 9 rfl rfl)
theorem dJ8_compress_12 : decode cJ8_compress 12 = .ok (.istore 4, 2) := dk_54 4 (dk_at dksJ8_compress_0 12 rfl rfl)
theorem dJ8_compress_14 : decode cJ8_compress 14 = .ok (.iload 4, 2) := dk_21 4 (dk_at dksJ8_compress_0 14 rfl rfl)
theorem dJ8_compress_16 : decode cJ8_compress 16 = .ok (.iload_n 2, 1) := dk_28 (dk_at dksJ8_compress_0 16 rfl rfl)
theorem dJ8_compress_17 : decode cJ8_compress 17 = .ok (.if_icmp .eq 47, 3) := dk_159 0 47 (dk_at dksJ8_compress_0 17 rfl rfl)
theorem dJ8_compress_20 : decode cJ8_compress 20 = .ok (.aload_n 0, 1) := dk_42 (dk_at dksJ8_compress_0 20 rfl rfl)
theorem dJ8_compress_21 : decode cJ8_compress 21 = .ok (.iload_n 1, 1) := dk_27 (dk_at dksJ8_compress_0 21 rfl rfl)
theorem dJ8_compress_22 : decode cJ8_compress 22 = .ok (.iconst 1, 1) := dk_4 (dk_at dksJ8_compress_0 22 rfl rfl)
theorem dJ8_compress_23 : decode cJ8_compress 23 = .ok (.ishl, 1) := dk_120 (dk_at dksJ8_compress_0 23 rfl rfl)
theorem dJ8_compress_24 : decode cJ8_compress 24 = .ok (.iload_n 1, 1) := dk_27 (dk_at dksJ8_compress_1 0 rfl rfl)
theorem dJ8_compress_25 : decode cJ8_compress 25 = .ok (.iload_n 2, 1) := dk_28 (dk_at dksJ8_compress_1 1 rfl rfl)
theorem dJ8_compress_26 : decode cJ8_compress 26 = .ok (.iadd, 1) := dk_96 (dk_at dksJ8_compress_1 2 rfl rfl)
theorem dJ8_compress_27 : decode cJ8_compress 27 = .ok (.invokestatic 11, 3) := dk_184 0 11 (dk_at dksJ8_compress_1 3 rfl rfl)
theorem dJ8_compress_30 : decode cJ8_compress 30 = .ok (.invokestatic 126, 3) := dk_184 0 126 (dk_at dksJ8_compress_1 6 rfl rfl)
theorem dJ8_compress_33 : decode cJ8_compress 33 = .ok (.astore 5, 2) := dk_58 5 (dk_at dksJ8_compress_1 9 rfl rfl)
theorem dJ8_compress_35 : decode cJ8_compress 35 = .ok (.aload 5, 2) := dk_25 5 (dk_at dksJ8_compress_1 11 rfl rfl)
theorem dJ8_compress_37 : decode cJ8_compress 37 = .ok (.iload 4, 2) := dk_21 4 (dk_at dksJ8_compress_1 13 rfl rfl)
theorem dJ8_compress_39 : decode cJ8_compress 39 = .ok (.invokestatic 71, 3) := dk_184 0 71 (dk_at dksJ8_compress_1 15 rfl rfl)
theorem dJ8_compress_42 : decode cJ8_compress 42 = .ok (.sipush 255, 3) := dk_17 0 255 (dk_at dksJ8_compress_1 18 rfl rfl)
theorem dJ8_compress_45 : decode cJ8_compress 45 = .ok (.if_icmp .gt 16, 3) := dk_163 0 16 (dk_at dksJ8_compress_1 21 rfl rfl)
theorem dJ8_compress_48 : decode cJ8_compress 48 = .ok (.aload 5, 2) := dk_25 5 (dk_at dksJ8_compress_2 0 rfl rfl)
theorem dJ8_compress_50 : decode cJ8_compress 50 = .ok (.iconst 0, 1) := dk_3 (dk_at dksJ8_compress_2 2 rfl rfl)
theorem dJ8_compress_51 : decode cJ8_compress 51 = .ok (.aload_n 3, 1) := dk_45 (dk_at dksJ8_compress_2 3 rfl rfl)
theorem dJ8_compress_52 : decode cJ8_compress 52 = .ok (.iconst 0, 1) := dk_3 (dk_at dksJ8_compress_2 4 rfl rfl)
theorem dJ8_compress_53 : decode cJ8_compress 53 = .ok (.iload_n 2, 1) := dk_28 (dk_at dksJ8_compress_2 5 rfl rfl)
theorem dJ8_compress_54 : decode cJ8_compress 54 = .ok (.invokestatic 123, 3) := dk_184 0 123 (dk_at dksJ8_compress_2 6 rfl rfl)
theorem dJ8_compress_57 : decode cJ8_compress 57 = .ok (.iload_n 2, 1) := dk_28 (dk_at dksJ8_compress_2 9 rfl rfl)
theorem dJ8_compress_58 : decode cJ8_compress 58 = .ok (.if_icmp .eq 6, 3) := dk_159 0 6 (dk_at dksJ8_compress_2 10 rfl rfl)
theorem dJ8_compress_61 : decode cJ8_compress 61 = .ok (.aload 5, 2) := dk_25 5 (dk_at dksJ8_compress_2 13 rfl rfl)
theorem dJ8_compress_63 : decode cJ8_compress 63 = .ok (.areturn, 1) := dk_176 (dk_at dksJ8_compress_2 15 rfl rfl)
theorem dJ8_compress_64 : decode cJ8_compress 64 = .ok (.aload_n 3, 1) := dk_45 (dk_at dksJ8_compress_2 16 rfl rfl)
theorem dJ8_compress_65 : decode cJ8_compress 65 = .ok (.areturn, 1) := dk_176 (dk_at dksJ8_compress_2 17 rfl rfl)
abbrev cJ8_compress_2 : ByteArray := prog_37_method_22_code
def yJ8_compress_2 : MethodName := ⟨RJ8, "compress", "([BI[BII)I"⟩
def dkwJ8_compress_2_2 : List UInt8 := [132, 5, 1, 167, 255, 216, 21, 4, 172]
abbrev dktJ8_compress_2_2 : List UInt8 := dkwJ8_compress_2_2 ++ []
def dkwJ8_compress_2_1 : List UInt8 := [21, 6, 17, 0, 255, 164, 0, 6, 21, 5, 172, 44, 29, 21, 6, 145, 84, 132, 1, 1, 132, 3, 1]
abbrev dktJ8_compress_2_1 : List UInt8 := dkwJ8_compress_2_1 ++ dktJ8_compress_2_2
def dkwJ8_compress_2_0 : List UInt8 := [27, 21, 4, 42, 184, 0, 173, 3, 54, 5, 21, 5, 21, 4, 162, 0, 39, 42, 27, 184, 0, 71, 54, 6]
abbrev dktJ8_compress_2_0 : List UInt8 := dkwJ8_compress_2_0 ++ dktJ8_compress_2_1
theorem dksJ8_compress_2_0 : cJ8_compress_2.data.toList.drop 0 = dktJ8_compress_2_0 := by decide +kernel
theorem dksJ8_compress_2_1 : cJ8_compress_2.data.toList.drop 24 = dktJ8_compress_2_1 := dk_seg dksJ8_compress_2_0 24 rfl rfl
theorem dksJ8_compress_2_2 : cJ8_compress_2.data.toList.drop 47 = dktJ8_compress_2_2 := dk_seg dksJ8_compress_2_1 23 rfl rfl
theorem dJ8_compress_2_0 : decode cJ8_compress_2 0 = .ok (.iload_n 1, 1) := dk_27 (dk_at dksJ8_compress_2_0 0 rfl rfl)
theorem dJ8_compress_2_1 : decode cJ8_compress_2 1 = .ok (.iload 4, 2) := dk_21 4 (dk_at dksJ8_compress_2_0 1 rfl rfl)
theorem dJ8_compress_2_3 : decode cJ8_compress_2 3 = .ok (.aload_n 0, 1) := dk_42 (dk_at dksJ8_compress_2_0 3 rfl rfl)
theorem dJ8_compress_2_4 : decode cJ8_compress_2 4 = .ok (.invokestatic 173, 3) := dk_184 0 173 (dk_at dksJ8_compress_2_0 4 rfl rfl)
theorem dJ8_compress_2_7 : decode cJ8_compress_2 7 = .ok (.iconst 0, 1) := dk_3 (dk_at dksJ8_compress_2_0 7 rfl rfl)
theorem dJ8_compress_2_8 : decode cJ8_compress_2 8 = .ok (.istore 5, 2) := dk_54 5 (dk_at dksJ8_compress_2_0 8 rfl rfl)
theorem dJ8_compress_2_10 : decode cJ8_compress_2 10 = .ok (.iload 5, 2) := dk_21 5 (dk_at dksJ8_compress_2_0 10 rfl rfl)
theorem dJ8_compress_2_12 : decode cJ8_compress_2 12 = .ok (.iload 4, 2) := dk_21 4 (dk_at dksJ8_compress_2_0 12 rfl rfl)
theorem dJ8_compress_2_14 : decode cJ8_compress_2 14 = .ok (.if_icmp .ge 39, 3) := dk_162 0 39 (dk_at dksJ8_compress_2_0 14 rfl rfl)
theorem dJ8_compress_2_17 : decode cJ8_compress_2 17 = .ok (.aload_n 0, 1) := dk_42 (dk_at dksJ8_compress_2_0 17 rfl rfl)
theorem dJ8_compress_2_18 : decode cJ8_compress_2 18 = .ok (.iload_n 1, 1) := dk_27 (dk_at dksJ8_compress_2_0 18 rfl rfl)
theorem dJ8_compress_2_19 : decode cJ8_compress_2 19 = .ok (.invokestatic 71, 3) := dk_184 0 71 (dk_at dksJ8_compress_2_0 19 rfl rfl)
theorem dJ8_compress_2_22 : decode cJ8_compress_2 22 = .ok (.istore 6, 2) := dk_54 6 (dk_at dksJ8_compress_2_0 22 rfl rfl)
theorem dJ8_compress_2_24 : decode cJ8_compress_2 24 = .ok (.iload 6, 2) := dk_21 6 (dk_at dksJ8_compress_2_1 0 rfl rfl)
theorem dJ8_compress_2_26 : decode cJ8_compress_2 26 = .ok (.sipush 255, 3) := dk_17 0 255 (dk_at dksJ8_compress_2_1 2 rfl rfl)
theorem dJ8_compress_2_29 : decode cJ8_compress_2 29 = .ok (.if_icmp .le 6, 3) := dk_164 0 6 (dk_at dksJ8_compress_2_1 5 rfl rfl)
theorem dJ8_compress_2_32 : decode cJ8_compress_2 32 = .ok (.iload 5, 2) := dk_21 5 (dk_at dksJ8_compress_2_1 8 rfl rfl)
theorem dJ8_compress_2_34 : decode cJ8_compress_2 34 = .ok (.ireturn, 1) := dk_172 (dk_at dksJ8_compress_2_1 10 rfl rfl)
theorem dJ8_compress_2_35 : decode cJ8_compress_2 35 = .ok (.aload_n 2, 1) := dk_44 (dk_at dksJ8_compress_2_1 11 rfl rfl)
theorem dJ8_compress_2_36 : decode cJ8_compress_2 36 = .ok (.iload_n 3, 1) := dk_29 (dk_at dksJ8_compress_2_1 12 rfl rfl)
theorem dJ8_compress_2_37 : decode cJ8_compress_2 37 = .ok (.iload 6, 2) := dk_21 6 (dk_at dksJ8_compress_2_1 13 rfl rfl)
theorem dJ8_compress_2_39 : decode cJ8_compress_2 39 = .ok (.i2b, 1) := dk_145 (dk_at dksJ8_compress_2_1 15 rfl rfl)
theorem dJ8_compress_2_40 : decode cJ8_compress_2 40 = .ok (.bastore, 1) := dk_84 (dk_at dksJ8_compress_2_1 16 rfl rfl)
theorem dJ8_compress_2_41 : decode cJ8_compress_2 41 = .ok (.iinc 1 1, 3) := dk_132 1 1 (dk_at dksJ8_compress_2_1 17 rfl rfl)
theorem dJ8_compress_2_44 : decode cJ8_compress_2 44 = .ok (.iinc 3 1, 3) := dk_132 3 1 (dk_at dksJ8_compress_2_1 20 rfl rfl)
theorem dJ8_compress_2_47 : decode cJ8_compress_2 47 = .ok (.iinc 5 1, 3) := dk_132 5 1 (dk_at dksJ8_compress_2_2 0 rfl rfl)
theorem dJ8_compress_2_50 : decode cJ8_compress_2 50 = .ok (.goto (-40), 3) := dk_167 255 216 (dk_at dksJ8_compress_2_2 3 rfl rfl)
theorem dJ8_compress_2_53 : decode cJ8_compress_2 53 = .ok (.iload 4, 2) := dk_21 4 (dk_at dksJ8_compress_2_2 6 rfl rfl)
theorem dJ8_compress_2_55 : decode cJ8_compress_2 55 = .ok (.ireturn, 1) := dk_172 (dk_at dksJ8_compress_2_2 8 rfl rfl)
abbrev cJ8_coderFromArrayLen : ByteArray := prog_37_method_15_code
def yJ8_coderFromArrayLen : MethodName := ⟨RJ8, "coderFromArrayLen", "([BI)B"⟩
def dkwJ8_coderFromArrayLen_0 : List UInt8 := [27, 42, 190, 100, 16, 31, 124, 145, 172]
abbrev dktJ8_coderFromArrayLen_0 : List UInt8 := dkwJ8_coderFromArrayLen_0 ++ []
theorem dksJ8_coderFromArrayLen_0 : cJ8_coderFromArrayLen.data.toList.drop 0 = dktJ8_coderFromArrayLen_0 := by decide +kernel
theorem dJ8_coderFromArrayLen_0 : decode cJ8_coderFromArrayLen 0 = .ok (.iload_n 1, 1) := dk_27 (dk_at dksJ8_coderFromArrayLen_0 0 rfl rfl)
theorem dJ8_coderFromArrayLen_1 : decode cJ8_coderFromArrayLen 1 = .ok (.aload_n 0, 1) := dk_42 (dk_at dksJ8_coderFromArrayLen_0 1 rfl rfl)
theorem dJ8_coderFromArrayLen_2 : decode cJ8_coderFromArrayLen 2 = .ok (.arraylength, 1) := dk_190 (dk_at dksJ8_coderFromArrayLen_0 2 rfl rfl)
theorem dJ8_coderFromArrayLen_3 : decode cJ8_coderFromArrayLen 3 = .ok (.isub, 1) := dk_100 (dk_at dksJ8_coderFromArrayLen_0 3 rfl rfl)
theorem dJ8_coderFromArrayLen_4 : decode cJ8_coderFromArrayLen 4 = .ok (.bipush 31, 2) := dk_16 31 (dk_at dksJ8_coderFromArrayLen_0 4 rfl rfl)
theorem dJ8_coderFromArrayLen_6 : decode cJ8_coderFromArrayLen 6 = .ok (.iushr, 1) := dk_124 (dk_at dksJ8_coderFromArrayLen_0 6 rfl rfl)
theorem dJ8_coderFromArrayLen_7 : decode cJ8_coderFromArrayLen 7 = .ok (.i2b, 1) := dk_145 (dk_at dksJ8_coderFromArrayLen_0 7 rfl rfl)
theorem dJ8_coderFromArrayLen_8 : decode cJ8_coderFromArrayLen 8 = .ok (.ireturn, 1) := dk_172 (dk_at dksJ8_coderFromArrayLen_0 8 rfl rfl)
abbrev cJ8_fillNull : ByteArray := prog_37_method_70_code
def yJ8_fillNull : MethodName := ⟨RJ8, "fillNull", "([BII)V"⟩
def dkwJ8_fillNull_0 : List UInt8 := [42, 27, 4, 120, 28, 4, 120, 3, 184, 1, 124, 177]
abbrev dktJ8_fillNull_0 : List UInt8 := dkwJ8_fillNull_0 ++ []
theorem dksJ8_fillNull_0 : cJ8_fillNull.data.toList.drop 0 = dktJ8_fillNull_0 := by decide +kernel
theorem dJ8_fillNull_0 : decode cJ8_fillNull 0 = .ok (.aload_n 0, 1) := dk_42 (dk_at dksJ8_fillNull_0 0 rfl rfl)
theorem dJ8_fillNull_1 : decode cJ8_fillNull 1 = .ok (.iload_n 1, 1) := dk_27 (dk_at dksJ8_fillNull_0 1 rfl rfl)
theorem dJ8_fillNull_2 : decode cJ8_fillNull 2 = .ok (.iconst 1, 1) := dk_4 (dk_at dksJ8_fillNull_0 2 rfl rfl)
theorem dJ8_fillNull_3 : decode cJ8_fillNull 3 = .ok (.ishl, 1) := dk_120 (dk_at dksJ8_fillNull_0 3 rfl rfl)
theorem dJ8_fillNull_4 : decode cJ8_fillNull 4 = .ok (.iload_n 2, 1) := dk_28 (dk_at dksJ8_fillNull_0 4 rfl rfl)
theorem dJ8_fillNull_5 : decode cJ8_fillNull 5 = .ok (.iconst 1, 1) := dk_4 (dk_at dksJ8_fillNull_0 5 rfl rfl)
theorem dJ8_fillNull_6 : decode cJ8_fillNull 6 = .ok (.ishl, 1) := dk_120 (dk_at dksJ8_fillNull_0 6 rfl rfl)
theorem dJ8_fillNull_7 : decode cJ8_fillNull 7 = .ok (.iconst 0, 1) := dk_3 (dk_at dksJ8_fillNull_0 7 rfl rfl)
theorem dJ8_fillNull_8 : decode cJ8_fillNull 8 = .ok (.invokestatic 380, 3) := dk_184 1 124 (dk_at dksJ8_fillNull_0 8 rfl rfl)
theorem dJ8_fillNull_11 : decode cJ8_fillNull 11 = .ok (.return_, 1) := dk_177 (dk_at dksJ8_fillNull_0 11 rfl rfl)
abbrev cJ8_putCharSB : ByteArray := prog_37_method_71_code
def yJ8_putCharSB : MethodName := ⟨RJ8, "putCharSB", "([BII)V"⟩
def dkwJ8_putCharSB_0 : List UInt8 := [27, 42, 184, 0, 67, 42, 27, 28, 184, 0, 111, 177]
abbrev dktJ8_putCharSB_0 : List UInt8 := dkwJ8_putCharSB_0 ++ []
theorem dksJ8_putCharSB_0 : cJ8_putCharSB.data.toList.drop 0 = dktJ8_putCharSB_0 := by decide +kernel
theorem dJ8_putCharSB_0 : decode cJ8_putCharSB 0 = .ok (.iload_n 1, 1) := dk_27 (dk_at dksJ8_putCharSB_0 0 rfl rfl)
theorem dJ8_putCharSB_1 : decode cJ8_putCharSB 1 = .ok (.aload_n 0, 1) := dk_42 (dk_at dksJ8_putCharSB_0 1 rfl rfl)
theorem dJ8_putCharSB_2 : decode cJ8_putCharSB 2 = .ok (.invokestatic 67, 3) := dk_184 0 67 (dk_at dksJ8_putCharSB_0 2 rfl rfl)
theorem dJ8_putCharSB_5 : decode cJ8_putCharSB 5 = .ok (.aload_n 0, 1) := dk_42 (dk_at dksJ8_putCharSB_0 5 rfl rfl)
theorem dJ8_putCharSB_6 : decode cJ8_putCharSB 6 = .ok (.iload_n 1, 1) := dk_27 (dk_at dksJ8_putCharSB_0 6 rfl rfl)
theorem dJ8_putCharSB_7 : decode cJ8_putCharSB 7 = .ok (.iload_n 2, 1) := dk_28 (dk_at dksJ8_putCharSB_0 7 rfl rfl)
theorem dJ8_putCharSB_8 : decode cJ8_putCharSB 8 = .ok (.invokestatic 111, 3) := dk_184 0 111 (dk_at dksJ8_putCharSB_0 8 rfl rfl)
theorem dJ8_putCharSB_11 : decode cJ8_putCharSB 11 = .ok (.return_, 1) := dk_177 (dk_at dksJ8_putCharSB_0 11 rfl rfl)
abbrev cJ8_checkIndex : ByteArray := prog_37_method_91_code
def yJ8_checkIndex : MethodName := ⟨RJ8, "checkIndex", "(I[B)V"⟩
def dkwJ8_checkIndex_0 : List UInt8 := [26, 43, 184, 0, 48, 184, 1, 158, 177]
abbrev dktJ8_checkIndex_0 : List UInt8 := dkwJ8_checkIndex_0 ++ []
theorem dksJ8_checkIndex_0 : cJ8_checkIndex.data.toList.drop 0 = dktJ8_checkIndex_0 := by decide +kernel
theorem dJ8_checkIndex_0 : decode cJ8_checkIndex 0 = .ok (.iload_n 0, 1) := dk_26 (dk_at dksJ8_checkIndex_0 0 rfl rfl)
theorem dJ8_checkIndex_1 : decode cJ8_checkIndex 1 = .ok (.aload_n 1, 1) := dk_43 (dk_at dksJ8_checkIndex_0 1 rfl rfl)
theorem dJ8_checkIndex_2 : decode cJ8_checkIndex 2 = .ok (.invokestatic 48, 3) := dk_184 0 48 (dk_at dksJ8_checkIndex_0 2 rfl rfl)
theorem dJ8_checkIndex_5 : decode cJ8_checkIndex 5 = .ok (.invokestatic 414, 3) := dk_184 1 158 (dk_at dksJ8_checkIndex_0 5 rfl rfl)
theorem dJ8_checkIndex_8 : decode cJ8_checkIndex 8 = .ok (.return_, 1) := dk_177 (dk_at dksJ8_checkIndex_0 8 rfl rfl)
theorem q81 : (Jvm.Cond.initialized "java/lang/StringUTF16") ∈ lw_all := lw_g (lw_at lw_m1 13 rfl) rfl
theorem q255 : (Jvm.Cond.static ({ cls := "java/lang/StringUTF16", name := "newBytesFor", desc := "(I)[B" } : Jvm.MethodName)) ∈ lw_all := lw_g (lw_at lw_m1 187 rfl) rfl
theorem q256 : (Jvm.Cond.code ({ cls := "java/lang/StringUTF16", name := "newBytesFor", desc := "(I)[B" } : Jvm.MethodName) prog_37_method_2_code (1 : Nat) (Option.some (Jvm.ClassFile.FieldType.array Jvm.ClassFile.FieldType.byte))) ∈ lw_all := lw_g (lw_at lw_m1 188 rfl) rfl
theorem q257 : (Jvm.Cond.methodLink "java/lang/StringUTF16" (11 : Nat) ({ cls := "java/lang/StringUTF16", name := "newBytesLength", desc := "(I)I" } : Jvm.MethodName)) ∈ lw_all := lw_g (lw_at lw_m1 189 rfl) rfl
theorem q258 : (Jvm.Cond.static ({ cls := "java/lang/StringUTF16", name := "newBytesLength", desc := "(I)I" } : Jvm.MethodName)) ∈ lw_all := lw_g (lw_at lw_m1 190 rfl) rfl
theorem q259 : (Jvm.Cond.code ({ cls := "java/lang/StringUTF16", name := "newBytesLength", desc := "(I)I" } : Jvm.MethodName) prog_37_method_3_code (1 : Nat) (Option.some Jvm.ClassFile.FieldType.int)) ∈ lw_all := lw_g (lw_at lw_m1 191 rfl) rfl
theorem q260 : (Jvm.Cond.classLink "java/lang/StringUTF16" (17 : Nat) "java/lang/NegativeArraySizeException") ∈ lw_all := lw_g (lw_at lw_m1 192 rfl) rfl
theorem q315 : (Jvm.Cond.methodLink "java/lang/StringUTF16" (19 : Nat) ({ cls := "java/lang/NegativeArraySizeException", name := "<init>", desc := "()V" } : Jvm.MethodName)) ∈ lw_all := lw_g (lw_at lw_m2 7 rfl) rfl
theorem q338 : (Jvm.Cond.constant "java/lang/StringUTF16" (20 : Nat) (1073741823 : Int32)) ∈ lw_all := lw_g (lw_at lw_m2 30 rfl) rfl
theorem q1000 : (Jvm.Cond.static ({ cls := "java/lang/StringUTF16", name := "compareTo", desc := "([B[B)I" } : Jvm.MethodName)) ∈ lw_all := lw_g (lw_at lw_m4 212 rfl) rfl
theorem q1001 : (Jvm.Cond.code ({ cls := "java/lang/StringUTF16", name := "compareTo", desc := "([B[B)I" } : Jvm.MethodName) prog_37_method_29_code (4 : Nat) (Option.some Jvm.ClassFile.FieldType.int)) ∈ lw_all := lw_g (lw_at lw_m4 213 rfl) rfl
theorem q1002 : (Jvm.Cond.methodLink "java/lang/StringUTF16" (48 : Nat) ({ cls := "java/lang/StringUTF16", name := "length", desc := "([B)I" } : Jvm.MethodName)) ∈ lw_all := lw_g (lw_at lw_m4 214 rfl) rfl
theorem q1003 : (Jvm.Cond.static ({ cls := "java/lang/StringUTF16", name := "length", desc := "([B)I" } : Jvm.MethodName)) ∈ lw_all := lw_g (lw_at lw_m4 215 rfl) rfl
theorem q1004 : (Jvm.Cond.code ({ cls := "java/lang/StringUTF16", name := "length", desc := "([B)I" } : Jvm.MethodName) prog_37_method_6_code (1 : Nat) (Option.some Jvm.ClassFile.FieldType.int)) ∈ lw_all := lw_g (lw_at lw_m4 216 rfl) rfl
theorem q1005 : (Jvm.Cond.methodLink "java/lang/StringUTF16" (176 : Nat) ({ cls := "java/lang/StringUTF16", name := "compareValues", desc := "([B[BII)I" } : Jvm.MethodName)) ∈ lw_all := lw_g (lw_at lw_m4 217 rfl) rfl
theorem q1006 : (Jvm.Cond.static ({ cls := "java/lang/StringUTF16", name := "compareValues", desc := "([B[BII)I" } : Jvm.MethodName)) ∈ lw_all := lw_g (lw_at lw_m4 218 rfl) rfl
theorem q1007 : (Jvm.Cond.code ({ cls := "java/lang/StringUTF16", name := "compareValues", desc := "([B[BII)I" } : Jvm.MethodName) prog_37_method_31_code (8 : Nat) (Option.some Jvm.ClassFile.FieldType.int)) ∈ lw_all := lw_g (lw_at lw_m4 219 rfl) rfl
theorem q1008 : (Jvm.Cond.methodLink "java/lang/StringUTF16" (183 : Nat) ({ cls := "java/lang/Math", name := "min", desc := "(II)I" } : Jvm.MethodName)) ∈ lw_all := lw_g (lw_at lw_m4 220 rfl) rfl
theorem q1009 : (Jvm.Cond.methodLink "java/lang/StringUTF16" (71 : Nat) ({ cls := "java/lang/StringUTF16", name := "getChar", desc := "([BI)C" } : Jvm.MethodName)) ∈ lw_all := lw_g (lw_at lw_m4 221 rfl) rfl
theorem q1010 : (Jvm.Cond.static ({ cls := "java/lang/StringUTF16", name := "getChar", desc := "([BI)C" } : Jvm.MethodName)) ∈ lw_all := lw_g (lw_at lw_m4 222 rfl) rfl
theorem q1011 : (Jvm.Cond.code ({ cls := "java/lang/StringUTF16", name := "getChar", desc := "([BI)C" } : Jvm.MethodName) prog_37_method_5_code (2 : Nat) (Option.some Jvm.ClassFile.FieldType.char)) ∈ lw_all := lw_g (lw_at lw_m4 223 rfl) rfl
theorem q1012 : (Jvm.Cond.fieldLink "java/lang/StringUTF16" (44 : Nat) "java/lang/StringUTF16" "$assertionsDisabled" "Z") ∈ lw_all := lw_g (lw_at lw_m4 224 rfl) rfl
theorem q1013 : (Jvm.Cond.laysStatic "java/lang/StringUTF16" "$assertionsDisabled" "Z") ∈ lw_tbl := lw_at lw_m4 225 rfl
theorem q1014 : (Jvm.Cond.fieldLink "java/lang/StringUTF16" (59 : Nat) "java/lang/StringUTF16" "HI_BYTE_SHIFT" "I") ∈ lw_all := lw_g (lw_at lw_m4 226 rfl) rfl
theorem q1015 : (Jvm.Cond.laysStatic "java/lang/StringUTF16" "HI_BYTE_SHIFT" "I") ∈ lw_tbl := lw_at lw_m4 227 rfl
theorem q1016 : (Jvm.Cond.fieldLink "java/lang/StringUTF16" (63 : Nat) "java/lang/StringUTF16" "LO_BYTE_SHIFT" "I") ∈ lw_all := lw_g (lw_at lw_m4 228 rfl) rfl
theorem q1017 : (Jvm.Cond.laysStatic "java/lang/StringUTF16" "LO_BYTE_SHIFT" "I") ∈ lw_tbl := lw_at lw_m4 229 rfl
theorem q1030 : (Jvm.Cond.static ({ cls := "java/lang/StringUTF16", name := "compareToLatin1", desc := "([B[B)I" } : Jvm.MethodName)) ∈ lw_all := lw_g (lw_at lw_m5 2 rfl) rfl
theorem q1031 : (Jvm.Cond.code ({ cls := "java/lang/StringUTF16", name := "compareToLatin1", desc := "([B[B)I" } : Jvm.MethodName) prog_37_method_32_code (2 : Nat) (Option.some Jvm.ClassFile.FieldType.int)) ∈ lw_all := lw_g (lw_at lw_m5 3 rfl) rfl
theorem q1032 : (Jvm.Cond.methodLink "java/lang/StringUTF16" (189 : Nat) ({ cls := "java/lang/StringLatin1", name := "compareToUTF16", desc := "([B[B)I" } : Jvm.MethodName)) ∈ lw_all := lw_g (lw_at lw_m5 4 rfl) rfl
theorem q1054 : (Jvm.Cond.static ({ cls := "java/lang/StringUTF16", name := "compareTo", desc := "([B[BII)I" } : Jvm.MethodName)) ∈ lw_all := lw_g (lw_at lw_m5 26 rfl) rfl
theorem q1055 : (Jvm.Cond.code ({ cls := "java/lang/StringUTF16", name := "compareTo", desc := "([B[BII)I" } : Jvm.MethodName) prog_37_method_30_code (4 : Nat) (Option.some Jvm.ClassFile.FieldType.int)) ∈ lw_all := lw_g (lw_at lw_m5 27 rfl) rfl
theorem q1056 : (Jvm.Cond.methodLink "java/lang/StringUTF16" (180 : Nat) ({ cls := "java/lang/StringUTF16", name := "checkOffset", desc := "(I[B)V" } : Jvm.MethodName)) ∈ lw_all := lw_g (lw_at lw_m5 28 rfl) rfl
theorem q1057 : (Jvm.Cond.static ({ cls := "java/lang/StringUTF16", name := "checkOffset", desc := "(I[B)V" } : Jvm.MethodName)) ∈ lw_all := lw_g (lw_at lw_m5 29 rfl) rfl
theorem q1058 : (Jvm.Cond.code ({ cls := "java/lang/StringUTF16", name := "checkOffset", desc := "(I[B)V" } : Jvm.MethodName) prog_37_method_92_code (2 : Nat) (Option.none : Option Jvm.ClassFile.FieldType)) ∈ lw_all := lw_g (lw_at lw_m5 30 rfl) rfl
theorem q1059 : (Jvm.Cond.methodLink "java/lang/StringUTF16" (417 : Nat) ({ cls := "java/lang/String", name := "checkOffset", desc := "(II)V" } : Jvm.MethodName)) ∈ lw_all := lw_g (lw_at lw_m5 31 rfl) rfl
theorem q1072 : (Jvm.Cond.static ({ cls := "java/lang/StringUTF16", name := "compareToLatin1", desc := "([B[BII)I" } : Jvm.MethodName)) ∈ lw_all := lw_g (lw_at lw_m5 44 rfl) rfl
theorem q1073 : (Jvm.Cond.code ({ cls := "java/lang/StringUTF16", name := "compareToLatin1", desc := "([B[BII)I" } : Jvm.MethodName) prog_37_method_33_code (4 : Nat) (Option.some Jvm.ClassFile.FieldType.int)) ∈ lw_all := lw_g (lw_at lw_m5 45 rfl) rfl
theorem q1074 : (Jvm.Cond.methodLink "java/lang/StringUTF16" (193 : Nat) ({ cls := "java/lang/StringLatin1", name := "compareToUTF16", desc := "([B[BII)I" } : Jvm.MethodName)) ∈ lw_all := lw_g (lw_at lw_m5 46 rfl) rfl
theorem q1706 : (Jvm.Cond.static ({ cls := "java/lang/StringUTF16", name := "putCharsAt", desc := "([BICCCC)I" } : Jvm.MethodName)) ∈ lw_all := lw_g (lw_at lw_m7 198 rfl) rfl
theorem q1707 : (Jvm.Cond.code ({ cls := "java/lang/StringUTF16", name := "putCharsAt", desc := "([BICCCC)I" } : Jvm.MethodName) prog_37_method_81_code (7 : Nat) (Option.some Jvm.ClassFile.FieldType.int)) ∈ lw_all := lw_g (lw_at lw_m7 199 rfl) rfl
theorem q1708 : (Jvm.Cond.methodLink "java/lang/StringUTF16" (96 : Nat) ({ cls := "java/lang/StringUTF16", name := "checkBoundsBeginEnd", desc := "(II[B)V" } : Jvm.MethodName)) ∈ lw_all := lw_g (lw_at lw_m7 200 rfl) rfl
theorem q1709 : (Jvm.Cond.static ({ cls := "java/lang/StringUTF16", name := "checkBoundsBeginEnd", desc := "(II[B)V" } : Jvm.MethodName)) ∈ lw_all := lw_g (lw_at lw_m7 201 rfl) rfl
theorem q1710 : (Jvm.Cond.code ({ cls := "java/lang/StringUTF16", name := "checkBoundsBeginEnd", desc := "(II[B)V" } : Jvm.MethodName) prog_37_method_93_code (3 : Nat) (Option.none : Option Jvm.ClassFile.FieldType)) ∈ lw_all := lw_g (lw_at lw_m7 202 rfl) rfl
theorem q1711 : (Jvm.Cond.methodLink "java/lang/StringUTF16" (241 : Nat) ({ cls := "java/lang/String", name := "checkBoundsBeginEnd", desc := "(III)V" } : Jvm.MethodName)) ∈ lw_all := lw_g (lw_at lw_m7 203 rfl) rfl
theorem q1714 : (Jvm.Cond.methodLink "java/lang/StringUTF16" (111 : Nat) ({ cls := "java/lang/StringUTF16", name := "putChar", desc := "([BII)V" } : Jvm.MethodName)) ∈ lw_all := lw_g (lw_at lw_m7 206 rfl) rfl
theorem q1715 : (Jvm.Cond.static ({ cls := "java/lang/StringUTF16", name := "putChar", desc := "([BII)V" } : Jvm.MethodName)) ∈ lw_all := lw_g (lw_at lw_m7 207 rfl) rfl
theorem q1716 : (Jvm.Cond.code ({ cls := "java/lang/StringUTF16", name := "putChar", desc := "([BII)V" } : Jvm.MethodName) prog_37_method_4_code (3 : Nat) (Option.none : Option Jvm.ClassFile.FieldType)) ∈ lw_all := lw_g (lw_at lw_m7 208 rfl) rfl
theorem q1738 : (Jvm.Cond.static ({ cls := "java/lang/StringUTF16", name := "inflate", desc := "([BI[BII)V" } : Jvm.MethodName)) ∈ lw_all := lw_g (lw_at lw_m7 230 rfl) rfl
theorem q1739 : (Jvm.Cond.code ({ cls := "java/lang/StringUTF16", name := "inflate", desc := "([BI[BII)V" } : Jvm.MethodName) prog_37_method_86_code (6 : Nat) (Option.none : Option Jvm.ClassFile.FieldType)) ∈ lw_all := lw_g (lw_at lw_m7 231 rfl) rfl
theorem q1740 : (Jvm.Cond.methodLink "java/lang/StringUTF16" (173 : Nat) ({ cls := "java/lang/StringUTF16", name := "checkBoundsOffCount", desc := "(II[B)V" } : Jvm.MethodName)) ∈ lw_all := lw_g (lw_at lw_m7 232 rfl) rfl
theorem q1741 : (Jvm.Cond.static ({ cls := "java/lang/StringUTF16", name := "checkBoundsOffCount", desc := "(II[B)V" } : Jvm.MethodName)) ∈ lw_all := lw_g (lw_at lw_m7 233 rfl) rfl
theorem q1742 : (Jvm.Cond.code ({ cls := "java/lang/StringUTF16", name := "checkBoundsOffCount", desc := "(II[B)V" } : Jvm.MethodName) prog_37_method_94_code (3 : Nat) (Option.none : Option Jvm.ClassFile.FieldType)) ∈ lw_all := lw_g (lw_at lw_m7 234 rfl) rfl
theorem q1743 : (Jvm.Cond.methodLink "java/lang/StringUTF16" (419 : Nat) ({ cls := "java/lang/String", name := "checkBoundsOffCount", desc := "(III)I" } : Jvm.MethodName)) ∈ lw_all := lw_g (lw_at lw_m7 235 rfl) rfl
theorem q1773 : (Jvm.Cond.static ({ cls := "java/lang/StringUTF16", name := "getChars", desc := "(III[B)I" } : Jvm.MethodName)) ∈ lw_all := lw_g (lw_at lw_m8 25 rfl) rfl
theorem q1774 : (Jvm.Cond.code ({ cls := "java/lang/StringUTF16", name := "getChars", desc := "(III[B)I" } : Jvm.MethodName) prog_37_method_77_code (5 : Nat) (Option.some Jvm.ClassFile.FieldType.int)) ∈ lw_all := lw_g (lw_at lw_m8 26 rfl) rfl
theorem q1775 : (Jvm.Cond.methodLink "java/lang/StringUTF16" (393 : Nat) ({ cls := "java/lang/StringUTF16", name := "getChars", desc := "(II[B)I" } : Jvm.MethodName)) ∈ lw_all := lw_g (lw_at lw_m8 27 rfl) rfl
theorem q1776 : (Jvm.Cond.static ({ cls := "java/lang/StringUTF16", name := "getChars", desc := "(II[B)I" } : Jvm.MethodName)) ∈ lw_all := lw_g (lw_at lw_m8 28 rfl) rfl
theorem q1777 : (Jvm.Cond.code ({ cls := "java/lang/StringUTF16", name := "getChars", desc := "(II[B)I" } : Jvm.MethodName) prog_37_method_89_code (7 : Nat) (Option.some Jvm.ClassFile.FieldType.int)) ∈ lw_all := lw_g (lw_at lw_m8 29 rfl) rfl
theorem q1778 : (Jvm.Cond.fieldLink "java/lang/StringUTF16" (403 : Nat) "java/lang/Integer" "DigitOnes" "[B") ∈ lw_all := lw_g (lw_at lw_m8 30 rfl) rfl
theorem q1779 : (Jvm.Cond.fieldLink "java/lang/StringUTF16" (407 : Nat) "java/lang/Integer" "DigitTens" "[B") ∈ lw_all := lw_g (lw_at lw_m8 31 rfl) rfl
theorem q1817 : (Jvm.Cond.static ({ cls := "java/lang/StringUTF16", name := "compress", desc := "([BII)[B" } : Jvm.MethodName)) ∈ lw_all := lw_g (lw_at lw_m8 69 rfl) rfl
theorem q1818 : (Jvm.Cond.code ({ cls := "java/lang/StringUTF16", name := "compress", desc := "([BII)[B" } : Jvm.MethodName) prog_37_method_17_code (6 : Nat) (Option.some (Jvm.ClassFile.FieldType.array Jvm.ClassFile.FieldType.byte))) ∈ lw_all := lw_g (lw_at lw_m8 70 rfl) rfl
theorem q1819 : (Jvm.Cond.methodLink "java/lang/StringUTF16" (123 : Nat) ({ cls := "java/lang/StringUTF16", name := "compress", desc := "([BI[BII)I" } : Jvm.MethodName)) ∈ lw_all := lw_g (lw_at lw_m8 71 rfl) rfl
theorem q1820 : (Jvm.Cond.static ({ cls := "java/lang/StringUTF16", name := "compress", desc := "([BI[BII)I" } : Jvm.MethodName)) ∈ lw_all := lw_g (lw_at lw_m8 72 rfl) rfl
theorem q1821 : (Jvm.Cond.code ({ cls := "java/lang/StringUTF16", name := "compress", desc := "([BI[BII)I" } : Jvm.MethodName) prog_37_method_22_code (7 : Nat) (Option.some Jvm.ClassFile.FieldType.int)) ∈ lw_all := lw_g (lw_at lw_m8 73 rfl) rfl
theorem q1822 : (Jvm.Cond.methodLink "java/lang/StringUTF16" (126 : Nat) ({ cls := "java/util/Arrays", name := "copyOfRange", desc := "([BII)[B" } : Jvm.MethodName)) ∈ lw_all := lw_g (lw_at lw_m8 74 rfl) rfl
theorem q1824 : (Jvm.Cond.static ({ cls := "java/lang/StringUTF16", name := "coderFromArrayLen", desc := "([BI)B" } : Jvm.MethodName)) ∈ lw_all := lw_g (lw_at lw_m8 76 rfl) rfl
theorem q1825 : (Jvm.Cond.code ({ cls := "java/lang/StringUTF16", name := "coderFromArrayLen", desc := "([BI)B" } : Jvm.MethodName) prog_37_method_15_code (2 : Nat) (Option.some Jvm.ClassFile.FieldType.byte)) ∈ lw_all := lw_g (lw_at lw_m8 77 rfl) rfl
theorem q1852 : (Jvm.Cond.static ({ cls := "java/lang/StringUTF16", name := "fillNull", desc := "([BII)V" } : Jvm.MethodName)) ∈ lw_all := lw_g (lw_at lw_m8 104 rfl) rfl
theorem q1853 : (Jvm.Cond.code ({ cls := "java/lang/StringUTF16", name := "fillNull", desc := "([BII)V" } : Jvm.MethodName) prog_37_method_70_code (3 : Nat) (Option.none : Option Jvm.ClassFile.FieldType)) ∈ lw_all := lw_g (lw_at lw_m8 105 rfl) rfl
theorem q1854 : (Jvm.Cond.methodLink "java/lang/StringUTF16" (380 : Nat) ({ cls := "java/util/Arrays", name := "fill", desc := "([BIIB)V" } : Jvm.MethodName)) ∈ lw_all := lw_g (lw_at lw_m8 106 rfl) rfl
theorem q1872 : (Jvm.Cond.static ({ cls := "java/lang/StringUTF16", name := "putCharSB", desc := "([BII)V" } : Jvm.MethodName)) ∈ lw_all := lw_g (lw_at lw_m8 124 rfl) rfl
theorem q1873 : (Jvm.Cond.code ({ cls := "java/lang/StringUTF16", name := "putCharSB", desc := "([BII)V" } : Jvm.MethodName) prog_37_method_71_code (3 : Nat) (Option.none : Option Jvm.ClassFile.FieldType)) ∈ lw_all := lw_g (lw_at lw_m8 125 rfl) rfl
theorem q1874 : (Jvm.Cond.methodLink "java/lang/StringUTF16" (67 : Nat) ({ cls := "java/lang/StringUTF16", name := "checkIndex", desc := "(I[B)V" } : Jvm.MethodName)) ∈ lw_all := lw_g (lw_at lw_m8 126 rfl) rfl
theorem q1875 : (Jvm.Cond.static ({ cls := "java/lang/StringUTF16", name := "checkIndex", desc := "(I[B)V" } : Jvm.MethodName)) ∈ lw_all := lw_g (lw_at lw_m8 127 rfl) rfl
theorem q1876 : (Jvm.Cond.code ({ cls := "java/lang/StringUTF16", name := "checkIndex", desc := "(I[B)V" } : Jvm.MethodName) prog_37_method_91_code (2 : Nat) (Option.none : Option Jvm.ClassFile.FieldType)) ∈ lw_all := lw_g (lw_at lw_m8 128 rfl) rfl
theorem q1877 : (Jvm.Cond.methodLink "java/lang/StringUTF16" (414 : Nat) ({ cls := "java/lang/String", name := "checkIndex", desc := "(II)V" } : Jvm.MethodName)) ∈ lw_all := lw_g (lw_at lw_m8 129 rfl) rfl
/-! java/lang/Throwable -/
set_option maxRecDepth 100000
def RJ9 : String := "java/lang/Throwable"
def TJ9 : u_T := fun k => match k with
  | 0 => ("java/lang/Throwable", "cause", "Ljava/lang/Throwable;", false)
  | 1 => ("java/lang/Throwable", "stackTrace", "[Ljava/lang/StackTraceElement;", false)
  | 2 => ("java/lang/Throwable", "suppressedExceptions", "Ljava/util/List;", false)
  | 3 => ("java/lang/Throwable", "detailMessage", "Ljava/lang/String;", false)
  | _ => ("java/lang/Throwable", "backtrace", "Ljava/lang/Object;", false)
def tyJ9 : Nat → FieldType := fun k => match k with
  | 0 => .object "java/lang/Throwable"
  | 1 => .array (.object "java/lang/StackTraceElement")
  | 2 => .object "java/util/List"
  | 3 => .object "java/lang/String"
  | _ => .object "java/lang/Object"
abbrev wsJ90 : List Cond := u_ws RJ9 TJ9 5
theorem nmJ9 : ∀ a, a < 5 → ∀ b, b < 5 → a ≠ b → (TJ9 a).2.1 ≠ (TJ9 b).2.1 := by decide +kernel
theorem tyJ9_ok : ∀ k, k < 5 → parseFieldDescriptor (TJ9 k).2.2.1 = some (tyJ9 k) := by decide +kernel
abbrev cJ9_init : ByteArray := prog_39_method_1_code
def yJ9_init : MethodName := ⟨RJ9, "<init>", "()V"⟩
def dkwJ9_init_1 : List UInt8 := [182, 0, 27, 87, 177]
abbrev dktJ9_init_1 : List UInt8 := dkwJ9_init_1 ++ []
def dkwJ9_init_0 : List UInt8 := [42, 183, 0, 1, 42, 42, 181, 0, 7, 42, 178, 0, 13, 181, 0, 17, 42, 178, 0, 20, 181, 0, 24, 42]
abbrev dktJ9_init_0 : List UInt8 := dkwJ9_init_0 ++ dktJ9_init_1
theorem dksJ9_init_0 : cJ9_init.data.toList.drop 0 = dktJ9_init_0 := by decide +kernel
theorem dksJ9_init_1 : cJ9_init.data.toList.drop 24 = dktJ9_init_1 := dk_seg dksJ9_init_0 24 rfl rfl
theorem dJ9_init_0 : decode cJ9_init 0 = .ok (.aload_n 0, 1) := dk_42 (dk_at dksJ9_init_0 0 rfl rfl)
theorem dJ9_init_1 : decode cJ9_init 1 = .ok (.invokespecial 1, 3) := dk_183 0 1 (dk_at dksJ9_init_0 1 rfl rfl)
theorem dJ9_init_4 : decode cJ9_init 4 = .ok (.aload_n 0, 1) := dk_42 (dk_at dksJ9_init_0 4 rfl rfl)
theorem dJ9_init_5 : decode cJ9_init 5 = .ok (.aload_n 0, 1) := dk_42 (dk_at dksJ9_init_0 5 rfl rfl)
theorem dJ9_init_6 : decode cJ9_init 6 = .ok (.putfield 7, 3) := dk_181 0 7 (dk_at dksJ9_init_0 6 rfl rfl)
theorem dJ9_init_9 : decode cJ9_init 9 = .ok (.aload_n 0, 1) := dk_42 (dk_at dksJ9_init_0 9 rfl rfl)
theorem dJ9_init_10 : decode cJ9_init 10 = .ok (.getstatic 13, 3) := dk_178 0 13 (dk_at dksJ9_init_0 10 rfl rfl)
theorem dJ9_init_13 : decode cJ9_init 13 = .ok (.putfield 17, 3) := dk_181 0 17 (dk_at dksJ9_init_0 13 rfl rfl)
theorem dJ9_init_16 : decode cJ9_init 16 = .ok (.aload_n 0, 1) := dk_42 (dk_at dksJ9_init_0 16 rfl rfl)
theorem dJ9_init_17 : decode cJ9_init 17 = .ok (.getstatic 20, 3) := dk_178 0 20 (dk_at dksJ9_init_0 17 rfl rfl)
theorem dJ9_init_20 : decode cJ9_init 20 = .ok (.putfield 24, 3) := dk_181 0 24 (dk_at dksJ9_init_0 20 rfl rfl)
theorem dJ9_init_23 : decode cJ9_init 23 = .ok (.aload_n 0, 1) := dk_42 (dk_at dksJ9_init_0 23 rfl rfl)
theorem dJ9_init_24 : decode cJ9_init 24 = .ok (.invokevirtual 27, 3) := dk_182 0 27 (dk_at dksJ9_init_1 0 rfl rfl)
theorem dJ9_init_27 : decode cJ9_init 27 = .ok (.pop, 1) := dk_87 (dk_at dksJ9_init_1 3 rfl rfl)
theorem dJ9_init_28 : decode cJ9_init 28 = .ok (.return_, 1) := dk_177 (dk_at dksJ9_init_1 4 rfl rfl)
abbrev cJ9_init_2 : ByteArray := prog_39_method_5_code
def yJ9_init_2 : MethodName := ⟨RJ9, "<init>", "(Ljava/lang/String;Ljava/lang/Throwable;ZZ)V"⟩
def dkwJ9_init_2_2 : List UInt8 := [44, 181, 0, 7, 29, 154, 0, 8, 42, 1, 181, 0, 24, 177]
abbrev dktJ9_init_2_2 : List UInt8 := dkwJ9_init_2_2 ++ []
def dkwJ9_init_2_1 : List UInt8 := [21, 4, 153, 0, 11, 42, 182, 0, 27, 87, 167, 0, 8, 42, 1, 181, 0, 17, 42, 43, 181, 0, 31, 42]
abbrev dktJ9_init_2_1 : List UInt8 := dkwJ9_init_2_1 ++ dktJ9_init_2_2
def dkwJ9_init_2_0 : List UInt8 := [42, 183, 0, 1, 42, 42, 181, 0, 7, 42, 178, 0, 13, 181, 0, 17, 42, 178, 0, 20, 181, 0, 24]
abbrev dktJ9_init_2_0 : List UInt8 := dkwJ9_init_2_0 ++ dktJ9_init_2_1
theorem dksJ9_init_2_0 : cJ9_init_2.data.toList.drop 0 = dktJ9_init_2_0 := by decide +kernel
theorem dksJ9_init_2_1 : cJ9_init_2.data.toList.drop 23 = dktJ9_init_2_1 := dk_seg dksJ9_init_2_0 23 rfl rfl
theorem dksJ9_init_2_2 : cJ9_init_2.data.toList.drop 47 = dktJ9_init_2_2 := dk_seg dksJ9_init_2_1 24 rfl rfl
theorem dJ9_init_2_0 : decode cJ9_init_2 0 = .ok (.aload_n 0, 1) := dk_42 (dk_at dksJ9_init_2_0 0 rfl rfl)
theorem dJ9_init_2_1 : decode cJ9_init_2 1 = .ok (.invokespecial 1, 3) := dk_183 0 1 (dk_at dksJ9_init_2_0 1 rfl rfl)
theorem dJ9_init_2_4 : decode cJ9_init_2 4 = .ok (.aload_n 0, 1) := dk_42 (dk_at dksJ9_init_2_0 4 rfl rfl)
theorem dJ9_init_2_5 : decode cJ9_init_2 5 = .ok (.aload_n 0, 1) := dk_42 (dk_at dksJ9_init_2_0 5 rfl rfl)
theorem dJ9_init_2_6 : decode cJ9_init_2 6 = .ok (.putfield 7, 3) := dk_181 0 7 (dk_at dksJ9_init_2_0 6 rfl rfl)
theorem dJ9_init_2_9 : decode cJ9_init_2 9 = .ok (.aload_n 0, 1) := dk_42 (dk_at dksJ9_init_2_0 9 rfl rfl)
theorem dJ9_init_2_10 : decode cJ9_init_2 10 = .ok (.getstatic 13, 3) := dk_178 0 13 (dk_at dksJ9_init_2_0 10 rfl rfl)
theorem dJ9_init_2_13 : decode cJ9_init_2 13 = .ok (.putfield 17, 3) := dk_181 0 17 (dk_at dksJ9_init_2_0 13 rfl rfl)
theorem dJ9_init_2_16 : decode cJ9_init_2 16 = .ok (.aload_n 0, 1) := dk_42 (dk_at dksJ9_init_2_0 16 rfl rfl)
theorem dJ9_init_2_17 : decode cJ9_init_2 17 = .ok (.getstatic 20, 3) := dk_178 0 20 (dk_at dksJ9_init_2_0 17 rfl rfl)
theorem dJ9_init_2_20 : decode cJ9_init_2 20 = .ok (.putfield 24, 3) := dk_181 0 24 (dk_at dksJ9_init_2_0 20 rfl rfl)
theorem dJ9_init_2_23 : decode cJ9_init_2 23 = .ok (.iload 4, 2) := dk_21 4 (dk_at dksJ9_init_2_1 0 rfl rfl)
theorem dJ9_init_2_25 : decode cJ9_init_2 25 = .ok (.ifCond .eq 11, 3) := dk_153 0 11 (dk_at dksJ9_init_2_1 2 rfl rfl)
theorem dJ9_init_2_28 : decode cJ9_init_2 28 = .ok (.aload_n 0, 1) := dk_42 (dk_at dksJ9_init_2_1 5 rfl rfl)
theorem dJ9_init_2_29 : decode cJ9_init_2 29 = .ok (.invokevirtual 27, 3) := dk_182 0 27 (dk_at dksJ9_init_2_1 6 rfl rfl)
theorem dJ9_init_2_32 : decode cJ9_init_2 32 = .ok (.pop, 1) := dk_87 (dk_at dksJ9_init_2_1 9 rfl rfl)
theorem dJ9_init_2_33 : decode cJ9_init_2 33 = .ok (.goto 8, 3) := dk_167 0 8 (dk_at dksJ9_init_2_1 10 rfl rfl)
theorem dJ9_init_2_36 : decode cJ9_init_2 36 = .ok (.aload_n 0, 1) := dk_42 (dk_at dksJ9_init_2_1 13 rfl rfl)
theorem dJ9_init_2_37 : decode cJ9_init_2 37 = .ok (.aconst_null, 1) := dk_1 (dk_at dksJ9_init_2_1 14 rfl rfl)
theorem dJ9_init_2_38 : decode cJ9_init_2 38 = .ok (.putfield 17, 3) := dk_181 0 17 (dk_at dksJ9_init_2_1 15 rfl rfl)
theorem dJ9_init_2_41 : decode cJ9_init_2 41 = .ok (.aload_n 0, 1) := dk_42 (dk_at dksJ9_init_2_1 18 rfl rfl)
theorem dJ9_init_2_42 : decode cJ9_init_2 42 = .ok (.aload_n 1, 1) := dk_43 (dk_at dksJ9_init_2_1 19 rfl rfl)
theorem dJ9_init_2_43 : decode cJ9_init_2 43 = .ok (.putfield 31, 3) := dk_181 0 31 (dk_at dksJ9_init_2_1 20 rfl rfl)
theorem dJ9_init_2_46 : decode cJ9_init_2 46 = .ok (.aload_n 0, 1) := dk_42 (dk_at dksJ9_init_2_1 23 rfl rfl)
theorem dJ9_init_2_47 : decode cJ9_init_2 47 = .ok (.aload_n 2, 1) := dk_44 (dk_at dksJ9_init_2_2 0 rfl rfl)
theorem dJ9_init_2_48 : decode cJ9_init_2 48 = .ok (.putfield 7, 3) := dk_181 0 7 (dk_at dksJ9_init_2_2 1 rfl rfl)
theorem dJ9_init_2_51 : decode cJ9_init_2 51 = .ok (.iload_n 3, 1) := dk_29 (dk_at dksJ9_init_2_2 4 rfl rfl)
theorem dJ9_init_2_52 : decode cJ9_init_2 52 = .ok (.ifCond .ne 8, 3) := dk_154 0 8 (dk_at dksJ9_init_2_2 5 rfl rfl)
theorem dJ9_init_2_55 : decode cJ9_init_2 55 = .ok (.aload_n 0, 1) := dk_42 (dk_at dksJ9_init_2_2 8 rfl rfl)
theorem dJ9_init_2_56 : decode cJ9_init_2 56 = .ok (.aconst_null, 1) := dk_1 (dk_at dksJ9_init_2_2 9 rfl rfl)
theorem dJ9_init_2_57 : decode cJ9_init_2 57 = .ok (.putfield 24, 3) := dk_181 0 24 (dk_at dksJ9_init_2_2 10 rfl rfl)
theorem dJ9_init_2_60 : decode cJ9_init_2 60 = .ok (.return_, 1) := dk_177 (dk_at dksJ9_init_2_2 13 rfl rfl)
abbrev cJ9_init_3 : ByteArray := prog_39_method_2_code
def yJ9_init_3 : MethodName := ⟨RJ9, "<init>", "(Ljava/lang/String;)V"⟩
def dkwJ9_init_3_1 : List UInt8 := [182, 0, 27, 87, 42, 43, 181, 0, 31, 177]
abbrev dktJ9_init_3_1 : List UInt8 := dkwJ9_init_3_1 ++ []
def dkwJ9_init_3_0 : List UInt8 := [42, 183, 0, 1, 42, 42, 181, 0, 7, 42, 178, 0, 13, 181, 0, 17, 42, 178, 0, 20, 181, 0, 24, 42]
abbrev dktJ9_init_3_0 : List UInt8 := dkwJ9_init_3_0 ++ dktJ9_init_3_1
theorem dksJ9_init_3_0 : cJ9_init_3.data.toList.drop 0 = dktJ9_init_3_0 := by decide +kernel
theorem dksJ9_init_3_1 : cJ9_init_3.data.toList.drop 24 = dktJ9_init_3_1 := dk_seg dksJ9_init_3_0 24 rfl rfl
theorem dJ9_init_3_0 : decode cJ9_init_3 0 = .ok (.aload_n 0, 1) := dk_42 (dk_at dksJ9_init_3_0 0 rfl rfl)
theorem dJ9_init_3_1 : decode cJ9_init_3 1 = .ok (.invokespecial 1, 3) := dk_183 0 1 (dk_at dksJ9_init_3_0 1 rfl rfl)
theorem dJ9_init_3_4 : decode cJ9_init_3 4 = .ok (.aload_n 0, 1) := dk_42 (dk_at dksJ9_init_3_0 4 rfl rfl)
theorem dJ9_init_3_5 : decode cJ9_init_3 5 = .ok (.aload_n 0, 1) := dk_42 (dk_at dksJ9_init_3_0 5 rfl rfl)
theorem dJ9_init_3_6 : decode cJ9_init_3 6 = .ok (.putfield 7, 3) := dk_181 0 7 (dk_at dksJ9_init_3_0 6 rfl rfl)
theorem dJ9_init_3_9 : decode cJ9_init_3 9 = .ok (.aload_n 0, 1) := dk_42 (dk_at dksJ9_init_3_0 9 rfl rfl)
theorem dJ9_init_3_10 : decode cJ9_init_3 10 = .ok (.getstatic 13, 3) := dk_178 0 13 (dk_at dksJ9_init_3_0 10 rfl rfl)
theorem dJ9_init_3_13 : decode cJ9_init_3 13 = .ok (.putfield 17, 3) := dk_181 0 17 (dk_at dksJ9_init_3_0 13 rfl rfl)
theorem dJ9_init_3_16 : decode cJ9_init_3 16 = .ok (.aload_n 0, 1) := dk_42 (dk_at dksJ9_init_3_0 16 rfl rfl)
theorem dJ9_init_3_17 : decode cJ9_init_3 17 = .ok (.getstatic 20, 3) := dk_178 0 20 (dk_at dksJ9_init_3_0 17 rfl rfl)
theorem dJ9_init_3_20 : decode cJ9_init_3 20 = .ok (.putfield 24, 3) := dk_181 0 24 (dk_at dksJ9_init_3_0 20 rfl rfl)
theorem dJ9_init_3_23 : decode cJ9_init_3 23 = .ok (.aload_n 0, 1) := dk_42 (dk_at dksJ9_init_3_0 23 rfl rfl)
theorem dJ9_init_3_24 : decode cJ9_init_3 24 = .ok (.invokevirtual 27, 3) := dk_182 0 27 (dk_at dksJ9_init_3_1 0 rfl rfl)
theorem dJ9_init_3_27 : decode cJ9_init_3 27 = .ok (.pop, 1) := dk_87 (dk_at dksJ9_init_3_1 3 rfl rfl)
theorem dJ9_init_3_28 : decode cJ9_init_3 28 = .ok (.aload_n 0, 1) := dk_42 (dk_at dksJ9_init_3_1 4 rfl rfl)
theorem dJ9_init_3_29 : decode cJ9_init_3 29 = .ok (.aload_n 1, 1) := dk_43 (dk_at dksJ9_init_3_1 5 rfl rfl)
theorem dJ9_init_3_30 : decode cJ9_init_3 30 = .ok (.putfield 31, 3) := dk_181 0 31 (dk_at dksJ9_init_3_1 6 rfl rfl)
theorem dJ9_init_3_33 : decode cJ9_init_3 33 = .ok (.return_, 1) := dk_177 (dk_at dksJ9_init_3_1 9 rfl rfl)
theorem q82 : (Jvm.Cond.initialized "java/lang/Throwable") ∈ lw_all := lw_g (lw_at lw_m1 14 rfl) rfl
theorem q267 : (Jvm.Cond.declares ({ cls := "java/lang/Throwable", name := "<init>", desc := "()V" } : Jvm.MethodName)) ∈ lw_tbl := lw_at lw_m1 199 rfl
theorem q268 : (Jvm.Cond.declares ({ cls := "java/lang/Throwable", name := "<init>", desc := "(Ljava/lang/String;)V" } : Jvm.MethodName)) ∈ lw_tbl := lw_at lw_m1 200 rfl
theorem q272 : (Jvm.Cond.lays "java/lang/Throwable" "java/lang/Throwable" "cause" "Ljava/lang/Throwable;") ∈ lw_all := lw_g (lw_at lw_m1 204 rfl) rfl
theorem q274 : (Jvm.Cond.lays "java/lang/Throwable" "java/lang/Throwable" "stackTrace" "[Ljava/lang/StackTraceElement;") ∈ lw_all := lw_g (lw_at lw_m1 206 rfl) rfl
theorem q276 : (Jvm.Cond.lays "java/lang/Throwable" "java/lang/Throwable" "suppressedExceptions" "Ljava/util/List;") ∈ lw_all := lw_g (lw_at lw_m1 208 rfl) rfl
theorem q278 : (Jvm.Cond.lays "java/lang/Throwable" "java/lang/Throwable" "detailMessage" "Ljava/lang/String;") ∈ lw_all := lw_g (lw_at lw_m1 210 rfl) rfl
theorem q280 : (Jvm.Cond.lays "java/lang/Throwable" "java/lang/Throwable" "backtrace" "Ljava/lang/Object;") ∈ lw_all := lw_g (lw_at lw_m1 212 rfl) rfl
theorem q281 : (Jvm.Cond.fieldLink "java/lang/Throwable" (198 : Nat) "java/lang/Throwable" "backtrace" "Ljava/lang/Object;") ∈ lw_all := lw_g (lw_at lw_m1 213 rfl) rfl
theorem q282 : (Jvm.Cond.superclass "java/lang/Throwable" "java/lang/Object") ∈ lw_all := lw_g (lw_at lw_m1 214 rfl) rfl
theorem q283 : (Jvm.Cond.instanceMethod ({ cls := "java/lang/Throwable", name := "<init>", desc := "()V" } : Jvm.MethodName)) ∈ lw_all := lw_g (lw_at lw_m1 215 rfl) rfl
theorem q284 : (Jvm.Cond.code ({ cls := "java/lang/Throwable", name := "<init>", desc := "()V" } : Jvm.MethodName) prog_39_method_1_code (1 : Nat) (Option.none : Option Jvm.ClassFile.FieldType)) ∈ lw_all := lw_g (lw_at lw_m1 216 rfl) rfl
theorem q285 : (Jvm.Cond.methodLink "java/lang/Throwable" (1 : Nat) ({ cls := "java/lang/Object", name := "<init>", desc := "()V" } : Jvm.MethodName)) ∈ lw_all := lw_g (lw_at lw_m1 217 rfl) rfl
theorem q286 : (Jvm.Cond.fieldLink "java/lang/Throwable" (13 : Nat) "java/lang/Throwable" "UNASSIGNED_STACK" "[Ljava/lang/StackTraceElement;") ∈ lw_all := lw_g (lw_at lw_m1 218 rfl) rfl
theorem q287 : (Jvm.Cond.laysStatic "java/lang/Throwable" "UNASSIGNED_STACK" "[Ljava/lang/StackTraceElement;") ∈ lw_tbl := lw_at lw_m1 219 rfl
theorem q288 : (Jvm.Cond.fieldLink "java/lang/Throwable" (20 : Nat) "java/lang/Throwable" "SUPPRESSED_SENTINEL" "Ljava/util/List;") ∈ lw_all := lw_g (lw_at lw_m1 220 rfl) rfl
theorem q289 : (Jvm.Cond.laysStatic "java/lang/Throwable" "SUPPRESSED_SENTINEL" "Ljava/util/List;") ∈ lw_tbl := lw_at lw_m1 221 rfl
theorem q290 : (Jvm.Cond.methodLink "java/lang/Throwable" (27 : Nat) ({ cls := "java/lang/Throwable", name := "fillInStackTrace", desc := "()Ljava/lang/Throwable;" } : Jvm.MethodName)) ∈ lw_all := lw_g (lw_at lw_m1 222 rfl) rfl
theorem q291 : (Jvm.Cond.instanceMethod ({ cls := "java/lang/Throwable", name := "fillInStackTrace", desc := "()Ljava/lang/Throwable;" } : Jvm.MethodName)) ∈ lw_all := lw_g (lw_at lw_m1 223 rfl) rfl
theorem q292 : (Jvm.Cond.sameMethod "java/lang/Throwable" "java/lang/Throwable" "fillInStackTrace" "()Ljava/lang/Throwable;") ∈ lw_all := lw_g (lw_at lw_m1 224 rfl) rfl
theorem q305 : (Jvm.Cond.declares ({ cls := "java/lang/Throwable", name := "fillInStackTrace", desc := "()Ljava/lang/Throwable;" } : Jvm.MethodName)) ∈ lw_tbl := lw_at lw_m1 237 rfl
theorem q309 : (Jvm.Cond.codeSync ({ cls := "java/lang/Throwable", name := "fillInStackTrace", desc := "()Ljava/lang/Throwable;" } : Jvm.MethodName) prog_39_method_18_code (1 : Nat) (Option.some (Jvm.ClassFile.FieldType.object "java/lang/Throwable"))) ∈ lw_all := lw_g (lw_at lw_m2 1 rfl) rfl
theorem q310 : (Jvm.Cond.methodLink "java/lang/Throwable" (202 : Nat) ({ cls := "java/lang/Throwable", name := "fillInStackTrace", desc := "(I)Ljava/lang/Throwable;" } : Jvm.MethodName)) ∈ lw_all := lw_g (lw_at lw_m2 2 rfl) rfl
theorem q311 : (Jvm.Cond.privateMethod ({ cls := "java/lang/Throwable", name := "fillInStackTrace", desc := "(I)Ljava/lang/Throwable;" } : Jvm.MethodName)) ∈ lw_tbl := lw_at lw_m2 3 rfl
theorem q312 : (Jvm.Cond.instanceMethod ({ cls := "java/lang/Throwable", name := "fillInStackTrace", desc := "(I)Ljava/lang/Throwable;" } : Jvm.MethodName)) ∈ lw_all := lw_g (lw_at lw_m2 4 rfl) rfl
theorem q313 : (Jvm.Cond.instantiable "java/lang/Throwable" (6 : Nat)) ∈ lw_all := lw_g (lw_at lw_m2 5 rfl) rfl
theorem q314 : (Jvm.Cond.native ({ cls := "java/lang/Throwable", name := "fillInStackTrace", desc := "(I)Ljava/lang/Throwable;" } : Jvm.MethodName)) ∈ lw_all := lw_g (lw_at lw_m2 6 rfl) rfl
theorem q325 : (Jvm.Cond.fieldLink "java/lang/Throwable" (198 : Nat) "java/lang/Throwable" "backtrace" "Ljava/lang/Object;") ∈ lw_all := lw_g (lw_at lw_m2 17 rfl) rfl
theorem q326 : (Jvm.Cond.fieldLink "java/lang/Throwable" (31 : Nat) "java/lang/Throwable" "detailMessage" "Ljava/lang/String;") ∈ lw_all := lw_g (lw_at lw_m2 18 rfl) rfl
theorem q327 : (Jvm.Cond.fieldLink "java/lang/Throwable" (7 : Nat) "java/lang/Throwable" "cause" "Ljava/lang/Throwable;") ∈ lw_all := lw_g (lw_at lw_m2 19 rfl) rfl
theorem q328 : (Jvm.Cond.fieldLink "java/lang/Throwable" (17 : Nat) "java/lang/Throwable" "stackTrace" "[Ljava/lang/StackTraceElement;") ∈ lw_all := lw_g (lw_at lw_m2 20 rfl) rfl
theorem q329 : (Jvm.Cond.fieldLink "java/lang/Throwable" (24 : Nat) "java/lang/Throwable" "suppressedExceptions" "Ljava/util/List;") ∈ lw_all := lw_g (lw_at lw_m2 21 rfl) rfl
theorem q330 : (Jvm.Cond.soleField "java/lang/Throwable" "backtrace") ∈ lw_all := lw_g (lw_at lw_m2 22 rfl) rfl
theorem q331 : (Jvm.Cond.soleField "java/lang/Throwable" "detailMessage") ∈ lw_all := lw_g (lw_at lw_m2 23 rfl) rfl
theorem q332 : (Jvm.Cond.soleField "java/lang/Throwable" "cause") ∈ lw_all := lw_g (lw_at lw_m2 24 rfl) rfl
theorem q333 : (Jvm.Cond.soleField "java/lang/Throwable" "stackTrace") ∈ lw_all := lw_g (lw_at lw_m2 25 rfl) rfl
theorem q335 : (Jvm.Cond.soleField "java/lang/Throwable" "depth") ∈ lw_all := lw_g (lw_at lw_m2 27 rfl) rfl
theorem q336 : (Jvm.Cond.soleField "java/lang/Throwable" "suppressedExceptions") ∈ lw_all := lw_g (lw_at lw_m2 28 rfl) rfl
theorem q571 : (Jvm.Cond.instanceMethod ({ cls := "java/lang/Throwable", name := "<init>", desc := "(Ljava/lang/String;Ljava/lang/Throwable;ZZ)V" } : Jvm.MethodName)) ∈ lw_all := lw_g (lw_at lw_m3 23 rfl) rfl
theorem q572 : (Jvm.Cond.code ({ cls := "java/lang/Throwable", name := "<init>", desc := "(Ljava/lang/String;Ljava/lang/Throwable;ZZ)V" } : Jvm.MethodName) prog_39_method_5_code (5 : Nat) (Option.none : Option Jvm.ClassFile.FieldType)) ∈ lw_all := lw_g (lw_at lw_m3 24 rfl) rfl
theorem q1847 : (Jvm.Cond.instanceMethod ({ cls := "java/lang/Throwable", name := "<init>", desc := "(Ljava/lang/String;)V" } : Jvm.MethodName)) ∈ lw_all := lw_g (lw_at lw_m8 99 rfl) rfl
theorem q1848 : (Jvm.Cond.code ({ cls := "java/lang/Throwable", name := "<init>", desc := "(Ljava/lang/String;)V" } : Jvm.MethodName) prog_39_method_2_code (2 : Nat) (Option.none : Option Jvm.ClassFile.FieldType)) ∈ lw_all := lw_g (lw_at lw_m8 100 rfl) rfl
theorem q2344 : (Jvm.Cond.sameMethod "java/lang/Throwable" "java/lang/Throwable" "fillInStackTrace" "(I)Ljava/lang/Throwable;") ∈ lw_all := lw_g (lw_at lw_m10 116 rfl) rfl
theorem q2388 : (Jvm.Cond.castable "java/lang/Throwable" "java/lang/Object") ∈ lw_tbl := lw_at lw_m10 160 rfl
theorem in_J9 : ∀ w ∈ wsJ90, w ∈ lw_all := lw_in wsJ90 [272, 274, 276, 278, 280] (by decide +kernel) (by decide +kernel)
